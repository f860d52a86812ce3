set_option maxRecDepth 100000
def f_X0_lowest_b6 : Nat → Unit → Int64 → Int64 → Int32 → Int64 → Int64 → Option (Int64 × Unit)
  | 0 => fun _ _ _ _ _ _ => none
  | n_ + 1 => fun σ x0 x2 x4 x5 x7 =>
    if (lg_cmp x7 0) = 0 then (if x4 = 0 then (gdl x5 <| some (x0 / x5, ())) else (gdl x5 <| some (x2 / x5, ()))) else (gdl x7 <| gvl (x5 - x5 / x7 * x7) fun v1 => (f_X0_lowest_b6 n_) () x0 x2 x4 x7 v1)
def f_X0_lowest (x0 : Int64) (x2 : Int64) (x4 : Int32) : Option (Int64 × Unit) :=
  f_X0_lowest_b6 2000 () x0 x2 x4 x2 x0
abbrev rm_X0_lowest : Room := { frames := 1, cells := 0, slots := 0, locals := 12 }
set_option maxHeartbeats 4000000 in
theorem w_X0_lowest_b6 {Γ : gG} {r : Int64} {u : Unit} (X : gCX Γ cX0_lowest 11 (some .long) RX0 rm_X0_lowest) : ∀ (n_ : Nat) (σ : Unit) (x0 : Int64) (x2 : Int64) (x4 : Int32) (x5 : Int64) (x7 : Int64), f_X0_lowest_b6 n_ σ x0 x2 x4 x5 x7 = some (r, u) → gW Γ (gMQ Γ (gPl (gEo Γ) (fun _ => []) r u (gAo Γ)) 0 0) [] 11 0 0 6 [(0, .long x0), (2, .long x2), (4, .int x4), (5, .long x5), (7, .long x7)] [] := by
  intro n_
  induction n_ with
  | zero => intro σ x0 x2 x4 x5 x7 hf; cases hf
  | succ n_ ih =>
    intro σ x0 x2 x4 x5 x7 hf
    simp only [f_X0_lowest_b6] at hf
    refine g_lload X 4 dX0_lowest_6 rfl ?_
    refine g_lconst X 0 dX0_lowest_8 rfl ?_
    refine g_lcmp X dX0_lowest_9 ?_
    refine g_if_eq X 31 dX0_lowest_10 rfl hf (fun hf => ?_) (fun hf => ?_)
    · refine g_iload X 2 dX0_lowest_31 rfl ?_
      refine g_if_ne X 43 dX0_lowest_33 rfl hf (fun hf => ?_) (fun hf => ?_)
      · refine g_lload_n X 1 dX0_lowest_43 rfl ?_
        refine g_lload X 3 dX0_lowest_44 rfl ?_
        refine g_ldiv X dX0_lowest_46 hf (fun hf => ?_)
        exact g_lret X rfl dX0_lowest_47 hf
      · refine g_lload_n X 0 dX0_lowest_36 rfl ?_
        refine g_lload X 3 dX0_lowest_37 rfl ?_
        refine g_ldiv X dX0_lowest_39 hf (fun hf => ?_)
        refine g_goto X 47 dX0_lowest_40 rfl ?_
        exact g_lret X rfl dX0_lowest_47 hf
    · refine g_lload X 3 dX0_lowest_13 rfl ?_
      refine g_lload X 4 dX0_lowest_15 rfl ?_
      refine g_lrem X dX0_lowest_17 hf (fun hf => ?_)
      refine g_topl hf (fun v1 hf => ?_)
      refine g_lstore X [(9, .long v1), (0, .long x0), (2, .long x2), (4, .int x4), (5, .long x5), (7, .long x7)] dX0_lowest_18 (by decide) rfl ?_
      refine g_lload X 5 dX0_lowest_20 rfl ?_
      refine g_lstore X [(5, .long x7), (9, .long v1), (0, .long x0), (2, .long x2), (4, .int x4), (7, .long x7)] dX0_lowest_22 (by decide) rfl ?_
      refine g_lload X 1 dX0_lowest_24 rfl ?_
      refine g_lstore X [(7, .long v1), (5, .long x7), (9, .long v1), (0, .long x0), (2, .long x2), (4, .int x4)] dX0_lowest_26 (by decide) rfl ?_
      refine g_goto X 6 dX0_lowest_28 rfl ?_
      refine g_sub [3, 4, 5, 1, 0] [(0, .long x0), (2, .long x2), (4, .int x4), (5, .long x7), (7, .long v1)] rfl ?_
      exact ih () x0 x2 x4 x7 v1 hf
set_option maxHeartbeats 4000000 in
theorem m_X0_lowest (l : Launch) (E : gE) (x0 : Int64) (x2 : Int64) (x4 : Int32) (r : Int64) (u : Unit) (hf : f_X0_lowest x0 x2 x4 = some (r, u)) (sz : Nat) : Met l yX0_lowest (ws_ yX0_lowest cX0_lowest 11 (some .long)) rm_X0_lowest (gPc [.long x0, .long x2, .int x4] E [] sz) (gPl E (fun _ => []) r u (va_A [] sz)) 0 0 (va_A [] sz) := by
  refine gMet (Qc := gPl E (fun _ => []) r u) (by decide) (Nat.le_of_ble_eq_true rfl) (fun Γ X hl hE => ?_)
  subst hl; subst hE
  unfold f_X0_lowest at hf
  show gW Γ (gMQ Γ (gPl (gEo Γ) (fun _ => []) r u (gAo Γ)) 0 0) [] 11 0 0 0 [(0, .long x0), (2, .long x2), (4, .int x4)] []
  refine g_lload_n X 1 dX0_lowest_0 rfl ?_
  refine g_lstore X [(5, .long x2), (0, .long x0), (2, .long x2), (4, .int x4)] dX0_lowest_1 (by decide) rfl ?_
  refine g_lload_n X 1 dX0_lowest_3 rfl ?_
  refine g_lstore X [(7, .long x0), (5, .long x2), (0, .long x0), (2, .long x2), (4, .int x4)] dX0_lowest_4 (by decide) rfl ?_
  refine g_sub [2, 3, 4, 1, 0] [(0, .long x0), (2, .long x2), (4, .int x4), (5, .long x2), (7, .long x0)] rfl ?_
  exact w_X0_lowest_b6 X 2000 () x0 x2 x4 x2 x0 hf
def f_X0_luck_b27 (σ : gX) : Option (Int64 × gX) :=
  some (-1, σ)
def f_X0_luck (σ : gX) (x1 : Int32) (x2 : Int32) (x3 : Int32) : Option (Int64 × gX) :=
  (f_X0_in (x1.toInt64) 0 10).bind fun (r1, _) => if r1 = 0 then (f_X0_luck_b27 σ) else ((f_X0_isOne σ x2).bind fun (r3, u4) => if r3 = 0 then (f_X0_luck_b27 u4) else ((f_X0_isPart x3).bind fun (r5, _) => if r5 = 0 then (f_X0_luck_b27 u4) else ((f_X0_findOdds u4 x1 x2).bind fun u8 => (f_X0_lowest ((I_goneSum (X_xi u8))) ((I_allWays (X_xi u8))) x3).bind fun (r9, _) => some (r9, u8))))
abbrev rm_X0_luck : Room := { frames := 10, cells := 0, slots := 0, locals := 234 }
set_option maxHeartbeats 4000000 in
theorem w_X0_luck_b27 {Γ : gG} {ad : Nat → Nat} {r : Int64} {u : gX} (X : gCX Γ cX0_luck 4 (some .long) RX0 rm_X0_luck) : ∀ (σ : gX), f_X0_luck_b27 σ  = some (r, u) → gW Γ (gMQ Γ (gPl (gEo Γ) (wX (gEo Γ) ad) r u (gAo Γ)) 0 0) (wX (gEo Γ) ad σ) 4 0 0 27 [] [] := by
  intro σ  hf
  unfold f_X0_luck_b27 at hf
  refine g_ldc2 X dX0_luck_27 q736 ?_
  exact g_lret X rfl dX0_luck_30 hf
set_option maxHeartbeats 4000000 in
theorem m_X0_luck (l : Launch) (E : gE) (ad : Nat → Nat) (σ : gX) (x1 : Int32) (x2 : Int32) (x3 : Int32) (r : Int64) (u : gX) (hf : f_X0_luck σ x1 x2 x3 = some (r, u)) (sz : Nat) : Met l yX0_luck (ws_ yX0_luck cX0_luck 4 (some .long)) rm_X0_luck (gPc [.ref (ad 0), .int x1, .int x2, .int x3] E (wX E ad σ) sz) (gPl E (wX E ad) r u (va_A (wX E ad σ) sz)) 0 0 (va_A (wX E ad σ) sz) := by
  refine gMet (Qc := gPl E (wX E ad) r u) (by decide) (Nat.le_of_ble_eq_true rfl) (fun Γ X hl hE => ?_)
  subst hl; subst hE
  unfold f_X0_luck at hf
  show gW Γ (gMQ Γ (gPl (gEo Γ) (wX (gEo Γ) ad) r u (gAo Γ)) 0 0) (wX (gEo Γ) ad σ) 4 0 0 0 [(0, .ref (ad 0)), (1, .int x1), (2, .int x2), (3, .int x3)] []
  refine g_iload_n X 1 dX0_luck_0 rfl ?_
  refine g_i2l X dX0_luck_1 ?_
  refine g_lconst X 0 dX0_luck_2 rfl ?_
  refine g_ldc2 X dX0_luck_3 q702 ?_
  refine g_call0i X 3 (As := [.long (x1.toInt64), .long 0, .long 10]) (lw_S q243 q244 q60 q245) (by decide +kernel) (fun r_ u_ h_ sz_ => m_X0_in (gl Γ) (gEo Γ) (x1.toInt64) 0 10 r_ u_ h_ sz_) rfl rfl ⟨by decide, by decide⟩ rfl (Nat.le_of_ble_eq_true rfl) ⟨Nat.zero_le _, Nat.zero_le _⟩ dX0_luck_6 hf (fun r1 _ hf => ?_)
  refine g_if_eq X 27 dX0_luck_9 rfl hf (fun hf => ?_) (fun hf => ?_)
  · refine g_sub [] [] rfl ?_
    exact w_X0_luck_b27 X σ hf
  · refine g_aload_n X 0 dX0_luck_12 rfl ?_
    refine g_iload_n X 2 dX0_luck_13 rfl ?_
    refine g_callVi X 1 (As := [.int x2]) (wfc := wX (gEo Γ) ad) (lw_V q521 q523 qs12 q60 q524) (by decide +kernel) (fun r_ u_ h_ sz_ => m_X0_isOne (gl Γ) (gEo Γ) ad σ x2 r_ u_ h_ sz_) (rq := 0) rfl rfl rfl rfl rfl ⟨by decide, by decide⟩ rfl (Nat.le_of_ble_eq_true rfl) ⟨Nat.zero_le _, Nat.zero_le _⟩ [0, 1, 2, 3, 4, 5, 6, 7, 8, 9, 10, 11, 12, 13, 14, 15, 16, 17, 18, 19, 20, 21, 22, 23, 24, 25, 26, 27, 28, 29, 30] [] [0, 1, 2, 3, 4, 5, 6, 7, 8, 9, 10, 11, 12, 13, 14, 15, 16, 17, 18, 19, 20, 21, 22, 23, 24, 25, 26, 27, 28, 29, 30] (fun u4 => wX (gEo Γ) ad u4) rfl rfl rfl rfl (by decide) rfl (fun _ => rfl) dX0_luck_14 hf (fun r3 u4 _ hf => ?_)
    refine g_if_eq X 27 dX0_luck_17 rfl hf (fun hf => ?_) (fun hf => ?_)
    · refine g_sub [] [] rfl ?_
      exact w_X0_luck_b27 X u4 hf
    · refine g_iload_n X 3 dX0_luck_20 rfl ?_
      refine g_call0i X 1 (As := [.int x3]) (lw_S q579 q580 q60 q581) (by decide +kernel) (fun r_ u_ h_ sz_ => m_X0_isPart (gl Γ) (gEo Γ) x3 r_ u_ h_ sz_) rfl rfl ⟨by decide, by decide⟩ rfl (Nat.le_of_ble_eq_true rfl) ⟨Nat.zero_le _, Nat.zero_le _⟩ dX0_luck_21 hf (fun r5 _ hf => ?_)
      refine g_if_ne X 31 dX0_luck_24 rfl hf (fun hf => ?_) (fun hf => ?_)
      · refine g_aload_n X 0 dX0_luck_31 rfl ?_
        refine g_iload_n X 1 dX0_luck_32 rfl ?_
        refine g_iload_n X 2 dX0_luck_33 rfl ?_
        refine g_callVv X 2 (As := [.int x1, .int x2]) (wfc := wX (gEo Γ) ad) (lw_V q737 q739 qs23 q60 q740) (by decide +kernel) (fun u_ h_ sz_ => m_X0_findOdds (gl Γ) (gEo Γ) ad u4 x1 x2 u_ h_ sz_) (rq := 0) rfl rfl rfl rfl rfl ⟨by decide, by decide⟩ rfl (Nat.le_of_ble_eq_true rfl) ⟨Nat.zero_le _, Nat.zero_le _⟩ [0, 1, 2, 3, 4, 5, 6, 7, 8, 9, 10, 11, 12, 13, 14, 15, 16, 17, 18, 19, 20, 21, 22, 23, 24, 25, 26, 27, 28, 29, 30] [] [0, 1, 2, 3, 4, 5, 6, 7, 8, 9, 10, 11, 12, 13, 14, 15, 16, 17, 18, 19, 20, 21, 22, 23, 24, 25, 26, 27, 28, 29, 30] (fun u8 => wX (gEo Γ) ad u8) rfl rfl rfl rfl (by decide) rfl (fun _ => rfl) dX0_luck_34 hf (fun u8 _ hf => ?_)
        refine g_aload_n X 0 dX0_luck_37 rfl ?_
        refine g_get X in_X0 0 14 rfl rfl (by decide) q194 rfl dX0_luck_38 ?_
        refine g_aload_n X 0 dX0_luck_41 rfl ?_
        refine g_get X in_X0 0 16 rfl rfl (by decide) q196 rfl dX0_luck_42 ?_
        refine g_iload_n X 3 dX0_luck_45 rfl ?_
        refine g_call0l X 3 (As := [.long ((I_goneSum (X_xi u8))), .long ((I_allWays (X_xi u8))), .int x3]) (lw_S q741 q742 q60 q743) (by decide +kernel) (fun r_ u_ h_ sz_ => m_X0_lowest (gl Γ) (gEo Γ) ((I_goneSum (X_xi u8))) ((I_allWays (X_xi u8))) x3 r_ u_ h_ sz_) rfl rfl ⟨by decide, by decide⟩ rfl (Nat.le_of_ble_eq_true rfl) ⟨Nat.zero_le _, Nat.zero_le _⟩ dX0_luck_46 hf (fun r9 _ hf => ?_)
        exact g_lret X rfl dX0_luck_49 hf
      · refine g_sub [] [] rfl ?_
        exact w_X0_luck_b27 X u4 hf
def f_X0_mean_b19 (σ : gX) : Option (Int64 × gX) :=
  some (-1, σ)
def f_X0_mean (σ : gX) (x1 : Int32) (x2 : Int32) : Option (Int64 × gX) :=
  (f_X0_in (x1.toInt64) 0 10).bind fun (r1, _) => if r1 = 0 then (f_X0_mean_b19 σ) else ((f_X0_isPart x2).bind fun (r3, _) => if r3 = 0 then (f_X0_mean_b19 σ) else ((f_X0_findOdds σ x1 0).bind fun u6 => (f_X0_lowest ((I_manySum (X_xi u6))) ((I_allWays (X_xi u6))) x2).bind fun (r7, _) => some (r7, u6)))
abbrev rm_X0_mean : Room := { frames := 10, cells := 0, slots := 0, locals := 234 }
set_option maxHeartbeats 4000000 in
theorem w_X0_mean_b19 {Γ : gG} {ad : Nat → Nat} {r : Int64} {u : gX} (X : gCX Γ cX0_mean 3 (some .long) RX0 rm_X0_mean) : ∀ (σ : gX), f_X0_mean_b19 σ  = some (r, u) → gW Γ (gMQ Γ (gPl (gEo Γ) (wX (gEo Γ) ad) r u (gAo Γ)) 0 0) (wX (gEo Γ) ad σ) 3 0 0 19 [] [] := by
  intro σ  hf
  unfold f_X0_mean_b19 at hf
  refine g_ldc2 X dX0_mean_19 q736 ?_
  exact g_lret X rfl dX0_mean_22 hf
set_option maxHeartbeats 4000000 in
theorem m_X0_mean (l : Launch) (E : gE) (ad : Nat → Nat) (σ : gX) (x1 : Int32) (x2 : Int32) (r : Int64) (u : gX) (hf : f_X0_mean σ x1 x2 = some (r, u)) (sz : Nat) : Met l yX0_mean (ws_ yX0_mean cX0_mean 3 (some .long)) rm_X0_mean (gPc [.ref (ad 0), .int x1, .int x2] E (wX E ad σ) sz) (gPl E (wX E ad) r u (va_A (wX E ad σ) sz)) 0 0 (va_A (wX E ad σ) sz) := by
  refine gMet (Qc := gPl E (wX E ad) r u) (by decide) (Nat.le_of_ble_eq_true rfl) (fun Γ X hl hE => ?_)
  subst hl; subst hE
  unfold f_X0_mean at hf
  show gW Γ (gMQ Γ (gPl (gEo Γ) (wX (gEo Γ) ad) r u (gAo Γ)) 0 0) (wX (gEo Γ) ad σ) 3 0 0 0 [(0, .ref (ad 0)), (1, .int x1), (2, .int x2)] []
  refine g_iload_n X 1 dX0_mean_0 rfl ?_
  refine g_i2l X dX0_mean_1 ?_
  refine g_lconst X 0 dX0_mean_2 rfl ?_
  refine g_ldc2 X dX0_mean_3 q702 ?_
  refine g_call0i X 3 (As := [.long (x1.toInt64), .long 0, .long 10]) (lw_S q243 q244 q60 q245) (by decide +kernel) (fun r_ u_ h_ sz_ => m_X0_in (gl Γ) (gEo Γ) (x1.toInt64) 0 10 r_ u_ h_ sz_) rfl rfl ⟨by decide, by decide⟩ rfl (Nat.le_of_ble_eq_true rfl) ⟨Nat.zero_le _, Nat.zero_le _⟩ dX0_mean_6 hf (fun r1 _ hf => ?_)
  refine g_if_eq X 19 dX0_mean_9 rfl hf (fun hf => ?_) (fun hf => ?_)
  · refine g_sub [] [] rfl ?_
    exact w_X0_mean_b19 X σ hf
  · refine g_iload_n X 2 dX0_mean_12 rfl ?_
    refine g_call0i X 1 (As := [.int x2]) (lw_S q579 q580 q60 q581) (by decide +kernel) (fun r_ u_ h_ sz_ => m_X0_isPart (gl Γ) (gEo Γ) x2 r_ u_ h_ sz_) rfl rfl ⟨by decide, by decide⟩ rfl (Nat.le_of_ble_eq_true rfl) ⟨Nat.zero_le _, Nat.zero_le _⟩ dX0_mean_13 hf (fun r3 _ hf => ?_)
    refine g_if_ne X 23 dX0_mean_16 rfl hf (fun hf => ?_) (fun hf => ?_)
    · refine g_aload_n X 0 dX0_mean_23 rfl ?_
      refine g_iload_n X 1 dX0_mean_24 rfl ?_
      refine g_iconst X 0 dX0_mean_25 rfl ?_
      refine g_callVv X 2 (As := [.int x1, .int 0]) (wfc := wX (gEo Γ) ad) (lw_V q737 q739 qs23 q60 q740) (by decide +kernel) (fun u_ h_ sz_ => m_X0_findOdds (gl Γ) (gEo Γ) ad σ x1 0 u_ h_ sz_) (rq := 0) rfl rfl rfl rfl rfl ⟨by decide, by decide⟩ rfl (Nat.le_of_ble_eq_true rfl) ⟨Nat.zero_le _, Nat.zero_le _⟩ [0, 1, 2, 3, 4, 5, 6, 7, 8, 9, 10, 11, 12, 13, 14, 15, 16, 17, 18, 19, 20, 21, 22, 23, 24, 25, 26, 27, 28, 29, 30] [] [0, 1, 2, 3, 4, 5, 6, 7, 8, 9, 10, 11, 12, 13, 14, 15, 16, 17, 18, 19, 20, 21, 22, 23, 24, 25, 26, 27, 28, 29, 30] (fun u6 => wX (gEo Γ) ad u6) rfl rfl rfl rfl (by decide) rfl (fun _ => rfl) dX0_mean_26 hf (fun u6 _ hf => ?_)
      refine g_aload_n X 0 dX0_mean_29 rfl ?_
      refine g_get X in_X0 0 15 rfl rfl (by decide) q195 rfl dX0_mean_30 ?_
      refine g_aload_n X 0 dX0_mean_33 rfl ?_
      refine g_get X in_X0 0 16 rfl rfl (by decide) q196 rfl dX0_mean_34 ?_
      refine g_iload_n X 2 dX0_mean_37 rfl ?_
      refine g_call0l X 3 (As := [.long ((I_manySum (X_xi u6))), .long ((I_allWays (X_xi u6))), .int x2]) (lw_S q741 q742 q60 q743) (by decide +kernel) (fun r_ u_ h_ sz_ => m_X0_lowest (gl Γ) (gEo Γ) ((I_manySum (X_xi u6))) ((I_allWays (X_xi u6))) x2 r_ u_ h_ sz_) rfl rfl ⟨by decide, by decide⟩ rfl (Nat.le_of_ble_eq_true rfl) ⟨Nat.zero_le _, Nat.zero_le _⟩ dX0_mean_38 hf (fun r7 _ hf => ?_)
      exact g_lret X rfl dX0_mean_41 hf
    · refine g_sub [] [] rfl ?_
      exact w_X0_mean_b19 X σ hf
def f_X0_see_b56 (σ : gX) (t0 : Int32) (t1 : Int32) : Option (Int32 × gX) :=
  gst 12 (X_seen σ) t1 (vp_nar .byte (t0.toInt8.toInt32)) fun g5 => gs (X_seen_s σ g5) fun s6 => gv (((I_seenMany (X_xi s6))) + 1) fun v7 => gs (X_xi_s s6 (I_seenMany_s (X_xi s6) v7)) fun s8 => some ((I_seenMany (X_xi s8)), s8)
def f_X0_see (σ : gX) (x1 : Int32) (x2 : Int32) : Option (Int32 × gX) :=
  (f_X0_isOne σ x1).bind fun (r1, u2) => if r1 = 0 then (some ((-1), u2)) else (if ((I_seenMany (X_xi u2))) = 6 then (some ((-3), u2)) else (gst 12 (X_seen u2) ((2 : Int32) * ((I_seenMany (X_xi u2)))) (vp_nar .byte (x1.toInt8.toInt32)) fun g3 => gs (X_seen_s u2 g3) fun s4 => if x2 = 0 then (f_X0_see_b56 s4 0 (((2 : Int32) * ((I_seenMany (X_xi s4)))) + 1)) else (f_X0_see_b56 s4 1 (((2 : Int32) * ((I_seenMany (X_xi s4)))) + 1))))
abbrev rm_X0_see : Room := { frames := 3, cells := 0, slots := 0, locals := 58 }
set_option maxHeartbeats 4000000 in
theorem w_X0_see_b56 {Γ : gG} {ad : Nat → Nat} {r : Int32} {u : gX} (X : gCX Γ cX0_see 3 (some .int) RX0 rm_X0_see) : ∀ (σ : gX) (t0 : Int32) (t1 : Int32), f_X0_see_b56 σ t0 t1 = some (r, u) → gW Γ (gMQ Γ (gPi (gEo Γ) (wX (gEo Γ) ad) r u (gAo Γ)) 0 0) (wX (gEo Γ) ad σ) 3 0 0 56 [(0, .ref (ad 0))] [.int t0, .int t1, .ref (ad 23)] := by
  intro σ t0 t1 hf
  unfold f_X0_see_b56 at hf
  refine g_i2b X dX0_see_56 ?_
  refine g_bast X 23 (fun g5 => wX (gEo Γ) ad (X_seen_s σ g5)) rfl (fun _ => rfl) dX0_see_57 hf (fun g5 hf => ?_)
  refine g_gs (wX (gEo Γ) ad) hf (fun s6 hf => ?_)
  refine g_aload_n X 0 dX0_see_58 rfl ?_
  refine g_dup X dX0_see_59 rfl ?_
  refine g_get X in_X0 0 6 rfl rfl (by decide) q185 rfl dX0_see_60 ?_
  refine g_iconst X 1 dX0_see_63 rfl ?_
  refine g_iadd X dX0_see_64 ?_
  refine g_topi hf (fun v7 hf => ?_)
  refine g_put X in_X0 tyX0_ok nmX0 0 6 (wX (gEo Γ) ad (X_xi_s s6 (I_seenMany_s (X_xi s6) v7))) rfl rfl (by decide) q185 rfl rfl rfl rfl (Nat.le_of_ble_eq_true rfl) rfl dX0_see_65 ?_
  refine g_gs (wX (gEo Γ) ad) hf (fun s8 hf => ?_)
  refine g_aload_n X 0 dX0_see_68 rfl ?_
  refine g_get X in_X0 0 6 rfl rfl (by decide) q185 rfl dX0_see_69 ?_
  exact g_iret X rfl dX0_see_72 hf
set_option maxHeartbeats 4000000 in
theorem m_X0_see (l : Launch) (E : gE) (ad : Nat → Nat) (σ : gX) (x1 : Int32) (x2 : Int32) (r : Int32) (u : gX) (hf : f_X0_see σ x1 x2 = some (r, u)) (sz : Nat) : Met l yX0_see (ws_ yX0_see cX0_see 3 (some .int)) rm_X0_see (gPc [.ref (ad 0), .int x1, .int x2] E (wX E ad σ) sz) (gPi E (wX E ad) r u (va_A (wX E ad σ) sz)) 0 0 (va_A (wX E ad σ) sz) := by
  refine gMet (Qc := gPi E (wX E ad) r u) (by decide) (Nat.le_of_ble_eq_true rfl) (fun Γ X hl hE => ?_)
  subst hl; subst hE
  unfold f_X0_see at hf
  show gW Γ (gMQ Γ (gPi (gEo Γ) (wX (gEo Γ) ad) r u (gAo Γ)) 0 0) (wX (gEo Γ) ad σ) 3 0 0 0 [(0, .ref (ad 0)), (1, .int x1), (2, .int x2)] []
  refine g_aload_n X 0 dX0_see_0 rfl ?_
  refine g_iload_n X 1 dX0_see_1 rfl ?_
  refine g_callVi X 1 (As := [.int x1]) (wfc := wX (gEo Γ) ad) (lw_V q521 q523 qs12 q60 q524) (by decide +kernel) (fun r_ u_ h_ sz_ => m_X0_isOne (gl Γ) (gEo Γ) ad σ x1 r_ u_ h_ sz_) (rq := 0) rfl rfl rfl rfl rfl ⟨by decide, by decide⟩ rfl (Nat.le_of_ble_eq_true rfl) ⟨Nat.zero_le _, Nat.zero_le _⟩ [0, 1, 2, 3, 4, 5, 6, 7, 8, 9, 10, 11, 12, 13, 14, 15, 16, 17, 18, 19, 20, 21, 22, 23, 24, 25, 26, 27, 28, 29, 30] [] [0, 1, 2, 3, 4, 5, 6, 7, 8, 9, 10, 11, 12, 13, 14, 15, 16, 17, 18, 19, 20, 21, 22, 23, 24, 25, 26, 27, 28, 29, 30] (fun u2 => wX (gEo Γ) ad u2) rfl rfl rfl rfl (by decide) rfl (fun _ => rfl) dX0_see_2 hf (fun r1 u2 _ hf => ?_)
  refine g_if_ne X 10 dX0_see_5 rfl hf (fun hf => ?_) (fun hf => ?_)
  · refine g_aload_n X 0 dX0_see_10 rfl ?_
    refine g_get X in_X0 0 6 rfl rfl (by decide) q185 rfl dX0_see_11 ?_
    refine g_bipush X 6 dX0_see_14 rfl ?_
    refine g_icmp_ne X 22 dX0_see_16 rfl hf (fun hf => ?_) (fun hf => ?_)
    · refine g_aload_n X 0 dX0_see_22 rfl ?_
      refine g_get X in_X0 0 5 rfl rfl (by decide) q184 rfl dX0_see_23 ?_
      refine g_iconst X 2 dX0_see_26 rfl ?_
      refine g_aload_n X 0 dX0_see_27 rfl ?_
      refine g_get X in_X0 0 6 rfl rfl (by decide) q185 rfl dX0_see_28 ?_
      refine g_imul X dX0_see_31 ?_
      refine g_iload_n X 1 dX0_see_32 rfl ?_
      refine g_i2b X dX0_see_33 ?_
      refine g_bast X 23 (fun g3 => wX (gEo Γ) ad (X_seen_s u2 g3)) rfl (fun _ => rfl) dX0_see_34 hf (fun g3 hf => ?_)
      refine g_gs (wX (gEo Γ) ad) hf (fun s4 hf => ?_)
      refine g_aload_n X 0 dX0_see_35 rfl ?_
      refine g_get X in_X0 0 5 rfl rfl (by decide) q184 rfl dX0_see_36 ?_
      refine g_iconst X 2 dX0_see_39 rfl ?_
      refine g_aload_n X 0 dX0_see_40 rfl ?_
      refine g_get X in_X0 0 6 rfl rfl (by decide) q185 rfl dX0_see_41 ?_
      refine g_imul X dX0_see_44 ?_
      refine g_iconst X 1 dX0_see_45 rfl ?_
      refine g_iadd X dX0_see_46 ?_
      refine g_iload_n X 2 dX0_see_47 rfl ?_
      refine g_if_eq X 55 dX0_see_48 rfl hf (fun hf => ?_) (fun hf => ?_)
      · refine g_iconst X 0 dX0_see_55 rfl ?_
        refine g_sub [0] [(0, .ref (ad 0))] rfl ?_
        exact w_X0_see_b56 X s4 0 (((2 : Int32) * ((I_seenMany (X_xi s4)))) + 1) hf
      · refine g_iconst X 1 dX0_see_51 rfl ?_
        refine g_goto X 56 dX0_see_52 rfl ?_
        refine g_sub [0] [(0, .ref (ad 0))] rfl ?_
        exact w_X0_see_b56 X s4 1 (((2 : Int32) * ((I_seenMany (X_xi s4)))) + 1) hf
    · refine g_bipush X (-3) dX0_see_19 rfl ?_
      exact g_iret X rfl dX0_see_21 hf
  · refine g_iconst X (-1) dX0_see_8 rfl ?_
    exact g_iret X rfl dX0_see_9 hf
def f_X0_forget (σ : gX) (x1 : Int32) : Option (Int32 × gX) :=
  (f_X0_in (x1.toInt64) 0 (((I_seenMany (X_xi σ))).toInt64)).bind fun (r1, _) => if r1 = 0 then (some ((-1), σ)) else (gv ((I_seenMany (X_xi σ))) fun v3 => gs (X_xi_s σ (I_seenMany_s (X_xi σ) x1)) fun s4 => some (v3, s4))
abbrev rm_X0_forget : Room := { frames := 2, cells := 0, slots := 0, locals := 37 }
set_option maxHeartbeats 4000000 in
theorem m_X0_forget (l : Launch) (E : gE) (ad : Nat → Nat) (σ : gX) (x1 : Int32) (r : Int32) (u : gX) (hf : f_X0_forget σ x1 = some (r, u)) (sz : Nat) : Met l yX0_forget (ws_ yX0_forget cX0_forget 3 (some .int)) rm_X0_forget (gPc [.ref (ad 0), .int x1] E (wX E ad σ) sz) (gPi E (wX E ad) r u (va_A (wX E ad σ) sz)) 0 0 (va_A (wX E ad σ) sz) := by
  refine gMet (Qc := gPi E (wX E ad) r u) (by decide) (Nat.le_of_ble_eq_true rfl) (fun Γ X hl hE => ?_)
  subst hl; subst hE
  unfold f_X0_forget at hf
  show gW Γ (gMQ Γ (gPi (gEo Γ) (wX (gEo Γ) ad) r u (gAo Γ)) 0 0) (wX (gEo Γ) ad σ) 3 0 0 0 [(0, .ref (ad 0)), (1, .int x1)] []
  refine g_iload_n X 1 dX0_forget_0 rfl ?_
  refine g_i2l X dX0_forget_1 ?_
  refine g_lconst X 0 dX0_forget_2 rfl ?_
  refine g_aload_n X 0 dX0_forget_3 rfl ?_
  refine g_get X in_X0 0 6 rfl rfl (by decide) q185 rfl dX0_forget_4 ?_
  refine g_i2l X dX0_forget_7 ?_
  refine g_call0i X 3 (As := [.long (x1.toInt64), .long 0, .long (((I_seenMany (X_xi σ))).toInt64)]) (lw_S q243 q244 q60 q245) (by decide +kernel) (fun r_ u_ h_ sz_ => m_X0_in (gl Γ) (gEo Γ) (x1.toInt64) 0 (((I_seenMany (X_xi σ))).toInt64) r_ u_ h_ sz_) rfl rfl ⟨by decide, by decide⟩ rfl (Nat.le_of_ble_eq_true rfl) ⟨Nat.zero_le _, Nat.zero_le _⟩ dX0_forget_8 hf (fun r1 _ hf => ?_)
  refine g_if_ne X 16 dX0_forget_11 rfl hf (fun hf => ?_) (fun hf => ?_)
  · refine g_aload_n X 0 dX0_forget_16 rfl ?_
    refine g_get X in_X0 0 6 rfl rfl (by decide) q185 rfl dX0_forget_17 ?_
    refine g_topi hf (fun v3 hf => ?_)
    refine g_istore_n X [(2, .int v3), (0, .ref (ad 0)), (1, .int x1)] dX0_forget_20 (by decide) rfl ?_
    refine g_aload_n X 1 dX0_forget_21 rfl ?_
    refine g_iload_n X 2 dX0_forget_22 rfl ?_
    refine g_put X in_X0 tyX0_ok nmX0 0 6 (wX (gEo Γ) ad (X_xi_s σ (I_seenMany_s (X_xi σ) x1))) rfl rfl (by decide) q185 rfl rfl rfl rfl (Nat.le_of_ble_eq_true rfl) rfl dX0_forget_23 ?_
    refine g_gs (wX (gEo Γ) ad) hf (fun s4 hf => ?_)
    refine g_iload_n X 0 dX0_forget_26 rfl ?_
    exact g_iret X rfl dX0_forget_27 hf
  · refine g_iconst X (-1) dX0_forget_14 rfl ?_
    exact g_iret X rfl dX0_forget_15 hf
def f_X0_isSo_b83 (k36 : gX → Int32 → Int32 → Option (Int32 × gX)) (σ : gX) (x5 : Int32) (t0 : Int32) (t1 : Int32) : Option (Int32 × gX) :=
  gv (t1 &&& t0) fun v15 => gv (x5 + 1) fun v16 => k36 σ v15 v16
def f_X0_isSo_b36 : Nat → gX → Int32 → Int32 → Option (Int32 × gX)
  | 0 => fun _ _ _ => none
  | n_ + 1 => fun σ x4 x5 =>
    if ((I_seenMany (X_xi σ))) ≤ x5 then (gzr x4 σ) else (gld 12 (X_seen σ) ((2 : Int32) * x5) fun v10 => (f_X5_of (X_tried σ) v10 2).bind fun (r11, u12) => gs (X_tried_s σ u12) fun s13 => gld 12 (X_seen s13) (((2 : Int32) * x5) + 1) fun v14 => if r11 = v14 then (f_X0_isSo_b83 (f_X0_isSo_b36 n_) s13 x5 1 x4) else (f_X0_isSo_b83 (f_X0_isSo_b36 n_) s13 x5 0 x4))
def f_X0_isSo (σ : gX) (x1 : Int32) (x2 : Int32) (x3 : Int32) : Option (Int32 × gX) :=
  (f_X5_as ((X_tried σ), (X_now σ))).bind fun u2 => gs (X_now_s (X_tried_s σ u2.1) u2.2) fun s3 => (f_X5_becomes (X_tried s3) x1 x2 x3).bind fun u5 => gs (X_tried_s s3 u5) fun s6 => (f_X0_goes ((X_xi s6), (X_tried s6)) 0).bind fun u8 => gs (X_tried_s (X_xi_s s6 u8.1) u8.2) fun s9 => f_X0_isSo_b36 2000 s9 1 0
abbrev rm_X0_isSo : Room := { frames := 9, cells := 0, slots := 0, locals := 207 }
set_option maxHeartbeats 4000000 in
theorem w_X0_isSo_b83 {Γ : gG} {ad : Nat → Nat} {r : Int32} {u : gX} (X : gCX Γ cX0_isSo 6 (some .boolean) RX0 rm_X0_isSo) {k36 : gX → Int32 → Int32 → Option (Int32 × gX)} (H36 : ∀ (σ : gX) (x4 : Int32) (x5 : Int32), k36 σ x4 x5 = some (r, u) → gW Γ (gMQ Γ (gPi (gEo Γ) (wX (gEo Γ) ad) r u (gAo Γ)) 0 0) (wX (gEo Γ) ad σ) 6 0 0 36 [(0, .ref (ad 0)), (4, .int x4), (5, .int x5)] []) : ∀ (σ : gX) (x5 : Int32) (t0 : Int32) (t1 : Int32), f_X0_isSo_b83 k36 σ x5 t0 t1 = some (r, u) → gW Γ (gMQ Γ (gPi (gEo Γ) (wX (gEo Γ) ad) r u (gAo Γ)) 0 0) (wX (gEo Γ) ad σ) 6 0 0 83 [(0, .ref (ad 0)), (5, .int x5)] [.int t0, .int t1] := by
  intro σ x5 t0 t1 hf
  unfold f_X0_isSo_b83 at hf
  refine g_iand X dX0_isSo_83 ?_
  refine g_topi hf (fun v15 hf => ?_)
  refine g_istore X [(4, .int v15), (0, .ref (ad 0)), (5, .int x5)] dX0_isSo_84 (by decide) rfl ?_
  refine g_iincV X 1 2 (fun v16 => [(5, .int v16), (4, .int v15), (0, .ref (ad 0))]) dX0_isSo_86 rfl rfl (by decide) (fun _ => rfl) hf (fun v16 hf => ?_)
  refine g_goto X 36 dX0_isSo_89 rfl ?_
  refine g_sub [2, 1, 0] [(0, .ref (ad 0)), (4, .int v15), (5, .int v16)] rfl ?_
  exact H36 σ v15 v16 hf
set_option maxHeartbeats 4000000 in
theorem w_X0_isSo_b36 {Γ : gG} {ad : Nat → Nat} {r : Int32} {u : gX} (X : gCX Γ cX0_isSo 6 (some .boolean) RX0 rm_X0_isSo) : ∀ (n_ : Nat) (σ : gX) (x4 : Int32) (x5 : Int32), f_X0_isSo_b36 n_ σ x4 x5 = some (r, u) → gW Γ (gMQ Γ (gPi (gEo Γ) (wX (gEo Γ) ad) r u (gAo Γ)) 0 0) (wX (gEo Γ) ad σ) 6 0 0 36 [(0, .ref (ad 0)), (4, .int x4), (5, .int x5)] [] := by
  intro n_
  induction n_ with
  | zero => intro σ x4 x5 hf; cases hf
  | succ n_ ih =>
    intro σ x4 x5 hf
    simp only [f_X0_isSo_b36] at hf
    refine g_iload X 2 dX0_isSo_36 rfl ?_
    refine g_aload_n X 0 dX0_isSo_38 rfl ?_
    refine g_get X in_X0 0 6 rfl rfl (by decide) q185 rfl dX0_isSo_39 ?_
    refine g_icmp_ge X 92 dX0_isSo_42 rfl hf (fun hf => ?_) (fun hf => ?_)
    · refine g_iload X 1 dX0_isSo_92 rfl ?_
      exact g_zret X rfl dX0_isSo_94 hf
    · refine g_iload X 1 dX0_isSo_45 rfl ?_
      refine g_aload_n X 0 dX0_isSo_47 rfl ?_
      refine g_get X in_X0 0 2 rfl rfl (by decide) q181 rfl dX0_isSo_48 ?_
      refine g_aload_n X 0 dX0_isSo_51 rfl ?_
      refine g_get X in_X0 0 5 rfl rfl (by decide) q184 rfl dX0_isSo_52 ?_
      refine g_iconst X 2 dX0_isSo_55 rfl ?_
      refine g_iload X 2 dX0_isSo_56 rfl ?_
      refine g_imul X dX0_isSo_58 ?_
      refine g_bald X 23 rfl dX0_isSo_59 hf (fun v10 hf => ?_)
      refine g_iconst X 2 dX0_isSo_60 rfl ?_
      refine g_callVi X 2 (As := [.int v10, .int 2]) (wfc := wS (gEo Γ) (fun i => ad (i + 10))) (lw_V q525 q510 q511 q65 q512) (by decide +kernel) (fun r_ u_ h_ sz_ => m_X5_of (gl Γ) (gEo Γ) (fun i => ad (i + 10)) (X_tried σ) v10 2 r_ u_ h_ sz_) (rq := 0) rfl rfl rfl rfl rfl ⟨by decide, by decide⟩ rfl (Nat.le_of_ble_eq_true rfl) ⟨Nat.zero_le _, Nat.zero_le _⟩ [10, 11, 12, 13] [0, 1, 2, 3, 4, 5, 6, 7, 8, 9, 14, 15, 16, 17, 18, 19, 20, 21, 22, 23, 24, 25, 26, 27, 28, 29, 30] [0, 1, 2, 3, 4, 5, 6, 7, 8, 9, 27, 28, 29, 30, 10, 11, 12, 13, 14, 15, 16, 17, 18, 19, 20, 21, 22, 23, 24, 25, 26] (fun u12 => wX (gEo Γ) ad (X_tried_s σ u12)) rfl rfl rfl rfl (by decide) rfl (fun _ => rfl) dX0_isSo_61 hf (fun r11 u12 _ hf => ?_)
      refine g_gs (wX (gEo Γ) ad) hf (fun s13 hf => ?_)
      refine g_aload_n X 0 dX0_isSo_64 rfl ?_
      refine g_get X in_X0 0 5 rfl rfl (by decide) q184 rfl dX0_isSo_65 ?_
      refine g_iconst X 2 dX0_isSo_68 rfl ?_
      refine g_iload X 2 dX0_isSo_69 rfl ?_
      refine g_imul X dX0_isSo_71 ?_
      refine g_iconst X 1 dX0_isSo_72 rfl ?_
      refine g_iadd X dX0_isSo_73 ?_
      refine g_bald X 23 rfl dX0_isSo_74 hf (fun v14 hf => ?_)
      refine g_icmp_ne X 82 dX0_isSo_75 rfl hf (fun hf => ?_) (fun hf => ?_)
      · refine g_iconst X 0 dX0_isSo_82 rfl ?_
        refine g_sub [0, 2] [(0, .ref (ad 0)), (5, .int x5)] rfl ?_
        exact w_X0_isSo_b83 X ih s13 x5 0 x4 hf
      · refine g_iconst X 1 dX0_isSo_78 rfl ?_
        refine g_goto X 83 dX0_isSo_79 rfl ?_
        refine g_sub [0, 2] [(0, .ref (ad 0)), (5, .int x5)] rfl ?_
        exact w_X0_isSo_b83 X ih s13 x5 1 x4 hf
set_option maxHeartbeats 4000000 in
theorem m_X0_isSo (l : Launch) (E : gE) (ad : Nat → Nat) (σ : gX) (x1 : Int32) (x2 : Int32) (x3 : Int32) (r : Int32) (u : gX) (hf : f_X0_isSo σ x1 x2 x3 = some (r, u)) (sz : Nat) : Met l yX0_isSo (ws_ yX0_isSo cX0_isSo 6 (some .boolean)) rm_X0_isSo (gPc [.ref (ad 0), .int x1, .int x2, .int x3] E (wX E ad σ) sz) (gPi E (wX E ad) r u (va_A (wX E ad σ) sz)) 0 0 (va_A (wX E ad σ) sz) := by
  refine gMet (Qc := gPi E (wX E ad) r u) (by decide) (Nat.le_of_ble_eq_true rfl) (fun Γ X hl hE => ?_)
  subst hl; subst hE
  unfold f_X0_isSo at hf
  show gW Γ (gMQ Γ (gPi (gEo Γ) (wX (gEo Γ) ad) r u (gAo Γ)) 0 0) (wX (gEo Γ) ad σ) 6 0 0 0 [(0, .ref (ad 0)), (1, .int x1), (2, .int x2), (3, .int x3)] []
  refine g_aload_n X 0 dX0_isSo_0 rfl ?_
  refine g_get X in_X0 0 2 rfl rfl (by decide) q181 rfl dX0_isSo_1 ?_
  refine g_aload_n X 0 dX0_isSo_4 rfl ?_
  refine g_get X in_X0 0 1 rfl rfl (by decide) q180 rfl dX0_isSo_5 ?_
  refine g_callVv X 1 (As := [.ref (ad 6)]) (wfc := wSS (gEo Γ) (fun i => ad ([10, 11, 12, 13, 6, 7, 8, 9].getD i 0))) (lw_V q486 q487 q488 q65 q489) (by decide +kernel) (fun u_ h_ sz_ => m_X5_as (gl Γ) (gEo Γ) (fun i => ad ([10, 11, 12, 13, 6, 7, 8, 9].getD i 0)) ((X_tried σ), (X_now σ)) u_ h_ sz_) (rq := 0) rfl rfl rfl rfl rfl ⟨by decide, by decide⟩ rfl (Nat.le_of_ble_eq_true rfl) ⟨Nat.zero_le _, Nat.zero_le _⟩ [10, 11, 12, 13, 6, 7, 8, 9] [0, 1, 2, 3, 4, 5, 14, 15, 16, 17, 18, 19, 20, 21, 22, 23, 24, 25, 26, 27, 28, 29, 30] [0, 1, 2, 3, 4, 5, 27, 28, 29, 30, 23, 24, 25, 26, 6, 7, 8, 9, 10, 11, 12, 13, 14, 15, 16, 17, 18, 19, 20, 21, 22] (fun u2 => wX (gEo Γ) ad (X_now_s (X_tried_s σ u2.1) u2.2)) rfl rfl rfl rfl (by decide) rfl (fun _ => rfl) dX0_isSo_8 hf (fun u2 _ hf => ?_)
  refine g_gs (wX (gEo Γ) ad) hf (fun s3 hf => ?_)
  refine g_aload_n X 0 dX0_isSo_11 rfl ?_
  refine g_get X in_X0 0 2 rfl rfl (by decide) q181 rfl dX0_isSo_12 ?_
  refine g_iload_n X 1 dX0_isSo_15 rfl ?_
  refine g_iload_n X 2 dX0_isSo_16 rfl ?_
  refine g_iload_n X 3 dX0_isSo_17 rfl ?_
  refine g_callVv X 3 (As := [.int x1, .int x2, .int x3]) (wfc := wS (gEo Γ) (fun i => ad (i + 10))) (lw_V q584 q483 q484 q65 q485) (by decide +kernel) (fun u_ h_ sz_ => m_X5_becomes (gl Γ) (gEo Γ) (fun i => ad (i + 10)) (X_tried s3) x1 x2 x3 u_ h_ sz_) (rq := 0) rfl rfl rfl rfl rfl ⟨by decide, by decide⟩ rfl (Nat.le_of_ble_eq_true rfl) ⟨Nat.zero_le _, Nat.zero_le _⟩ [10, 11, 12, 13] [0, 1, 2, 3, 4, 5, 6, 7, 8, 9, 14, 15, 16, 17, 18, 19, 20, 21, 22, 23, 24, 25, 26, 27, 28, 29, 30] [0, 1, 2, 3, 4, 5, 6, 7, 8, 9, 27, 28, 29, 30, 10, 11, 12, 13, 14, 15, 16, 17, 18, 19, 20, 21, 22, 23, 24, 25, 26] (fun u5 => wX (gEo Γ) ad (X_tried_s s3 u5)) rfl rfl rfl rfl (by decide) rfl (fun _ => rfl) dX0_isSo_18 hf (fun u5 _ hf => ?_)
  refine g_gs (wX (gEo Γ) ad) hf (fun s6 hf => ?_)
  refine g_aload_n X 0 dX0_isSo_21 rfl ?_
  refine g_aload_n X 0 dX0_isSo_22 rfl ?_
  refine g_get X in_X0 0 2 rfl rfl (by decide) q181 rfl dX0_isSo_23 ?_
  refine g_iconst X 0 dX0_isSo_26 rfl ?_
  refine g_callVv X 2 (As := [.ref (ad 10), .int 0]) (wfc := wA (gEo Γ) (fun i => ad ([0, 1, 2, 3, 4, 5, 10, 11, 12, 13, 6, 10, 14, 23, 24, 25, 26].getD i 0))) (lw_V q675 q677 qs17 q60 q678) (by decide +kernel) (fun u_ h_ sz_ => m_X0_goes (gl Γ) (gEo Γ) (fun i => ad ([0, 1, 2, 3, 4, 5, 10, 11, 12, 13, 6, 10, 14, 23, 24, 25, 26].getD i 0)) ((X_xi s6), (X_tried s6)) 0 u_ h_ sz_) (rq := 0) rfl rfl rfl rfl rfl ⟨by decide, by decide⟩ rfl (Nat.le_of_ble_eq_true rfl) ⟨Nat.zero_le _, Nat.zero_le _⟩ [0, 1, 2, 3, 4, 5, 10, 11, 12, 13] [6, 7, 8, 9, 14, 15, 16, 17, 18, 19, 20, 21, 22, 23, 24, 25, 26, 27, 28, 29, 30] [21, 22, 23, 24, 25, 26, 0, 1, 2, 3, 27, 28, 29, 30, 4, 5, 6, 7, 8, 9, 10, 11, 12, 13, 14, 15, 16, 17, 18, 19, 20] (fun u8 => wX (gEo Γ) ad (X_tried_s (X_xi_s s6 u8.1) u8.2)) rfl rfl rfl rfl (by decide) rfl (fun _ => rfl) dX0_isSo_27 hf (fun u8 _ hf => ?_)
  refine g_gs (wX (gEo Γ) ad) hf (fun s9 hf => ?_)
  refine g_iconst X 1 dX0_isSo_30 rfl ?_
  refine g_istore X [(4, .int 1), (0, .ref (ad 0)), (1, .int x1), (2, .int x2), (3, .int x3)] dX0_isSo_31 (by decide) rfl ?_
  refine g_iconst X 0 dX0_isSo_33 rfl ?_
  refine g_istore X [(5, .int 0), (4, .int 1), (0, .ref (ad 0)), (1, .int x1), (2, .int x2), (3, .int x3)] dX0_isSo_34 (by decide) rfl ?_
  refine g_sub [2, 1, 0] [(0, .ref (ad 0)), (4, .int 1), (5, .int 0)] rfl ?_
  exact w_X0_isSo_b36 X 2000 s9 1 0 hf
def f_X0_which_b33 (k6 : gX → Int32 → Int32 → Int32 → Int32 → Int32 → Option (Int32 × gX)) (σ : gX) (x1 : Int32) (x2 : Int32) (x3 : Int32) (x5 : Int32) (t0 : Int32) (t1 : Int32) : Option (Int32 × gX) :=
  gv (t1 ||| t0) fun v3 => gv (x5 + 1) fun v4 => k6 σ x1 x2 x3 v3 v4
def f_X0_which_b6 : Nat → gX → Int32 → Int32 → Int32 → Int32 → Int32 → Option (Int32 × gX)
  | 0 => fun _ _ _ _ _ _ => none
  | n_ + 1 => fun σ x1 x2 x3 x4 x5 =>
    if x3 < x5 then (some (x4, σ)) else ((f_X0_isSo σ x1 x2 x5).bind fun (r1, u2) => if r1 = 0 then (f_X0_which_b33 (f_X0_which_b6 n_) u2 x1 x2 x3 x5 0 x4) else (f_X0_which_b33 (f_X0_which_b6 n_) u2 x1 x2 x3 x5 ((1 : Int32) <<< (x5 &&& 31)) x4))
def f_X0_which (σ : gX) (x1 : Int32) (x2 : Int32) (x3 : Int32) : Option (Int32 × gX) :=
  f_X0_which_b6 2000 σ x1 x2 x3 0 0
abbrev rm_X0_which : Room := { frames := 10, cells := 0, slots := 0, locals := 232 }
set_option maxHeartbeats 4000000 in
theorem w_X0_which_b33 {Γ : gG} {ad : Nat → Nat} {r : Int32} {u : gX} (X : gCX Γ cX0_which 6 (some .int) RX0 rm_X0_which) {k6 : gX → Int32 → Int32 → Int32 → Int32 → Int32 → Option (Int32 × gX)} (H6 : ∀ (σ : gX) (x1 : Int32) (x2 : Int32) (x3 : Int32) (x4 : Int32) (x5 : Int32), k6 σ x1 x2 x3 x4 x5 = some (r, u) → gW Γ (gMQ Γ (gPi (gEo Γ) (wX (gEo Γ) ad) r u (gAo Γ)) 0 0) (wX (gEo Γ) ad σ) 6 0 0 6 [(0, .ref (ad 0)), (1, .int x1), (2, .int x2), (3, .int x3), (4, .int x4), (5, .int x5)] []) : ∀ (σ : gX) (x1 : Int32) (x2 : Int32) (x3 : Int32) (x5 : Int32) (t0 : Int32) (t1 : Int32), f_X0_which_b33 k6 σ x1 x2 x3 x5 t0 t1 = some (r, u) → gW Γ (gMQ Γ (gPi (gEo Γ) (wX (gEo Γ) ad) r u (gAo Γ)) 0 0) (wX (gEo Γ) ad σ) 6 0 0 33 [(0, .ref (ad 0)), (1, .int x1), (2, .int x2), (3, .int x3), (5, .int x5)] [.int t0, .int t1] := by
  intro σ x1 x2 x3 x5 t0 t1 hf
  unfold f_X0_which_b33 at hf
  refine g_ior X dX0_which_33 ?_
  refine g_topi hf (fun v3 hf => ?_)
  refine g_istore X [(4, .int v3), (0, .ref (ad 0)), (1, .int x1), (2, .int x2), (3, .int x3), (5, .int x5)] dX0_which_34 (by decide) rfl ?_
  refine g_iincV X 1 5 (fun v4 => [(5, .int v4), (4, .int v3), (0, .ref (ad 0)), (1, .int x1), (2, .int x2), (3, .int x3)]) dX0_which_36 rfl rfl (by decide) (fun _ => rfl) hf (fun v4 hf => ?_)
  refine g_goto X 6 dX0_which_39 rfl ?_
  refine g_sub [2, 3, 4, 5, 1, 0] [(0, .ref (ad 0)), (1, .int x1), (2, .int x2), (3, .int x3), (4, .int v3), (5, .int v4)] rfl ?_
  exact H6 σ x1 x2 x3 v3 v4 hf
set_option maxHeartbeats 4000000 in
theorem w_X0_which_b6 {Γ : gG} {ad : Nat → Nat} {r : Int32} {u : gX} (X : gCX Γ cX0_which 6 (some .int) RX0 rm_X0_which) : ∀ (n_ : Nat) (σ : gX) (x1 : Int32) (x2 : Int32) (x3 : Int32) (x4 : Int32) (x5 : Int32), f_X0_which_b6 n_ σ x1 x2 x3 x4 x5 = some (r, u) → gW Γ (gMQ Γ (gPi (gEo Γ) (wX (gEo Γ) ad) r u (gAo Γ)) 0 0) (wX (gEo Γ) ad σ) 6 0 0 6 [(0, .ref (ad 0)), (1, .int x1), (2, .int x2), (3, .int x3), (4, .int x4), (5, .int x5)] [] := by
  intro n_
  induction n_ with
  | zero => intro σ x1 x2 x3 x4 x5 hf; cases hf
  | succ n_ ih =>
    intro σ x1 x2 x3 x4 x5 hf
    simp only [f_X0_which_b6] at hf
    refine g_iload X 5 dX0_which_6 rfl ?_
    refine g_iload_n X 3 dX0_which_8 rfl ?_
    refine g_icmp_gt X 42 dX0_which_9 rfl hf (fun hf => ?_) (fun hf => ?_)
    · refine g_iload X 4 dX0_which_42 rfl ?_
      exact g_iret X rfl dX0_which_44 hf
    · refine g_iload X 4 dX0_which_12 rfl ?_
      refine g_aload_n X 0 dX0_which_14 rfl ?_
      refine g_iload_n X 1 dX0_which_15 rfl ?_
      refine g_iload_n X 2 dX0_which_16 rfl ?_
      refine g_iload X 5 dX0_which_17 rfl ?_
      refine g_callVi X 3 (As := [.int x1, .int x2, .int x5]) (wfc := wX (gEo Γ) ad) (lw_V q764 q766 qs25 q60 q767) (by decide +kernel) (fun r_ u_ h_ sz_ => m_X0_isSo (gl Γ) (gEo Γ) ad σ x1 x2 x5 r_ u_ h_ sz_) (rq := 0) rfl rfl rfl rfl rfl ⟨by decide, by decide⟩ rfl (Nat.le_of_ble_eq_true rfl) ⟨Nat.zero_le _, Nat.zero_le _⟩ [0, 1, 2, 3, 4, 5, 6, 7, 8, 9, 10, 11, 12, 13, 14, 15, 16, 17, 18, 19, 20, 21, 22, 23, 24, 25, 26, 27, 28, 29, 30] [] [0, 1, 2, 3, 4, 5, 6, 7, 8, 9, 10, 11, 12, 13, 14, 15, 16, 17, 18, 19, 20, 21, 22, 23, 24, 25, 26, 27, 28, 29, 30] (fun u2 => wX (gEo Γ) ad u2) rfl rfl rfl rfl (by decide) rfl (fun _ => rfl) dX0_which_19 hf (fun r1 u2 _ hf => ?_)
      refine g_if_eq X 32 dX0_which_22 rfl hf (fun hf => ?_) (fun hf => ?_)
      · refine g_iconst X 0 dX0_which_32 rfl ?_
        refine g_sub [0, 1, 2, 3, 5] [(0, .ref (ad 0)), (1, .int x1), (2, .int x2), (3, .int x3), (5, .int x5)] rfl ?_
        exact w_X0_which_b33 X ih u2 x1 x2 x3 x5 0 x4 hf
      · refine g_iconst X 1 dX0_which_25 rfl ?_
        refine g_iload X 5 dX0_which_26 rfl ?_
        refine g_ishl X dX0_which_28 ?_
        refine g_goto X 33 dX0_which_29 rfl ?_
        refine g_sub [0, 1, 2, 3, 5] [(0, .ref (ad 0)), (1, .int x1), (2, .int x2), (3, .int x3), (5, .int x5)] rfl ?_
        exact w_X0_which_b33 X ih u2 x1 x2 x3 x5 ((1 : Int32) <<< (x5 &&& 31)) x4 hf
set_option maxHeartbeats 4000000 in
theorem m_X0_which (l : Launch) (E : gE) (ad : Nat → Nat) (σ : gX) (x1 : Int32) (x2 : Int32) (x3 : Int32) (r : Int32) (u : gX) (hf : f_X0_which σ x1 x2 x3 = some (r, u)) (sz : Nat) : Met l yX0_which (ws_ yX0_which cX0_which 6 (some .int)) rm_X0_which (gPc [.ref (ad 0), .int x1, .int x2, .int x3] E (wX E ad σ) sz) (gPi E (wX E ad) r u (va_A (wX E ad σ) sz)) 0 0 (va_A (wX E ad σ) sz) := by
  refine gMet (Qc := gPi E (wX E ad) r u) (by decide) (Nat.le_of_ble_eq_true rfl) (fun Γ X hl hE => ?_)
  subst hl; subst hE
  unfold f_X0_which at hf
  show gW Γ (gMQ Γ (gPi (gEo Γ) (wX (gEo Γ) ad) r u (gAo Γ)) 0 0) (wX (gEo Γ) ad σ) 6 0 0 0 [(0, .ref (ad 0)), (1, .int x1), (2, .int x2), (3, .int x3)] []
  refine g_iconst X 0 dX0_which_0 rfl ?_
  refine g_istore X [(4, .int 0), (0, .ref (ad 0)), (1, .int x1), (2, .int x2), (3, .int x3)] dX0_which_1 (by decide) rfl ?_
  refine g_iconst X 0 dX0_which_3 rfl ?_
  refine g_istore X [(5, .int 0), (4, .int 0), (0, .ref (ad 0)), (1, .int x1), (2, .int x2), (3, .int x3)] dX0_which_4 (by decide) rfl ?_
  refine g_sub [2, 3, 4, 5, 1, 0] [(0, .ref (ad 0)), (1, .int x1), (2, .int x2), (3, .int x3), (4, .int 0), (5, .int 0)] rfl ?_
  exact w_X0_which_b6 X 2000 σ x1 x2 x3 0 0 hf
def f_X0_kinds (σ : gX) (x1 : Int32) : Option (Int32 × gX) :=
  (f_X0_isOne σ x1).bind fun (r1, u2) => if r1 = 0 then (some ((-1), u2)) else ((f_X0_which u2 x1 0 3).bind fun (r3, u4) => some (r3, u4))
abbrev rm_X0_kinds : Room := { frames := 11, cells := 0, slots := 0, locals := 257 }
set_option maxHeartbeats 4000000 in
theorem m_X0_kinds (l : Launch) (E : gE) (ad : Nat → Nat) (σ : gX) (x1 : Int32) (r : Int32) (u : gX) (hf : f_X0_kinds σ x1 = some (r, u)) (sz : Nat) : Met l yX0_kinds (ws_ yX0_kinds cX0_kinds 2 (some .int)) rm_X0_kinds (gPc [.ref (ad 0), .int x1] E (wX E ad σ) sz) (gPi E (wX E ad) r u (va_A (wX E ad σ) sz)) 0 0 (va_A (wX E ad σ) sz) := by
  refine gMet (Qc := gPi E (wX E ad) r u) (by decide) (Nat.le_of_ble_eq_true rfl) (fun Γ X hl hE => ?_)
  subst hl; subst hE
  unfold f_X0_kinds at hf
  show gW Γ (gMQ Γ (gPi (gEo Γ) (wX (gEo Γ) ad) r u (gAo Γ)) 0 0) (wX (gEo Γ) ad σ) 2 0 0 0 [(0, .ref (ad 0)), (1, .int x1)] []
  refine g_aload_n X 0 dX0_kinds_0 rfl ?_
  refine g_iload_n X 1 dX0_kinds_1 rfl ?_
  refine g_callVi X 1 (As := [.int x1]) (wfc := wX (gEo Γ) ad) (lw_V q521 q523 qs12 q60 q524) (by decide +kernel) (fun r_ u_ h_ sz_ => m_X0_isOne (gl Γ) (gEo Γ) ad σ x1 r_ u_ h_ sz_) (rq := 0) rfl rfl rfl rfl rfl ⟨by decide, by decide⟩ rfl (Nat.le_of_ble_eq_true rfl) ⟨Nat.zero_le _, Nat.zero_le _⟩ [0, 1, 2, 3, 4, 5, 6, 7, 8, 9, 10, 11, 12, 13, 14, 15, 16, 17, 18, 19, 20, 21, 22, 23, 24, 25, 26, 27, 28, 29, 30] [] [0, 1, 2, 3, 4, 5, 6, 7, 8, 9, 10, 11, 12, 13, 14, 15, 16, 17, 18, 19, 20, 21, 22, 23, 24, 25, 26, 27, 28, 29, 30] (fun u2 => wX (gEo Γ) ad u2) rfl rfl rfl rfl (by decide) rfl (fun _ => rfl) dX0_kinds_2 hf (fun r1 u2 _ hf => ?_)
  refine g_if_eq X 18 dX0_kinds_5 rfl hf (fun hf => ?_) (fun hf => ?_)
  · refine g_iconst X (-1) dX0_kinds_18 rfl ?_
    exact g_iret X rfl dX0_kinds_19 hf
  · refine g_aload_n X 0 dX0_kinds_8 rfl ?_
    refine g_iload_n X 1 dX0_kinds_9 rfl ?_
    refine g_iconst X 0 dX0_kinds_10 rfl ?_
    refine g_iconst X 3 dX0_kinds_11 rfl ?_
    refine g_callVi X 3 (As := [.int x1, .int 0, .int 3]) (wfc := wX (gEo Γ) ad) (lw_V q760 q762 qs24 q60 q763) (by decide +kernel) (fun r_ u_ h_ sz_ => m_X0_which (gl Γ) (gEo Γ) ad u2 x1 0 3 r_ u_ h_ sz_) (rq := 0) rfl rfl rfl rfl rfl ⟨by decide, by decide⟩ rfl (Nat.le_of_ble_eq_true rfl) ⟨Nat.zero_le _, Nat.zero_le _⟩ [0, 1, 2, 3, 4, 5, 6, 7, 8, 9, 10, 11, 12, 13, 14, 15, 16, 17, 18, 19, 20, 21, 22, 23, 24, 25, 26, 27, 28, 29, 30] [] [0, 1, 2, 3, 4, 5, 6, 7, 8, 9, 10, 11, 12, 13, 14, 15, 16, 17, 18, 19, 20, 21, 22, 23, 24, 25, 26, 27, 28, 29, 30] (fun u4 => wX (gEo Γ) ad u4) rfl rfl rfl rfl (by decide) rfl (fun _ => rfl) dX0_kinds_12 hf (fun r3 u4 _ hf => ?_)
    refine g_goto X 19 dX0_kinds_15 rfl ?_
    exact g_iret X rfl dX0_kinds_19 hf
def f_X0_sorrows (σ : gX) (x1 : Int32) : Option (Int32 × gX) :=
  (f_X0_isOne σ x1).bind fun (r1, u2) => if r1 = 0 then (some ((-1), u2)) else ((f_X0_which u2 x1 1 20).bind fun (r3, u4) => some (r3, u4))
abbrev rm_X0_sorrows : Room := { frames := 11, cells := 0, slots := 0, locals := 257 }
set_option maxHeartbeats 4000000 in
theorem m_X0_sorrows (l : Launch) (E : gE) (ad : Nat → Nat) (σ : gX) (x1 : Int32) (r : Int32) (u : gX) (hf : f_X0_sorrows σ x1 = some (r, u)) (sz : Nat) : Met l yX0_sorrows (ws_ yX0_sorrows cX0_sorrows 2 (some .int)) rm_X0_sorrows (gPc [.ref (ad 0), .int x1] E (wX E ad σ) sz) (gPi E (wX E ad) r u (va_A (wX E ad σ) sz)) 0 0 (va_A (wX E ad σ) sz) := by
  refine gMet (Qc := gPi E (wX E ad) r u) (by decide) (Nat.le_of_ble_eq_true rfl) (fun Γ X hl hE => ?_)
  subst hl; subst hE
  unfold f_X0_sorrows at hf
  show gW Γ (gMQ Γ (gPi (gEo Γ) (wX (gEo Γ) ad) r u (gAo Γ)) 0 0) (wX (gEo Γ) ad σ) 2 0 0 0 [(0, .ref (ad 0)), (1, .int x1)] []
  refine g_aload_n X 0 dX0_sorrows_0 rfl ?_
  refine g_iload_n X 1 dX0_sorrows_1 rfl ?_
  refine g_callVi X 1 (As := [.int x1]) (wfc := wX (gEo Γ) ad) (lw_V q521 q523 qs12 q60 q524) (by decide +kernel) (fun r_ u_ h_ sz_ => m_X0_isOne (gl Γ) (gEo Γ) ad σ x1 r_ u_ h_ sz_) (rq := 0) rfl rfl rfl rfl rfl ⟨by decide, by decide⟩ rfl (Nat.le_of_ble_eq_true rfl) ⟨Nat.zero_le _, Nat.zero_le _⟩ [0, 1, 2, 3, 4, 5, 6, 7, 8, 9, 10, 11, 12, 13, 14, 15, 16, 17, 18, 19, 20, 21, 22, 23, 24, 25, 26, 27, 28, 29, 30] [] [0, 1, 2, 3, 4, 5, 6, 7, 8, 9, 10, 11, 12, 13, 14, 15, 16, 17, 18, 19, 20, 21, 22, 23, 24, 25, 26, 27, 28, 29, 30] (fun u2 => wX (gEo Γ) ad u2) rfl rfl rfl rfl (by decide) rfl (fun _ => rfl) dX0_sorrows_2 hf (fun r1 u2 _ hf => ?_)
  refine g_if_eq X 19 dX0_sorrows_5 rfl hf (fun hf => ?_) (fun hf => ?_)
  · refine g_iconst X (-1) dX0_sorrows_19 rfl ?_
    exact g_iret X rfl dX0_sorrows_20 hf
  · refine g_aload_n X 0 dX0_sorrows_8 rfl ?_
    refine g_iload_n X 1 dX0_sorrows_9 rfl ?_
    refine g_iconst X 1 dX0_sorrows_10 rfl ?_
    refine g_bipush X 20 dX0_sorrows_11 rfl ?_
    refine g_callVi X 3 (As := [.int x1, .int 1, .int 20]) (wfc := wX (gEo Γ) ad) (lw_V q760 q762 qs24 q60 q763) (by decide +kernel) (fun r_ u_ h_ sz_ => m_X0_which (gl Γ) (gEo Γ) ad u2 x1 1 20 r_ u_ h_ sz_) (rq := 0) rfl rfl rfl rfl rfl ⟨by decide, by decide⟩ rfl (Nat.le_of_ble_eq_true rfl) ⟨Nat.zero_le _, Nat.zero_le _⟩ [0, 1, 2, 3, 4, 5, 6, 7, 8, 9, 10, 11, 12, 13, 14, 15, 16, 17, 18, 19, 20, 21, 22, 23, 24, 25, 26, 27, 28, 29, 30] [] [0, 1, 2, 3, 4, 5, 6, 7, 8, 9, 10, 11, 12, 13, 14, 15, 16, 17, 18, 19, 20, 21, 22, 23, 24, 25, 26, 27, 28, 29, 30] (fun u4 => wX (gEo Γ) ad u4) rfl rfl rfl rfl (by decide) rfl (fun _ => rfl) dX0_sorrows_13 hf (fun r3 u4 _ hf => ?_)
    refine g_goto X 20 dX0_sorrows_16 rfl ?_
    exact g_iret X rfl dX0_sorrows_20 hf
def f_X0_ask_b91 (k36 : gX → Int32 → Int32 → Int32 → Int32 → Int32 → Int32 → Option (Int32 × gX)) (k54 : gX → Int32 → Int32 → Int32 → Int32 → Int32 → Int32 → Int32 → Int32 → Option (Int32 × gX)) (σ : gX) (x1 : Int32) (x2 : Int32) (x3 : Int32) (x4 : Int32) (x5 : Int32) (x6 : Int32) (x8 : Int32) (t0 : Int32) (t1 : Int32) : Option (Int32 × gX) :=
  gv (t1 + t0) fun v17 => gv (x8 + 1) fun v18 => k54 σ x1 x2 x3 x4 x5 x6 v17 v18
def f_X0_ask_b90 (k36 : gX → Int32 → Int32 → Int32 → Int32 → Int32 → Int32 → Option (Int32 × gX)) (k54 : gX → Int32 → Int32 → Int32 → Int32 → Int32 → Int32 → Int32 → Int32 → Option (Int32 × gX)) (σ : gX) (x1 : Int32) (x2 : Int32) (x3 : Int32) (x4 : Int32) (x5 : Int32) (x6 : Int32) (x8 : Int32) (t0 : Int32) : Option (Int32 × gX) :=
  f_X0_ask_b91 k36 k54 σ x1 x2 x3 x4 x5 x6 x8 0 t0
def f_X0_ask_b125 (k36 : gX → Int32 → Int32 → Int32 → Int32 → Int32 → Int32 → Option (Int32 × gX)) (σ : gX) (x1 : Int32) (x2 : Int32) (x3 : Int32) (x4 : Int32) (x6 : Int32) (x8 : Int32) (t0 : Int32) : Option (Int32 × gX) :=
  gv (if x8 < x4 then x8 else x4) fun v15 => gv (x6 + 1) fun v16 => k36 σ x1 x2 x3 v15 t0 v16
def f_X0_ask_b54 (k36 : gX → Int32 → Int32 → Int32 → Int32 → Int32 → Int32 → Option (Int32 × gX)) : Nat → gX → Int32 → Int32 → Int32 → Int32 → Int32 → Int32 → Int32 → Int32 → Option (Int32 × gX)
  | 0 => fun _ _ _ _ _ _ _ _ _ => none
  | n_ + 1 => fun σ x1 x2 x3 x4 x5 x6 x7 x8 =>
    if 20 < x8 then (gv (if x7 < (x3 - x7) then (x3 - x7) else x7) fun v9 => if x4 ≤ v9 then (f_X0_ask_b125 k36 σ x1 x2 x3 x4 x6 v9 x5) else (f_X0_ask_b125 k36 σ x1 x2 x3 x4 x6 v9 x6)) else ((f_X0_isSo σ x1 1 x8).bind fun (r10, u11) => if r10 = 0 then (f_X0_ask_b90 k36 (f_X0_ask_b54 k36 n_) u11 x1 x2 x3 x4 x5 x6 x8 x7) else ((f_X5_waits (X_tried u11) x6).bind fun (r12, u13) => gs (X_tried_s u11 u13) fun s14 => if r12 = 0 then (f_X0_ask_b91 k36 (f_X0_ask_b54 k36 n_) s14 x1 x2 x3 x4 x5 x6 x8 1 x7) else (f_X0_ask_b90 k36 (f_X0_ask_b54 k36 n_) s14 x1 x2 x3 x4 x5 x6 x8 x7)))
def f_X0_ask_b36 : Nat → gX → Int32 → Int32 → Int32 → Int32 → Int32 → Int32 → Option (Int32 × gX)
  | 0 => fun _ _ _ _ _ _ _ => none
  | n_ + 1 => fun σ x1 x2 x3 x4 x5 x6 =>
    if ((S_people (X_now σ))) ≤ x6 then (if x5 = (-4) then (some ((-4), σ)) else (if x2 = 0 then (some (x5, σ)) else (some (x4, σ)))) else (f_X0_ask_b54 (f_X0_ask_b36 n_) 2000 σ x1 x2 x3 x4 x5 x6 0 0)
def f_X0_ask (σ : gX) (x1 : Int32) (x2 : Int32) : Option (Int32 × gX) :=
  (f_X0_isOne σ x1).bind fun (r1, u2) => if r1 = 0 then (some ((-1), u2)) else ((f_X0_isPart x2).bind fun (r3, _) => if r3 = 0 then (some ((-1), u2)) else ((f_X0_sorrows u2 x1).bind fun (r5, u6) => (f_J7_bitCount r5).bind fun (r7, _) => f_X0_ask_b36 2000 u6 x1 x2 r7 r7 (-4) 0))
abbrev rm_X0_ask : Room := { frames := 12, cells := 0, slots := 0, locals := 278 }
set_option maxHeartbeats 4000000 in
theorem w_X0_ask_b91 {Γ : gG} {ad : Nat → Nat} {r : Int32} {u : gX} (X : gCX Γ cX0_ask 9 (some .int) RX0 rm_X0_ask) {k36 : gX → Int32 → Int32 → Int32 → Int32 → Int32 → Int32 → Option (Int32 × gX)} (H36 : ∀ (σ : gX) (x1 : Int32) (x2 : Int32) (x3 : Int32) (x4 : Int32) (x5 : Int32) (x6 : Int32), k36 σ x1 x2 x3 x4 x5 x6 = some (r, u) → gW Γ (gMQ Γ (gPi (gEo Γ) (wX (gEo Γ) ad) r u (gAo Γ)) 0 0) (wX (gEo Γ) ad σ) 9 0 0 36 [(0, .ref (ad 0)), (1, .int x1), (2, .int x2), (3, .int x3), (4, .int x4), (5, .int x5), (6, .int x6)] []) {k54 : gX → Int32 → Int32 → Int32 → Int32 → Int32 → Int32 → Int32 → Int32 → Option (Int32 × gX)} (H54 : ∀ (σ : gX) (x1 : Int32) (x2 : Int32) (x3 : Int32) (x4 : Int32) (x5 : Int32) (x6 : Int32) (x7 : Int32) (x8 : Int32), k54 σ x1 x2 x3 x4 x5 x6 x7 x8 = some (r, u) → gW Γ (gMQ Γ (gPi (gEo Γ) (wX (gEo Γ) ad) r u (gAo Γ)) 0 0) (wX (gEo Γ) ad σ) 9 0 0 54 [(0, .ref (ad 0)), (1, .int x1), (2, .int x2), (3, .int x3), (4, .int x4), (5, .int x5), (6, .int x6), (7, .int x7), (8, .int x8)] []) : ∀ (σ : gX) (x1 : Int32) (x2 : Int32) (x3 : Int32) (x4 : Int32) (x5 : Int32) (x6 : Int32) (x8 : Int32) (t0 : Int32) (t1 : Int32), f_X0_ask_b91 k36 k54 σ x1 x2 x3 x4 x5 x6 x8 t0 t1 = some (r, u) → gW Γ (gMQ Γ (gPi (gEo Γ) (wX (gEo Γ) ad) r u (gAo Γ)) 0 0) (wX (gEo Γ) ad σ) 9 0 0 91 [(0, .ref (ad 0)), (1, .int x1), (2, .int x2), (3, .int x3), (4, .int x4), (5, .int x5), (6, .int x6), (8, .int x8)] [.int t0, .int t1] := by
  intro σ x1 x2 x3 x4 x5 x6 x8 t0 t1 hf
  unfold f_X0_ask_b91 at hf
  refine g_iadd X dX0_ask_91 ?_
  refine g_topi hf (fun v17 hf => ?_)
  refine g_istore X [(7, .int v17), (0, .ref (ad 0)), (1, .int x1), (2, .int x2), (3, .int x3), (4, .int x4), (5, .int x5), (6, .int x6), (8, .int x8)] dX0_ask_92 (by decide) rfl ?_
  refine g_iincV X 1 8 (fun v18 => [(8, .int v18), (7, .int v17), (0, .ref (ad 0)), (1, .int x1), (2, .int x2), (3, .int x3), (4, .int x4), (5, .int x5), (6, .int x6)]) dX0_ask_94 rfl rfl (by decide) (fun _ => rfl) hf (fun v18 hf => ?_)
  refine g_goto X 54 dX0_ask_97 rfl ?_
  refine g_sub [2, 3, 4, 5, 6, 7, 8, 1, 0] [(0, .ref (ad 0)), (1, .int x1), (2, .int x2), (3, .int x3), (4, .int x4), (5, .int x5), (6, .int x6), (7, .int v17), (8, .int v18)] rfl ?_
  exact H54 σ x1 x2 x3 x4 x5 x6 v17 v18 hf
set_option maxHeartbeats 4000000 in
theorem w_X0_ask_b90 {Γ : gG} {ad : Nat → Nat} {r : Int32} {u : gX} (X : gCX Γ cX0_ask 9 (some .int) RX0 rm_X0_ask) {k36 : gX → Int32 → Int32 → Int32 → Int32 → Int32 → Int32 → Option (Int32 × gX)} (H36 : ∀ (σ : gX) (x1 : Int32) (x2 : Int32) (x3 : Int32) (x4 : Int32) (x5 : Int32) (x6 : Int32), k36 σ x1 x2 x3 x4 x5 x6 = some (r, u) → gW Γ (gMQ Γ (gPi (gEo Γ) (wX (gEo Γ) ad) r u (gAo Γ)) 0 0) (wX (gEo Γ) ad σ) 9 0 0 36 [(0, .ref (ad 0)), (1, .int x1), (2, .int x2), (3, .int x3), (4, .int x4), (5, .int x5), (6, .int x6)] []) {k54 : gX → Int32 → Int32 → Int32 → Int32 → Int32 → Int32 → Int32 → Int32 → Option (Int32 × gX)} (H54 : ∀ (σ : gX) (x1 : Int32) (x2 : Int32) (x3 : Int32) (x4 : Int32) (x5 : Int32) (x6 : Int32) (x7 : Int32) (x8 : Int32), k54 σ x1 x2 x3 x4 x5 x6 x7 x8 = some (r, u) → gW Γ (gMQ Γ (gPi (gEo Γ) (wX (gEo Γ) ad) r u (gAo Γ)) 0 0) (wX (gEo Γ) ad σ) 9 0 0 54 [(0, .ref (ad 0)), (1, .int x1), (2, .int x2), (3, .int x3), (4, .int x4), (5, .int x5), (6, .int x6), (7, .int x7), (8, .int x8)] []) : ∀ (σ : gX) (x1 : Int32) (x2 : Int32) (x3 : Int32) (x4 : Int32) (x5 : Int32) (x6 : Int32) (x8 : Int32) (t0 : Int32), f_X0_ask_b90 k36 k54 σ x1 x2 x3 x4 x5 x6 x8 t0 = some (r, u) → gW Γ (gMQ Γ (gPi (gEo Γ) (wX (gEo Γ) ad) r u (gAo Γ)) 0 0) (wX (gEo Γ) ad σ) 9 0 0 90 [(0, .ref (ad 0)), (1, .int x1), (2, .int x2), (3, .int x3), (4, .int x4), (5, .int x5), (6, .int x6), (8, .int x8)] [.int t0] := by
  intro σ x1 x2 x3 x4 x5 x6 x8 t0 hf
  unfold f_X0_ask_b90 at hf
  refine g_iconst X 0 dX0_ask_90 rfl ?_
  exact w_X0_ask_b91 X H36 H54 σ x1 x2 x3 x4 x5 x6 x8 0 t0 hf
set_option maxHeartbeats 4000000 in
theorem w_X0_ask_b125 {Γ : gG} {ad : Nat → Nat} {r : Int32} {u : gX} (X : gCX Γ cX0_ask 9 (some .int) RX0 rm_X0_ask) {k36 : gX → Int32 → Int32 → Int32 → Int32 → Int32 → Int32 → Option (Int32 × gX)} (H36 : ∀ (σ : gX) (x1 : Int32) (x2 : Int32) (x3 : Int32) (x4 : Int32) (x5 : Int32) (x6 : Int32), k36 σ x1 x2 x3 x4 x5 x6 = some (r, u) → gW Γ (gMQ Γ (gPi (gEo Γ) (wX (gEo Γ) ad) r u (gAo Γ)) 0 0) (wX (gEo Γ) ad σ) 9 0 0 36 [(0, .ref (ad 0)), (1, .int x1), (2, .int x2), (3, .int x3), (4, .int x4), (5, .int x5), (6, .int x6)] []) : ∀ (σ : gX) (x1 : Int32) (x2 : Int32) (x3 : Int32) (x4 : Int32) (x6 : Int32) (x8 : Int32) (t0 : Int32), f_X0_ask_b125 k36 σ x1 x2 x3 x4 x6 x8 t0 = some (r, u) → gW Γ (gMQ Γ (gPi (gEo Γ) (wX (gEo Γ) ad) r u (gAo Γ)) 0 0) (wX (gEo Γ) ad σ) 9 0 0 125 [(0, .ref (ad 0)), (1, .int x1), (2, .int x2), (3, .int x3), (4, .int x4), (6, .int x6), (8, .int x8)] [.int t0] := by
  intro σ x1 x2 x3 x4 x6 x8 t0 hf
  unfold f_X0_ask_b125 at hf
  refine g_istore X [(5, .int t0), (0, .ref (ad 0)), (1, .int x1), (2, .int x2), (3, .int x3), (4, .int x4), (6, .int x6), (8, .int x8)] dX0_ask_125 (by decide) rfl ?_
  refine g_iload X 5 dX0_ask_127 rfl ?_
  refine g_iload X 7 dX0_ask_129 rfl ?_
  refine g_min X q777 q621 q76 q622 (by decide) (Nat.le_of_ble_eq_true rfl) (by decide) dX0_ask_131 ?_
  refine g_topi hf (fun v15 hf => ?_)
  refine g_istore X [(4, .int v15), (5, .int t0), (0, .ref (ad 0)), (1, .int x1), (2, .int x2), (3, .int x3), (6, .int x6), (8, .int x8)] dX0_ask_134 (by decide) rfl ?_
  refine g_iincV X 1 6 (fun v16 => [(6, .int v16), (4, .int v15), (5, .int t0), (0, .ref (ad 0)), (1, .int x1), (2, .int x2), (3, .int x3), (8, .int x8)]) dX0_ask_136 rfl rfl (by decide) (fun _ => rfl) hf (fun v16 hf => ?_)
  refine g_goto X 36 dX0_ask_139 rfl ?_
  refine g_sub [3, 4, 5, 6, 1, 2, 0] [(0, .ref (ad 0)), (1, .int x1), (2, .int x2), (3, .int x3), (4, .int v15), (5, .int t0), (6, .int v16)] rfl ?_
  exact H36 σ x1 x2 x3 v15 t0 v16 hf
set_option maxHeartbeats 4000000 in
theorem w_X0_ask_b54 {Γ : gG} {ad : Nat → Nat} {r : Int32} {u : gX} (X : gCX Γ cX0_ask 9 (some .int) RX0 rm_X0_ask) {k36 : gX → Int32 → Int32 → Int32 → Int32 → Int32 → Int32 → Option (Int32 × gX)} (H36 : ∀ (σ : gX) (x1 : Int32) (x2 : Int32) (x3 : Int32) (x4 : Int32) (x5 : Int32) (x6 : Int32), k36 σ x1 x2 x3 x4 x5 x6 = some (r, u) → gW Γ (gMQ Γ (gPi (gEo Γ) (wX (gEo Γ) ad) r u (gAo Γ)) 0 0) (wX (gEo Γ) ad σ) 9 0 0 36 [(0, .ref (ad 0)), (1, .int x1), (2, .int x2), (3, .int x3), (4, .int x4), (5, .int x5), (6, .int x6)] []) : ∀ (n_ : Nat) (σ : gX) (x1 : Int32) (x2 : Int32) (x3 : Int32) (x4 : Int32) (x5 : Int32) (x6 : Int32) (x7 : Int32) (x8 : Int32), f_X0_ask_b54 k36 n_ σ x1 x2 x3 x4 x5 x6 x7 x8 = some (r, u) → gW Γ (gMQ Γ (gPi (gEo Γ) (wX (gEo Γ) ad) r u (gAo Γ)) 0 0) (wX (gEo Γ) ad σ) 9 0 0 54 [(0, .ref (ad 0)), (1, .int x1), (2, .int x2), (3, .int x3), (4, .int x4), (5, .int x5), (6, .int x6), (7, .int x7), (8, .int x8)] [] := by
  intro n_
  induction n_ with
  | zero => intro σ x1 x2 x3 x4 x5 x6 x7 x8 hf; cases hf
  | succ n_ ih =>
    intro σ x1 x2 x3 x4 x5 x6 x7 x8 hf
    simp only [f_X0_ask_b54] at hf
    refine g_iload X 8 dX0_ask_54 rfl ?_
    refine g_bipush X 20 dX0_ask_56 rfl ?_
    refine g_icmp_gt X 100 dX0_ask_58 rfl hf (fun hf => ?_) (fun hf => ?_)
    · refine g_iload X 7 dX0_ask_100 rfl ?_
      refine g_iload_n X 3 dX0_ask_102 rfl ?_
      refine g_iload X 7 dX0_ask_103 rfl ?_
      refine g_isub X dX0_ask_105 ?_
      refine g_max X q727 q480 q76 q481 (by decide) (Nat.le_of_ble_eq_true rfl) (by decide) dX0_ask_106 ?_
      refine g_topi hf (fun v9 hf => ?_)
      refine g_istore X [(8, .int v9), (0, .ref (ad 0)), (1, .int x1), (2, .int x2), (3, .int x3), (4, .int x4), (5, .int x5), (6, .int x6), (7, .int x7)] dX0_ask_109 (by decide) rfl ?_
      refine g_iload X 0 dX0_ask_111 rfl ?_
      refine g_iload X 5 dX0_ask_113 rfl ?_
      refine g_icmp_ge X 123 dX0_ask_115 rfl hf (fun hf => ?_) (fun hf => ?_)
      · refine g_iload X 6 dX0_ask_123 rfl ?_
        refine g_sub [1, 2, 3, 4, 5, 7, 0] [(0, .ref (ad 0)), (1, .int x1), (2, .int x2), (3, .int x3), (4, .int x4), (6, .int x6), (8, .int v9)] rfl ?_
        exact w_X0_ask_b125 X H36 σ x1 x2 x3 x4 x6 v9 x5 hf
      · refine g_iload X 7 dX0_ask_118 rfl ?_
        refine g_goto X 125 dX0_ask_120 rfl ?_
        refine g_sub [1, 2, 3, 4, 5, 7, 0] [(0, .ref (ad 0)), (1, .int x1), (2, .int x2), (3, .int x3), (4, .int x4), (6, .int x6), (8, .int v9)] rfl ?_
        exact w_X0_ask_b125 X H36 σ x1 x2 x3 x4 x6 v9 x6 hf
    · refine g_iload X 7 dX0_ask_61 rfl ?_
      refine g_aload_n X 0 dX0_ask_63 rfl ?_
      refine g_iload_n X 1 dX0_ask_64 rfl ?_
      refine g_iconst X 1 dX0_ask_65 rfl ?_
      refine g_iload X 8 dX0_ask_66 rfl ?_
      refine g_callVi X 3 (As := [.int x1, .int 1, .int x8]) (wfc := wX (gEo Γ) ad) (lw_V q764 q766 qs25 q60 q767) (by decide +kernel) (fun r_ u_ h_ sz_ => m_X0_isSo (gl Γ) (gEo Γ) ad σ x1 1 x8 r_ u_ h_ sz_) (rq := 0) rfl rfl rfl rfl rfl ⟨by decide, by decide⟩ rfl (Nat.le_of_ble_eq_true rfl) ⟨Nat.zero_le _, Nat.zero_le _⟩ [0, 1, 2, 3, 4, 5, 6, 7, 8, 9, 10, 11, 12, 13, 14, 15, 16, 17, 18, 19, 20, 21, 22, 23, 24, 25, 26, 27, 28, 29, 30] [] [0, 1, 2, 3, 4, 5, 6, 7, 8, 9, 10, 11, 12, 13, 14, 15, 16, 17, 18, 19, 20, 21, 22, 23, 24, 25, 26, 27, 28, 29, 30] (fun u11 => wX (gEo Γ) ad u11) rfl rfl rfl rfl (by decide) rfl (fun _ => rfl) dX0_ask_68 hf (fun r10 u11 _ hf => ?_)
      refine g_if_eq X 90 dX0_ask_71 rfl hf (fun hf => ?_) (fun hf => ?_)
      · refine g_sub [0, 1, 2, 3, 4, 5, 6, 8] [(0, .ref (ad 0)), (1, .int x1), (2, .int x2), (3, .int x3), (4, .int x4), (5, .int x5), (6, .int x6), (8, .int x8)] rfl ?_
        exact w_X0_ask_b90 X H36 ih u11 x1 x2 x3 x4 x5 x6 x8 x7 hf
      · refine g_aload_n X 0 dX0_ask_74 rfl ?_
        refine g_get X in_X0 0 2 rfl rfl (by decide) q181 rfl dX0_ask_75 ?_
        refine g_iload X 6 dX0_ask_78 rfl ?_
        refine g_callVi X 1 (As := [.int x6]) (wfc := wS (gEo Γ) (fun i => ad (i + 10))) (lw_V q611 q506 q507 q65 q508) (by decide +kernel) (fun r_ u_ h_ sz_ => m_X5_waits (gl Γ) (gEo Γ) (fun i => ad (i + 10)) (X_tried u11) x6 r_ u_ h_ sz_) (rq := 0) rfl rfl rfl rfl rfl ⟨by decide, by decide⟩ rfl (Nat.le_of_ble_eq_true rfl) ⟨Nat.zero_le _, Nat.zero_le _⟩ [10, 11, 12, 13] [0, 1, 2, 3, 4, 5, 6, 7, 8, 9, 14, 15, 16, 17, 18, 19, 20, 21, 22, 23, 24, 25, 26, 27, 28, 29, 30] [0, 1, 2, 3, 4, 5, 6, 7, 8, 9, 27, 28, 29, 30, 10, 11, 12, 13, 14, 15, 16, 17, 18, 19, 20, 21, 22, 23, 24, 25, 26] (fun u13 => wX (gEo Γ) ad (X_tried_s u11 u13)) rfl rfl rfl rfl (by decide) rfl (fun _ => rfl) dX0_ask_80 hf (fun r12 u13 _ hf => ?_)
        refine g_gs (wX (gEo Γ) ad) hf (fun s14 hf => ?_)
        refine g_if_ne X 90 dX0_ask_83 rfl hf (fun hf => ?_) (fun hf => ?_)
        · refine g_sub [0, 1, 2, 3, 4, 5, 6, 8] [(0, .ref (ad 0)), (1, .int x1), (2, .int x2), (3, .int x3), (4, .int x4), (5, .int x5), (6, .int x6), (8, .int x8)] rfl ?_
          exact w_X0_ask_b90 X H36 ih s14 x1 x2 x3 x4 x5 x6 x8 x7 hf
        · refine g_iconst X 1 dX0_ask_86 rfl ?_
          refine g_goto X 91 dX0_ask_87 rfl ?_
          refine g_sub [0, 1, 2, 3, 4, 5, 6, 8] [(0, .ref (ad 0)), (1, .int x1), (2, .int x2), (3, .int x3), (4, .int x4), (5, .int x5), (6, .int x6), (8, .int x8)] rfl ?_
          exact w_X0_ask_b91 X H36 ih s14 x1 x2 x3 x4 x5 x6 x8 1 x7 hf
set_option maxHeartbeats 4000000 in
theorem w_X0_ask_b36 {Γ : gG} {ad : Nat → Nat} {r : Int32} {u : gX} (X : gCX Γ cX0_ask 9 (some .int) RX0 rm_X0_ask) : ∀ (n_ : Nat) (σ : gX) (x1 : Int32) (x2 : Int32) (x3 : Int32) (x4 : Int32) (x5 : Int32) (x6 : Int32), f_X0_ask_b36 n_ σ x1 x2 x3 x4 x5 x6 = some (r, u) → gW Γ (gMQ Γ (gPi (gEo Γ) (wX (gEo Γ) ad) r u (gAo Γ)) 0 0) (wX (gEo Γ) ad σ) 9 0 0 36 [(0, .ref (ad 0)), (1, .int x1), (2, .int x2), (3, .int x3), (4, .int x4), (5, .int x5), (6, .int x6)] [] := by
  intro n_
  induction n_ with
  | zero => intro σ x1 x2 x3 x4 x5 x6 hf; cases hf
  | succ n_ ih =>
    intro σ x1 x2 x3 x4 x5 x6 hf
    simp only [f_X0_ask_b36] at hf
    refine g_iload X 6 dX0_ask_36 rfl ?_
    refine g_aload_n X 0 dX0_ask_38 rfl ?_
    refine g_get X in_X0 0 1 rfl rfl (by decide) q180 rfl dX0_ask_39 ?_
    refine g_getN X in_X5 6 0 rfl rfl (by decide) 0 rfl rfl dX0_ask_42 ?_
    refine g_icmp_ge X 142 dX0_ask_45 rfl hf (fun hf => ?_) (fun hf => ?_)
    · refine g_iload X 5 dX0_ask_142 rfl ?_
      refine g_bipush X (-4) dX0_ask_144 rfl ?_
      refine g_icmp_ne X 154 dX0_ask_146 rfl hf (fun hf => ?_) (fun hf => ?_)
      · refine g_iload_n X 2 dX0_ask_154 rfl ?_
        refine g_if_ne X 163 dX0_ask_155 rfl hf (fun hf => ?_) (fun hf => ?_)
        · refine g_iload X 4 dX0_ask_163 rfl ?_
          exact g_iret X rfl dX0_ask_165 hf
        · refine g_iload X 5 dX0_ask_158 rfl ?_
          refine g_goto X 165 dX0_ask_160 rfl ?_
          exact g_iret X rfl dX0_ask_165 hf
      · refine g_bipush X (-4) dX0_ask_149 rfl ?_
        refine g_goto X 165 dX0_ask_151 rfl ?_
        exact g_iret X rfl dX0_ask_165 hf
    · refine g_iconst X 0 dX0_ask_48 rfl ?_
      refine g_istore X [(7, .int 0), (0, .ref (ad 0)), (1, .int x1), (2, .int x2), (3, .int x3), (4, .int x4), (5, .int x5), (6, .int x6)] dX0_ask_49 (by decide) rfl ?_
      refine g_iconst X 0 dX0_ask_51 rfl ?_
      refine g_istore X [(8, .int 0), (7, .int 0), (0, .ref (ad 0)), (1, .int x1), (2, .int x2), (3, .int x3), (4, .int x4), (5, .int x5), (6, .int x6)] dX0_ask_52 (by decide) rfl ?_
      refine g_sub [2, 3, 4, 5, 6, 7, 8, 1, 0] [(0, .ref (ad 0)), (1, .int x1), (2, .int x2), (3, .int x3), (4, .int x4), (5, .int x5), (6, .int x6), (7, .int 0), (8, .int 0)] rfl ?_
      exact w_X0_ask_b54 X ih 2000 σ x1 x2 x3 x4 x5 x6 0 0 hf
set_option maxHeartbeats 4000000 in
theorem m_X0_ask (l : Launch) (E : gE) (ad : Nat → Nat) (σ : gX) (x1 : Int32) (x2 : Int32) (r : Int32) (u : gX) (hf : f_X0_ask σ x1 x2 = some (r, u)) (sz : Nat) : Met l yX0_ask (ws_ yX0_ask cX0_ask 9 (some .int)) rm_X0_ask (gPc [.ref (ad 0), .int x1, .int x2] E (wX E ad σ) sz) (gPi E (wX E ad) r u (va_A (wX E ad σ) sz)) 0 0 (va_A (wX E ad σ) sz) := by
  refine gMet (Qc := gPi E (wX E ad) r u) (by decide) (Nat.le_of_ble_eq_true rfl) (fun Γ X hl hE => ?_)
  subst hl; subst hE
  unfold f_X0_ask at hf
  show gW Γ (gMQ Γ (gPi (gEo Γ) (wX (gEo Γ) ad) r u (gAo Γ)) 0 0) (wX (gEo Γ) ad σ) 9 0 0 0 [(0, .ref (ad 0)), (1, .int x1), (2, .int x2)] []
  refine g_aload_n X 0 dX0_ask_0 rfl ?_
  refine g_iload_n X 1 dX0_ask_1 rfl ?_
  refine g_callVi X 1 (As := [.int x1]) (wfc := wX (gEo Γ) ad) (lw_V q521 q523 qs12 q60 q524) (by decide +kernel) (fun r_ u_ h_ sz_ => m_X0_isOne (gl Γ) (gEo Γ) ad σ x1 r_ u_ h_ sz_) (rq := 0) rfl rfl rfl rfl rfl ⟨by decide, by decide⟩ rfl (Nat.le_of_ble_eq_true rfl) ⟨Nat.zero_le _, Nat.zero_le _⟩ [0, 1, 2, 3, 4, 5, 6, 7, 8, 9, 10, 11, 12, 13, 14, 15, 16, 17, 18, 19, 20, 21, 22, 23, 24, 25, 26, 27, 28, 29, 30] [] [0, 1, 2, 3, 4, 5, 6, 7, 8, 9, 10, 11, 12, 13, 14, 15, 16, 17, 18, 19, 20, 21, 22, 23, 24, 25, 26, 27, 28, 29, 30] (fun u2 => wX (gEo Γ) ad u2) rfl rfl rfl rfl (by decide) rfl (fun _ => rfl) dX0_ask_2 hf (fun r1 u2 _ hf => ?_)
  refine g_if_eq X 15 dX0_ask_5 rfl hf (fun hf => ?_) (fun hf => ?_)
  · refine g_iconst X (-1) dX0_ask_15 rfl ?_
    exact g_iret X rfl dX0_ask_16 hf
  · refine g_iload_n X 2 dX0_ask_8 rfl ?_
    refine g_call0i X 1 (As := [.int x2]) (lw_S q579 q580 q60 q581) (by decide +kernel) (fun r_ u_ h_ sz_ => m_X0_isPart (gl Γ) (gEo Γ) x2 r_ u_ h_ sz_) rfl rfl ⟨by decide, by decide⟩ rfl (Nat.le_of_ble_eq_true rfl) ⟨Nat.zero_le _, Nat.zero_le _⟩ dX0_ask_9 hf (fun r3 _ hf => ?_)
    refine g_if_ne X 17 dX0_ask_12 rfl hf (fun hf => ?_) (fun hf => ?_)
    · refine g_aload_n X 0 dX0_ask_17 rfl ?_
      refine g_iload_n X 1 dX0_ask_18 rfl ?_
      refine g_callVi X 1 (As := [.int x1]) (wfc := wX (gEo Γ) ad) (lw_V q776 q769 q770 q60 q771) (by decide +kernel) (fun r_ u_ h_ sz_ => m_X0_sorrows (gl Γ) (gEo Γ) ad u2 x1 r_ u_ h_ sz_) (rq := 0) rfl rfl rfl rfl rfl ⟨by decide, by decide⟩ rfl (Nat.le_of_ble_eq_true rfl) ⟨Nat.zero_le _, Nat.zero_le _⟩ [0, 1, 2, 3, 4, 5, 6, 7, 8, 9, 10, 11, 12, 13, 14, 15, 16, 17, 18, 19, 20, 21, 22, 23, 24, 25, 26, 27, 28, 29, 30] [] [0, 1, 2, 3, 4, 5, 6, 7, 8, 9, 10, 11, 12, 13, 14, 15, 16, 17, 18, 19, 20, 21, 22, 23, 24, 25, 26, 27, 28, 29, 30] (fun u6 => wX (gEo Γ) ad u6) rfl rfl rfl rfl (by decide) rfl (fun _ => rfl) dX0_ask_19 hf (fun r5 u6 _ hf => ?_)
      refine g_call0i X 1 (As := [.int r5]) (lw_S q665 q666 q78 q667) (by decide +kernel) (fun r_ u_ h_ sz_ => m_J7_bitCount (gl Γ) (gEo Γ) r5 r_ u_ h_ sz_) rfl rfl ⟨by decide, by decide⟩ rfl (Nat.le_of_ble_eq_true rfl) ⟨Nat.zero_le _, Nat.zero_le _⟩ dX0_ask_22 hf (fun r7 _ hf => ?_)
      refine g_istore_n X [(3, .int r7), (0, .ref (ad 0)), (1, .int x1), (2, .int x2)] dX0_ask_25 (by decide) rfl ?_
      refine g_iload_n X 0 dX0_ask_26 rfl ?_
      refine g_istore X [(4, .int r7), (3, .int r7), (0, .ref (ad 0)), (1, .int x1), (2, .int x2)] dX0_ask_27 (by decide) rfl ?_
      refine g_bipush X (-4) dX0_ask_29 rfl ?_
      refine g_istore X [(5, .int (-4)), (4, .int r7), (3, .int r7), (0, .ref (ad 0)), (1, .int x1), (2, .int x2)] dX0_ask_31 (by decide) rfl ?_
      refine g_iconst X 0 dX0_ask_33 rfl ?_
      refine g_istore X [(6, .int 0), (5, .int (-4)), (4, .int r7), (3, .int r7), (0, .ref (ad 0)), (1, .int x1), (2, .int x2)] dX0_ask_34 (by decide) rfl ?_
      refine g_sub [4, 5, 6, 3, 2, 1, 0] [(0, .ref (ad 0)), (1, .int x1), (2, .int x2), (3, .int r7), (4, .int r7), (5, .int (-4)), (6, .int 0)] rfl ?_
      exact w_X0_ask_b36 X 2000 u6 x1 x2 r7 r7 (-4) 0 hf
    · refine g_iconst X (-1) dX0_ask_15 rfl ?_
      exact g_iret X rfl dX0_ask_16 hf
