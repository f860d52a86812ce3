set_option maxRecDepth 100000
/-! copies of a page -/
theorem fits_b {v : Nat} (h : v < 128) : fits .byte (.int (i3 v)) = true := (by decide +kernel : ∀ v, v < 128 → fits .byte (.int (i3 v)) = true) v h
theorem fits_s {v : Nat} (h : v < 1024) : fits .short (.int (i3 v)) = true := (by decide +kernel : ∀ v, v < 1024 → fits .short (.int (i3 v)) = true) v h
theorem fits_w {w : Nat} (h : w ≤ 1000) : fits .short (.int (wpt w)) = true := by
  unfold wpt
  split
  · decide +kernel
  · exact fits_s (by omega)
theorem gfit_of {ty : FieldType} {n : Nat} {f : Nat → Int32} (h : ∀ i, i < n → fits ty (.int (f i)) = true) : gfit ty n f = true := by
  unfold gfit
  rw [List.all_eq_true]
  intro i hi
  exact h i (List.mem_range.mp hi)
theorem gRS.byte {σ : gS} {P : gP} (h : gRS σ P) (hw : gWF P) {i : Nat} (hi : i < 15) : fits .byte (.int (S_one σ i)) = true := by
  have h3 : i = 3 * (i / 3) ∨ i = 3 * (i / 3) + 1 ∨ i = 3 * (i / 3) + 2 := by omega
  have h5 : i / 3 < 5 := by omega
  rcases h3 with e | e | e
  · rw [e, h.hk h5]; exact fits_b (by have := hw.k (i / 3); omega)
  · rw [e, h.hs h5]; exact fits_b (by have := hw.s (i / 3); omega)
  · rw [e, h.hg h5]; exact fits_b (by split <;> decide)
theorem gcp_of {ty : FieldType} {n0 n1 : Nat} {f g : Nat → Int32} {n : Nat} {α : Type} {K : (Nat → Int32) → Option α} (hf : gfit ty n f = true) (h0 : n ≤ n0) (h1 : n ≤ n1) (hn : n < 2147483648) : gcp ty n0 n1 f g (i3 n) K = K (va_cpy f g 0 0 n) := by
  unfold gcp
  rw [i3_idx hn, if_pos ⟨hf, i3_nlt hn, h0, h1⟩]
theorem c_as {σ t : gS} {P : gP} (h : gRS σ P) (hw : gWF P) : ∃ t', f_X5_as ((t, σ) : gSS) = some ((t', σ) : gSS) ∧ gRS t' P := by
  refine ⟨(S_people σ, S_minute σ, S_room σ, S_think σ, S_planned σ, va_cpy (S_one σ) (S_one t) 0 0 15, va_cpy (S_wept σ) (S_wept t) 0 0 5, va_cpy (S_plan σ) (S_plan t) 0 0 8), ?_, ?_⟩
  · unfold f_X5_as
    show (gcp .byte 15 15 (S_one σ) (S_one t) 15 fun g3 => gcp .short 5 5 (S_wept σ) (S_wept t) 5 fun g5 => gcp .byte 8 8 (S_plan σ) (S_plan t) 8 fun g15 => some (((S_people σ, S_minute σ, S_room σ, S_think σ, S_planned σ, g3, g5, g15), σ) : gSS)) = _
    rw [i3_15, gcp_of (gfit_of (fun i hi => h.byte hw hi)) (by decide) (by decide) (by decide)]
    rw [i3_5, gcp_of (gfit_of (fun i hi => by rw [h.hw hi]; exact fits_w (hw.w i))) (by decide) (by decide) (by decide)]
    rw [i3_8, gcp_of (gfit_of (fun i hi => by rw [h.hp hi]; exact fits_b (by have := hw.p6 i; omega))) (by decide) (by decide) (by decide)]
  · have hc : ∀ {f g : Nat → Int32} {n k : Nat}, k < n → va_cpy f g 0 0 n k = f k := fun {f g n k} hk => by
      unfold va_cpy
      rw [if_pos ⟨Nat.zero_le _, by omega⟩]
      congr 1
      omega
    refine ⟨h.hn, h.hm, h.hr, h.ht, h.hq, fun p hp => ?_, fun p hp => ?_, fun p hp => ?_, fun p hp => ?_, fun i hi => ?_⟩
    · exact (hc (by omega)).trans (h.hk hp)
    · exact (hc (by omega)).trans (h.hs hp)
    · exact (hc (by omega)).trans (h.hg hp)
    · exact (hc (by omega)).trans (h.hw hp)
    · exact (hc (by omega)).trans (h.hp hi)
theorem m_copies_b {a b : Nat} (ha : a + 28 ≤ 168) (hb : b + 28 ≤ 168) (hd : a + 28 ≤ b ∨ b + 28 ≤ a) : ∀ c fuel τ, c ≤ 28 → c < fuel → ∃ st, f_X7_copies_b2 fuel τ (i3 a) (i3 b) (i3 (28 - c)) = some (M_state_s τ st) ∧ (∀ k, 28 - c ≤ k → k < 28 → st (b + k) = M_state τ (a + k)) ∧ ∀ j, j < b + (28 - c) ∨ b + 28 ≤ j → st j = M_state τ j := by
  intro c
  induction c with
  | zero =>
    intro fuel τ hc hf
    obtain ⟨f, rfl⟩ := gsucc hf
    refine ⟨M_state τ, ?_, fun k h1 h2 => by omega, fun j _ => rfl⟩
    simp only [f_X7_copies_b2]
    rw [i3_28, if_pos (by rw [i3_le (by omega) (by omega)]; omega)]
    rfl
  | succ c ih =>
    intro fuel τ hc hf
    obtain ⟨f, rfl⟩ := gsucc hf
    obtain ⟨st, e, h1, h2⟩ := ih f (M_state_s τ (upd (M_state τ) (b + (28 - (c + 1))) (M_state τ (a + (28 - (c + 1)))))) (by omega) (by omega)
    refine ⟨st, ?_, fun k hk1 hk2 => ?_, fun j hj => ?_⟩
    · simp only [f_X7_copies_b2]
      rw [i3_28, if_neg (by rw [i3_le (by omega) (by omega)]; omega), i3_add, i3_add, g3_ld (by omega) (by decide), g3_st (by omega) (by decide), i3_1, i3_add, show 28 - (c + 1) + 1 = 28 - c by omega]
      exact e
    · by_cases hk : k = 28 - (c + 1)
      · rw [h2 (b + k) (by omega)]
        show upd _ _ _ (b + k) = _
        rw [hk, upd_same]
      · rw [h1 k (by omega) hk2]
        show upd _ _ _ (a + k) = _
        rw [upd_ne (by omega)]
    · rw [h2 j (by omega)]
      show upd _ _ _ j = _
      rw [upd_ne (by omega)]
theorem m_copies {a b : Nat} {τ : gM} (ha : a + 28 ≤ 168) (hb : b + 28 ≤ 168) (hd : a + 28 ≤ b ∨ b + 28 ≤ a) : ∃ st, f_X7_copies τ (i3 a) (i3 b) = some (M_state_s τ st) ∧ (∀ k, k < 28 → st (b + k) = M_state τ (a + k)) ∧ gFr b (M_state τ) st := by
  obtain ⟨st, e, h1, h2⟩ := m_copies_b ha hb hd 28 2000 τ (by omega) (by omega)
  exact ⟨st, e, fun k hk => h1 k (by omega) hk, fun j hj => h2 j (by omega)⟩
theorem gRM.cp {a b : Nat} {st st' : Nat → Int32} {P : gP} (h : gRM a st P) (e : ∀ k, k < 28 → st' (b + k) = st (a + k)) : gRM b st' P := by
  obtain ⟨h0, h1, h2, h3, h4, h5, h6, h7, h8⟩ := h
  refine ⟨fun p hp => ?_, fun p hp => ?_, fun p hp => ?_, ?_, ?_, ?_, ?_, fun p hp => ?_, ?_⟩
  · rw [e p (by omega)]; exact h0 p hp
  · rw [Nat.add_assoc, e (5 + p) (by omega), ← Nat.add_assoc]; exact h1 p hp
  · rw [Nat.add_assoc, e (10 + p) (by omega), ← Nat.add_assoc]; exact h2 p hp
  · rw [e 15 (by omega)]; exact h3
  · rw [e 16 (by omega)]; exact h4
  · rw [e 17 (by omega)]; exact h5
  · rw [e 18 (by omega)]; exact h6
  · rw [Nat.add_assoc, e (19 + p) (by omega), ← Nat.add_assoc]; exact h7 p hp
  · rw [e 27 (by omega)]; exact h8
theorem gRM.fr {a b : Nat} {st st' : Nat → Int32} {P : gP} (h : gRM a st P) (f : gFr b st st') (hd : a + 28 ≤ b ∨ b + 28 ≤ a) : gRM a st' P := h.cp (fun k hk => f _ (by omega))
/-! an act -/
def pc5 (T : Nat) : Nat := 5 - cnt5 T
theorem c_bits {T : Nat} (h : T < 32) : f_J7_bitCount (i3 T) = some (i3 (pc5 T), ()) := (by decide +kernel : ∀ T, T < 32 → f_J7_bitCount (i3 T) = some (i3 (pc5 T), ())) T h
theorem m_bits {T : Nat} (h : T < 32) : f_X7_bitsOf (i3 T) = some (i3 (pc5 T), ()) := (by decide +kernel : ∀ T, T < 32 → f_X7_bitsOf (i3 T) = some (i3 (pc5 T), ())) T h
def isTh (P : gP) (a : Nat) : Bool := !decide (a = 5) && (!decide (a = 6) && !P_g P a)
def sp_can (P : gP) (a : Nat) : Bool := decide (a = 5) || (decide (a = 6) || !P_g P a)
def sp_wt (P : gP) (a : Nat) : Nat := if isTh P a then (sp_think P a).1 else 0
def sp_act (P : gP) (a : Nat) : gP := if a = 5 then sp_minute P else if a = 6 then sp_tram P else if P_g P a then P else (sp_think P a).2
def okact (P : gP) (a : Nat) : Prop := a < P_n P ∨ a = 5 ∨ a = 6
def axi (xi : gXI) (P : gP) (a : Nat) : gXI := if isTh P a then I_often_s (I_weepers_s xi (I_weepers xi ||| i3 (sp_wt P a))) (I_often xi + i3 (pc5 (sp_wt P a))) else xi
def atm (τ : gM) (P : gP) (a : Nat) : gM := if isTh P a then M_weptTimes_s (M_weptBits_s τ (M_weptBits τ ||| i3 (sp_wt P a))) (M_weptTimes τ + i3 (pc5 (sp_wt P a))) else τ
theorem sp_wt_lt {σ : gS} {P : gP} {a : Nat} (h : gRS σ P) (hw : gWF P) (ha : okact P a) : sp_wt P a < 32 := by
  unfold sp_wt
  split
  · rename_i hi
    have hn := hw.n
    have : a < 5 := by
      rcases ha with ha | rfl | rfl
      · omega
      · simp [isTh] at hi
      · simp [isTh] at hi
    obtain ⟨_, _, _, _, h4⟩ := c_think (xi := (0, 0, 0, 0, 0, 0, 0, 0, 0, 0, 0)) h hw this
    exact h4
  · decide
theorem c_acts {xi : gXI} {σ : gS} {P : gP} {a : Nat} (h : gRS σ P) (hw : gWF P) (ha : okact P a) : ∃ σ', f_X0_acts ((xi, σ) : gA) (i3 a) = some (i3 (if sp_can P a then 1 else 0), ((axi xi P a, σ') : gA)) ∧ gRS σ' (sp_act P a) ∧ gWF (sp_act P a) := by
  have hn := hw.n
  unfold f_X0_acts
  by_cases e5 : a = 5
  · subst e5
    obtain ⟨σ', e, r⟩ := c_minute h hw
    refine ⟨σ', ?_, r, sp_minute_wf hw⟩
    rw [if_pos (by decide)]
    show ((f_X5_minuteGoes σ).bind fun u16 => gs ((xi, u16) : gA) fun s17 => gzr 1 s17) = _
    rw [e]
    rfl
  · by_cases e6 : a = 6
    · subst e6
      obtain ⟨σ', e, r⟩ := c_tram h hw
      refine ⟨σ', ?_, r, sp_tram_wf hw⟩
      rw [if_neg (by decide), if_pos (by decide)]
      show ((f_X5_tramComes σ).bind fun (r12, u13) => gs ((xi, u13) : gA) fun s14 => gzr 1 s14) = _
      rw [e]
      rfl
    · have ha5 : a < 5 := by unfold okact at ha; omega
      rw [i3_5, i3_6, if_neg (by rw [i3_eq (by omega) (by decide)]; omega), if_neg (by rw [i3_eq (by omega) (by decide)]; omega)]
      show ∃ σ', ((f_X5_waits σ (i3 a)).bind fun (r1, u2) => gs ((xi, u2) : gA) fun s3 => if r1 = 0 then (gzr 0 s3) else ((f_X0_thinking s3 (i3 a)).bind fun (r4, u5) => gv (((I_weepers (A_xi u5))) ||| r4) fun v6 => gs (A_xi_s u5 (I_weepers_s (A_xi u5) v6)) fun s7 => (f_J7_bitCount r4).bind fun (r8, _) => gv (((I_often (A_xi s7))) + r8) fun v10 => gs (A_xi_s s7 (I_often_s (A_xi s7) v10)) fun s11 => gzr 1 s11)) = _ ∧ _
      rw [c_waits h ha5]
      cases hg : P_g P a
      · obtain ⟨σ', e, r, w, t⟩ := c_think (xi := xi) h hw ha5
        have hth : isTh P a = true := by simp [isTh, e5, e6, hg]
        have hwt : sp_wt P a = (sp_think P a).1 := by unfold sp_wt; rw [if_pos hth]
        have hact : sp_act P a = (sp_think P a).2 := by unfold sp_act; rw [if_neg e5, if_neg e6, hg]; rfl
        have hcan : sp_can P a = true := by simp [sp_can, hg]
        refine ⟨σ', ?_, by rw [hact]; exact r, by rw [hact]; exact w⟩
        show ((f_X0_thinking ((xi, σ) : gA) (i3 a)).bind fun (r4, u5) => gv (((I_weepers (A_xi u5))) ||| r4) fun v6 => gs (A_xi_s u5 (I_weepers_s (A_xi u5) v6)) fun s7 => (f_J7_bitCount r4).bind fun (r8, _) => gv (((I_often (A_xi s7))) + r8) fun v10 => gs (A_xi_s s7 (I_often_s (A_xi s7) v10)) fun s11 => gzr 1 s11) = _
        rw [e]
        show ((f_J7_bitCount (i3 (sp_think P a).1)).bind fun (r8, _) => some ((1 : Int32), ((I_often_s (I_weepers_s xi (I_weepers xi ||| i3 (sp_think P a).1)) (I_often xi + r8), σ') : gA))) = _
        rw [c_bits t]
        unfold axi
        rw [if_pos hth, hwt, hcan]
        rfl
      · have hth : isTh P a = false := by simp [isTh, hg]
        have hact : sp_act P a = P := by unfold sp_act; rw [if_neg e5, if_neg e6, hg]; rfl
        have hcan : sp_can P a = false := by simp [sp_can, hg, e5, e6]
        refine ⟨σ, ?_, by rw [hact]; exact h, by rw [hact]; exact hw⟩
        unfold axi
        rw [hth, hcan]
        rfl
theorem m_acts {P : gP} {τ : gM} {a : Nat} (h : gMO 112 P τ) (hw : gWF P) (ha : okact P a) (hT : sp_wt P a < 32) : ∃ st, f_X7_acts τ (i3 a) = some (i3 (if sp_can P a then 1 else 0), atm (M_state_s τ st) P a) ∧ gRM 112 st (sp_act P a) ∧ P_n (sp_act P a) = P_n P ∧ gFr 112 (M_state τ) st := by
  have hn := hw.n
  unfold f_X7_acts
  by_cases e5 : a = 5
  · subst e5
    obtain ⟨st, e, r, f⟩ := m_minute h hw
    have hN : P_n (sp_act P 5) = P_n P := by
      show P_n (fo sp_ms (P_n P) 0 P) = P_n P
      have : ∀ k i Q, P_n (fo sp_ms k i Q) = P_n Q := by
        intro k
        induction k with
        | zero => intros; rfl
        | succ k ih => intro i Q; exact ih (i + 1) (sp_ms i Q)
      exact this _ _ _
    refine ⟨st, ?_, r, hN, f⟩
    rw [if_pos (by decide), i3_112, e]
    rfl
  · by_cases e6 : a = 6
    · subst e6
      obtain ⟨st, e, r, f⟩ := m_tram h hw
      refine ⟨st, ?_, r, rfl, f⟩
      rw [if_neg (by decide), if_pos (by decide), i3_112, e]
      rfl
    · have ha5 : a < 5 := by unfold okact at ha; omega
      rw [i3_5, i3_6, i3_112, if_neg (by rw [i3_eq (by omega) (by decide)]; omega), if_neg (by rw [i3_eq (by omega) (by decide)]; omega), m_waits h ha5]
      cases hg : P_g P a
      · obtain ⟨st, e, r, n, f⟩ := m_think h hw ha5
        have hth : isTh P a = true := by simp [isTh, e5, e6, hg]
        have hwt : sp_wt P a = (sp_think P a).1 := by unfold sp_wt; rw [if_pos hth]
        have hact : sp_act P a = (sp_think P a).2 := by unfold sp_act; rw [if_neg e5, if_neg e6, hg]; rfl
        have hcan : sp_can P a = true := by simp [sp_can, hg]
        refine ⟨st, ?_, by rw [hact]; exact r, by rw [hact]; exact n, f⟩
        show ((f_X7_thinksOn τ (i3 112) (i3 a)).bind fun (r3, u4) => gv ((M_weptBits u4) ||| r3) fun v5 => gs (M_weptBits_s u4 v5) fun s6 => (f_X7_bitsOf r3).bind fun (r7, _) => gv ((M_weptTimes s6) + r7) fun v9 => gs (M_weptTimes_s s6 v9) fun s10 => gzr 1 s10) = _
        rw [e]
        show ((f_X7_bitsOf (i3 (sp_think P a).1)).bind fun (r7, _) => some ((1 : Int32), M_weptTimes_s (M_weptBits_s (M_state_s τ st) (M_weptBits τ ||| i3 (sp_think P a).1)) (M_weptTimes τ + r7))) = _
        rw [m_bits (hwt ▸ hT)]
        unfold atm
        rw [if_pos hth, hwt, hcan]
        rfl
      · have hth : isTh P a = false := by simp [isTh, hg]
        have hact : sp_act P a = P := by unfold sp_act; rw [if_neg e5, if_neg e6, hg]; rfl
        have hcan : sp_can P a = false := by simp [sp_can, hg, e5, e6]
        refine ⟨M_state τ, ?_, by rw [hact]; exact h.R, by rw [hact], gFr.rf⟩
        unfold atm
        rw [hth, hcan]
        rfl
