set_option maxRecDepth 100000
set_option maxHeartbeats 400000
/-! minutes, queue, second, see, forget, torn, keep, back -/
theorem fo_min_wf : ∀ c i P, gWF P → gWF (fo (fun _ Q => sp_minute Q) c i P)
  | 0, _, _, h => h
  | c + 1, i, P, h => fo_min_wf c (i + 1) (sp_minute P) (sp_minute_wf h)
theorem sp_minute_n (P : gP) : P_n (sp_minute P) = P_n P := (fo_ms_same (P_n P) 0 P).2.2
theorem fo_min_n : ∀ c i P, P_n (fo (fun _ Q => sp_minute Q) c i P) = P_n P
  | 0, _, _ => rfl
  | c + 1, i, P => (fo_min_n c (i + 1) (sp_minute P)).trans (sp_minute_n P)
theorem c_minutes_b {N : Nat} (hN : N ≤ 60) : ∀ c fuel σ P, gRS (X_now σ) P → gWF P → c ≤ N → c < fuel → ∃ s', f_X0_minutes_b16 fuel σ (i3 N) (i3 (N - c)) = some (i3 (sp_sorrow (fo (fun _ Q => sp_minute Q) c 0 P)), X_now_s σ s') ∧ gRS s' (fo (fun _ Q => sp_minute Q) c 0 P) := by
  intro c
  induction c with
  | zero =>
    intro fuel σ P h hw hc hf
    obtain ⟨f, rfl⟩ := gsucc hf
    refine ⟨X_now σ, ?_, h⟩
    simp only [f_X0_minutes_b16]
    rw [if_pos (by rw [i3_le (by omega) (by omega)]; omega), c_sorrow h hw]
    rfl
  | succ c ih =>
    intro fuel σ P h hw hc hf
    obtain ⟨f, rfl⟩ := gsucc hf
    obtain ⟨s1, e1, r1⟩ := c_minute h hw
    obtain ⟨s2, e2, r2⟩ := ih f (X_now_s σ s1) (sp_minute P) r1 (sp_minute_wf hw) (by omega) (by omega)
    have ec : fo (fun _ Q => sp_minute Q) c 0 (sp_minute P) = fo (fun _ Q => sp_minute Q) (c + 1) 0 P := by
      have : ∀ k i j Q, fo (fun _ Q => sp_minute Q) k i Q = fo (fun _ Q => sp_minute Q) k j Q := by
        intro k
        induction k with
        | zero => intros; rfl
        | succ k ih => intro i j Q; exact ih (i + 1) (j + 1) _
      exact this c 0 1 _
    rw [ec] at e2 r2
    refine ⟨s2, ?_, r2⟩
    simp only [f_X0_minutes_b16]
    rw [if_neg (by rw [i3_le (by omega) (by omega)]; omega), e1]
    show f_X0_minutes_b16 f (X_now_s σ s1) (i3 N) (i3 (N - (c + 1)) + 1) = _
    rw [i3_1, i3_add, show N - (c + 1) + 1 = N - c by omega, e2]
    rfl
theorem m_minutes_b {N : Nat} (hN : N ≤ 60) : ∀ c fuel τ P, gMO 0 P τ → gWF P → c ≤ N → c < fuel → ∃ st, f_X7_minutes_b16 fuel τ (i3 N) (i3 (N - c)) = some (i3 (sp_sorrow (fo (fun _ Q => sp_minute Q) c 0 P)), M_state_s τ st) ∧ gRM 0 st (fo (fun _ Q => sp_minute Q) c 0 P) ∧ gFr 0 (M_state τ) st := by
  intro c
  induction c with
  | zero =>
    intro fuel τ P h hw hc hf
    obtain ⟨f, rfl⟩ := gsucc hf
    refine ⟨M_state τ, ?_, h.R, gFr.rf⟩
    simp only [f_X7_minutes_b16]
    rw [if_pos (by rw [i3_le (by omega) (by omega)]; omega), i3_0, m_sorrow h hw]
    rfl
  | succ c ih =>
    intro fuel τ P h hw hc hf
    obtain ⟨f, rfl⟩ := gsucc hf
    obtain ⟨s1, e1, r1, f1⟩ := m_minute h hw
    obtain ⟨s2, e2, r2, f2⟩ := ih f (M_state_s τ s1) (sp_minute P) (h.on r1 (sp_minute_n P)) (sp_minute_wf hw) (by omega) (by omega)
    have ec : fo (fun _ Q => sp_minute Q) c 0 (sp_minute P) = fo (fun _ Q => sp_minute Q) (c + 1) 0 P := by
      have : ∀ k i j Q, fo (fun _ Q => sp_minute Q) k i Q = fo (fun _ Q => sp_minute Q) k j Q := by
        intro k
        induction k with
        | zero => intros; rfl
        | succ k ih => intro i j Q; exact ih (i + 1) (j + 1) _
      exact this c 0 1 _
    rw [ec] at e2 r2
    refine ⟨s2, ?_, r2, f1.tr f2⟩
    simp only [f_X7_minutes_b16]
    rw [if_neg (by rw [i3_le (by omega) (by omega)]; omega), i3_0, e1]
    show f_X7_minutes_b16 f (M_state_s τ s1) (i3 N) (i3 (N - (c + 1)) + 1) = _
    rw [i3_1, i3_add, show N - (c + 1) + 1 = N - c by omega, e2]
    rfl
theorem z_minutes {σ : gX} {τ : gM} {x : Int32} (h : gRZ σ τ) : gOK σ τ (f_X0_minutes σ x) (f_X7_minutes τ x) := by
  obtain ⟨P, hh⟩ := h
  have h0 := hh
  obtain ⟨hw, hS, hM, -⟩ := hh
  unfold f_X0_minutes f_X7_minutes
  rcases in_lit (x := x) (lo := 0) (hi := 60) (a := 0) (b := 60) rfl rfl with ⟨N, -, hN, rfl, f1, f2⟩ | ⟨f1, f2, -⟩
  · rw [f1, f2]
    obtain ⟨s', e1, r1⟩ := c_minutes_b hN N 2000 σ P hS hw (by omega) (by omega)
    obtain ⟨st, e2, r2, k2⟩ := m_minutes_b hN N 2000 τ P hM hw (by omega) (by omega)
    rw [Nat.sub_self] at e1 e2
    exact gOK.page (P' := fo (fun _ Q => sp_minute Q) N 0 P) (u := X_now_s σ s') (v := M_state_s τ st) _ h0 e1 e2 (fo_min_wf N 0 P hw) r1 (hM.on r2 (fo_min_n N 0 P)) (fo_min_n N 0 P) (gKeep.st rfl rfl rfl rfl rfl rfl k2)
  · rw [f1, f2]
    exact gOK.rf _ h0
/-! queue -/
def qnext (P : gP) (T : Nat) : Option Nat := sp_first P (wS1 P T)
theorem m_queue_b {P : gP} {τ : gM} {N : Nat} (h : gMO 0 P τ) (hw : gWF P) (hN : N ≤ 4) : ∀ c fuel T, c ≤ N → c < fuel → sub5 P T → f_X7_queue_b26 fuel τ (i3 N) (i3 T) (ovl (qnext P T)) (i3 (N - c)) = some (ovl (qnext P (ones P c T)), τ) := by
  have hn := hw.n
  intro c
  induction c with
  | zero =>
    intro fuel T hc hf hT
    obtain ⟨f, rfl⟩ := gsucc hf
    simp only [f_X7_queue_b26]
    rw [if_pos (by rw [i3_le (by omega) (by omega)]; omega)]
    rfl
  | succ c ih =>
    intro fuel T hc hf hT
    obtain ⟨f, rfl⟩ := gsucc hf
    simp only [f_X7_queue_b26]
    rw [if_neg (by rw [i3_le (by omega) (by omega)]; omega)]
    cases hq : qnext P T with
    | none =>
      rw [if_pos ovn]
      rw [ones_none hq, hq]
    | some q =>
      obtain ⟨hq1, hq2⟩ := sp_first_some hq
      have e1 : ones1 P T = T ||| 2 ^ q := by unfold ones1; rw [show sp_first P (wS1 P T) = some q from hq]
      have hT1 := sub5_1 hn hT
      rw [e1] at hT1
      rw [if_neg (by
        show ¬ i3 q = -(i3 4)
        rw [i3_ng (by omega) (by decide) (by decide)]; exact id)]
      show ((f_X7_nextOn τ 0 (i3 T ||| ((1 : Int32) <<< (i3 q &&& 31)))).bind fun (r6, u7) => gv (i3 (N - (c + 1)) + 1) fun v8 => (f_X7_queue_b26 f) u7 (i3 N) (i3 T ||| ((1 : Int32) <<< (i3 q &&& 31))) r6 v8) = some (ovl (qnext P (ones P c (ones1 P T))), τ)
      rw [i3_shl (by omega), i3_or5 hT.1 (pow5_lt (by omega)), show f_X7_nextOn τ 0 (i3 (T ||| 2 ^ q)) = _ from m_first (b := 0) h hw hT1.1]
      show f_X7_queue_b26 f τ (i3 N) (i3 (T ||| 2 ^ q)) (ovl (qnext P (T ||| 2 ^ q))) (i3 (N - (c + 1)) + 1) = _
      rw [i3_1, i3_add, show N - (c + 1) + 1 = N - c by omega, e1]
      exact ih f (T ||| 2 ^ q) (by omega) (by omega) hT1
theorem z_queue {σ : gX} {τ : gM} {x : Int32} (h : gRZ σ τ) : gOK σ τ (f_X0_queue σ x) (f_X7_queue τ x) := by
  obtain ⟨P, hh⟩ := h
  have h0 := hh
  obtain ⟨hw, hS, hM, -⟩ := hh
  have hn := hw.n
  unfold f_X0_queue f_X7_queue
  rcases in_lit (x := x) (lo := 0) (hi := 4) (a := 0) (b := 4) rfl rfl with ⟨N, -, hN, rfl, f1, f2⟩ | ⟨f1, f2, -⟩
  · rw [f1, f2]
    have hs := sub5_ones hn N 0 (sub5_0 (P := P))
    have e := m_queue_b hM hw hN N 2000 0 (by omega) (by omega) sub5_0
    rw [Nat.sub_self] at e
    show gOK σ τ ((f_X5_waiting (X_now σ)).bind fun (r3, u4) => gs (X_now_s σ u4) fun s5 => (f_X5_firstOnes (X_now s5) (i3 N)).bind fun (r6, u7) => gs (X_now_s s5 u7) fun s8 => (f_X5_firstOf (X_now s8) (r3 &&& (r6 ^^^ (-1)))).bind fun (r9, u10) => gs (X_now_s s8 u10) fun s11 => some (r9, s11)) ((f_X7_nextOn τ 0 0).bind fun (r3, u4) => f_X7_queue_b26 2000 u4 (i3 N) 0 r3 0)
    rw [show f_X7_nextOn τ 0 0 = _ from m_first (b := 0) (T := 0) hM hw (by decide), c_waiting hS hn]
    show gOK σ τ ((f_X5_firstOnes (X_now σ) (i3 N)).bind fun (r6, u7) => gs (X_now_s σ u7) fun s8 => (f_X5_firstOf (X_now s8) (i3 (sp_waiting P) &&& (r6 ^^^ (-1)))).bind fun (r9, u10) => gs (X_now_s s8 u10) fun s11 => some (r9, s11)) (f_X7_queue_b26 2000 τ (i3 N) (i3 0) (ovl (qnext P 0)) (i3 0))
    rw [e, c_ones hS hw (by omega)]
    show gOK σ τ ((f_X5_firstOf (X_now σ) (i3 (sp_waiting P) &&& (i3 (ones P N 0) ^^^ (-1)))).bind fun (r9, u10) => gs (X_now_s σ u10) fun s11 => some (r9, s11)) _
    rw [i3_1, i3_andn5 (waiting_lt hn) hs.1, c_first hS hw (andn_lt (waiting_lt hn)), c_left hn hs.1]
    exact gOK.rf _ h0
  · rw [f1, f2]
    exact gOK.rf _ h0
/-! second -/
theorem c_second_b {r : Int32} : ∀ k fuel i σ P, gRS (X_now σ) P → P_n P ≤ 5 → i + k = P_n P → k < fuel → ∃ s' g', f_X0_second_b13 fuel σ r (i3 i) = some (r, X_now_s σ s') ∧ gRS s' (P_g_s P g') ∧ ∀ p, g' p = if i ≤ p ∧ p < i + k then false else P_g P p := by
  intro k
  induction k with
  | zero =>
    intro fuel i σ P h hn hi hf
    obtain ⟨f, rfl⟩ := gsucc hf
    refine ⟨X_now σ, P_g P, ?_, h, fun p => by rw [if_neg (by omega)]⟩
    simp only [f_X0_second_b13]
    rw [h.hn, if_pos (by rw [i3_le (by omega) (by omega)]; omega)]
    rfl
  | succ k ih =>
    intro fuel i σ P h hn hi hf
    obtain ⟨f, rfl⟩ := gsucc hf
    obtain ⟨s', g', e, r', hg⟩ := ih f (i + 1) (X_now_s σ (S_one_s (X_now σ) (upd (S_one (X_now σ)) (3 * i + 2) (i3 0)))) (P_g_s P (gu (P_g P) i false)) (h.g (v := false) (by omega)) hn (show i + 1 + k = P_n P by omega) (by omega)
    refine ⟨s', g', ?_, r', fun p => ?_⟩
    · simp only [f_X0_second_b13]
      rw [h.hn, if_neg (by rw [i3_le (by omega) (by omega)]; omega), i3_2, i3_0, c_becomes (by omega) (by decide) (by decide)]
      show f_X0_second_b13 f (X_now_s σ (S_one_s (X_now σ) (upd (S_one (X_now σ)) (3 * i + 2) (i3 0)))) r (i3 i + 1) = _
      rw [i3_1, i3_add]
      exact e
    · rw [hg p]
      show (if i + 1 ≤ p ∧ p < i + 1 + k then false else gu (P_g P) i false p) = _
      by_cases e1 : p = i
      · subst e1
        rw [if_neg (by omega), if_pos (by omega), gu_same]
      · rw [gu_ne e1]
        by_cases e2 : i ≤ p ∧ p < i + (k + 1)
        · rw [if_pos (by omega), if_pos e2]
        · rw [if_neg (by omega), if_neg e2]
theorem z_second {σ : gX} {τ : gM} (h : gRZ σ τ) : gOK σ τ (f_X0_second σ) (f_X7_second τ) := by
  obtain ⟨P, hh⟩ := h
  have h0 := hh
  obtain ⟨hw, hS, hM, -⟩ := hh
  have hn := hw.n
  have hR := hM.R
  obtain ⟨s', g', e, r', hg⟩ := c_second_b (r := i3 (pc5 (m5 (P_g P)))) (P_n P) 2000 0 σ P hS hn (by omega) (by omega)
  have hgf : ∀ p, p < 5 → g' p = (fun _ => false) p := fun p hp => by
    rw [hg p]
    by_cases e : p < P_n P
    · rw [if_pos (by omega)]
    · rw [if_neg (by omega)]; exact hw.g (by omega)
  unfold f_X0_second f_X7_second
  rw [c_gone hS hw]
  show gOK σ τ ((f_J7_bitCount (i3 (m5 (P_g P)))).bind fun (r4, _) => f_X0_second_b13 2000 σ r4 0) (gld 168 (M_state τ) 15 fun v1 => (f_X7_bitsOf v1).bind fun (r2, _) => gst 168 (M_state τ) 15 0 fun g4 => gs (M_state_s τ g4) fun s5 => some (r2, s5))
  rw [c_bits (m5_lt _), i3_15, g3_ld (by decide) (by decide), show M_state τ 15 = i3 (m5 (P_g P)) from hR.hg, m_bits (m5_lt _)]
  show gOK σ τ (f_X0_second_b13 2000 σ (i3 (pc5 (m5 (P_g P)))) (i3 0)) (gst 168 (M_state τ) (i3 15) 0 fun g4 => some (i3 (pc5 (m5 (P_g P))), M_state_s τ g4))
  rw [e, g3_st (by decide) (by decide)]
  have hwf : gWF (P_g_s P (fun _ => false)) := by
    obtain ⟨h1, h2, h3, h4, h5, h6, h7, h8, h9, h10⟩ := hw
    exact ⟨h1, h2, h3, h4, h5, h6, h7, h8, fun p hp => rfl, h10⟩
  exact gOK.page (P' := P_g_s P (fun _ => false)) (u := X_now_s σ s') (v := M_state_s τ (upd (M_state τ) 15 0)) _ h0 rfl rfl hwf (r'.gx hgf) (hM.on (gRM.g (v := fun _ => false) hR) rfl) rfl (gKeep.st rfl rfl rfl rfl rfl rfl (gFr.up (by omega) (by omega)))
/-! see, forget, torn -/
theorem z_torn {σ : gX} {τ : gM} (h : gRZ σ τ) : gOK σ τ (f_X0_torn σ) (f_X7_torn τ) := by
  obtain ⟨P, hh⟩ := h
  unfold f_X0_torn f_X7_torn
  have e : I_torn (X_xi σ) = M_torn τ := hh.2.2.2.2.2.2.2.1
  rw [e]
  exact gOK.rf _ hh
theorem z_forget {σ : gX} {τ : gM} {x : Int32} (h : gRZ σ τ) : gOK σ τ (f_X0_forget σ x) (f_X7_forget τ x) := by
  obtain ⟨P, hh⟩ := h
  have h0 := hh
  obtain ⟨hw, hS, hM, hk, ⟨sm, t1, t2, t3, t4⟩, ht, he⟩ := hh
  unfold f_X0_forget f_X7_forget
  rw [t2, t3]
  rcases in_lit (x := x) (lo := 0) (hi := sm) (a := 0) (b := (i3 sm).toInt64) rfl (by rw [Int32.toInt_toInt64, i3_int (by omega)]) with ⟨k, -, hk2, rfl, e1, e2⟩ | ⟨e1, e2, -⟩
  · rw [e1, e2]
    exact ⟨i3 sm, X_xi_s σ (I_seenMany_s (X_xi σ) (i3 k)), M_seenMany_s τ (i3 k), rfl, rfl, ⟨P, hw, hS, hM, hk, ⟨k, by omega, rfl, rfl, fun j hj => t4 j (by omega)⟩, ht, he⟩, rfl, rfl, rfl, rfl⟩
  · rw [e1, e2]
    exact gOK.rf _ h0
theorem z_see {σ : gX} {τ : gM} {x y : Int32} (h : gRZ σ τ) : gOK σ τ (f_X0_see σ x y) (f_X7_see τ x y) := by
  obtain ⟨P, hh⟩ := h
  have h0 := hh
  obtain ⟨hw, hS, hM, hk, ⟨sm, t1, t2, t3, t4⟩, ht, he⟩ := hh
  have hn := hw.n
  unfold f_X0_see f_X7_see
  rcases isOne2 (x := x) hn hS hM with ⟨p, h1, rfl, h3, h4⟩ | ⟨h1, h2, h3⟩
  · rw [h3, h4]
    show gOK σ τ (if I_seenMany (X_xi σ) = 6 then some (-3, σ) else _) (if M_seenMany τ = 6 then some (-3, τ) else _)
    rw [t2, t3, i3_6, if3_eq (by omega) (by decide), if3_eq (by omega) (by decide)]
    by_cases e : sm = 6
    · rw [if_pos e, if_pos e]
      exact gOK.rf _ h0
    · rw [if_neg e, if_neg e]
      have key : ∀ b : Bool, ∃ u v, f_X0_see_b56 (X_seen_s σ (upd (X_seen σ) (2 * sm) (i3 p))) (i3 (if b then 1 else 0)) (i3 (2 * sm + 1)) = some (i3 (sm + 1), u) ∧ f_X7_see_b55 (M_seen_s τ (upd (M_seen τ) (2 * sm) (i3 p))) (i3 (if b then 1 else 0)) (i3 (2 * sm + 1)) = some (i3 (sm + 1), v) ∧ gRZ u v ∧ gSame σ u τ v := by
        intro b
        generalize hu : X_xi_s (X_seen_s (X_seen_s σ (upd (X_seen σ) (2 * sm) (i3 p))) (upd (upd (X_seen σ) (2 * sm) (i3 p)) (2 * sm + 1) (i3 (if b then 1 else 0)))) (I_seenMany_s (X_xi σ) (i3 (sm + 1))) = u
        generalize hv : M_seenMany_s (M_seen_s (M_seen_s τ (upd (M_seen τ) (2 * sm) (i3 p))) (upd (upd (M_seen τ) (2 * sm) (i3 p)) (2 * sm + 1) (i3 (if b then 1 else 0)))) (i3 (sm + 1)) = v
        have hkk : gKk σ u τ v := by subst hu hv; unfold gKk; simp only [X_xi__xi, X_now__xi, X_tried__xi, X_im0__xi, X_im1__xi, X_seen__xi, X_tape__xi, X_row__xi, X_rw__xi, X_xi__seen, X_now__seen, X_tried__seen, X_im0__seen, X_im1__seen, X_seen__seen, X_tape__seen, X_row__seen, X_rw__seen, I_kept__seenMany, I_seenMany__seenMany, I_weepers__seenMany, I_often__seenMany, I_firstOver__seenMany, I_taped__seenMany, I_fault__seenMany, I_goneSum__seenMany, I_manySum__seenMany, I_allWays__seenMany, I_torn__seenMany, M_oneMany__seenMany, M_readOnes__seenMany, M_toldOnce__seenMany, M_high__seenMany, M_taped__seenMany, M_fault__seenMany, M_broken__seenMany, M_brokenAt__seenMany, M_spot__seenMany, M_here__seenMany, M_token__seenMany, M_value__seenMany, M_weptBits__seenMany, M_weptTimes__seenMany, M_firstNot__seenMany, M_seenMany__seenMany, M_torn__seenMany, M_state__seenMany, M_brims__seenMany, M_readPage__seenMany, M_tape__seenMany, M_cuts__seenMany, M_letters__seenMany, M_seen__seenMany, M_goneBy__seenMany, M_isKept__seenMany, M_lanes__seenMany, M_lengths__seenMany, M_cells__seenMany, M_oneMany__seen, M_readOnes__seen, M_toldOnce__seen, M_high__seen, M_taped__seen, M_fault__seen, M_broken__seen, M_brokenAt__seen, M_spot__seen, M_here__seen, M_token__seen, M_value__seen, M_weptBits__seen, M_weptTimes__seen, M_firstNot__seen, M_seenMany__seen, M_torn__seen, M_state__seen, M_brims__seen, M_readPage__seen, M_tape__seen, M_cuts__seen, M_letters__seen, M_seen__seen, M_goneBy__seen, M_isKept__seen, M_lanes__seen, M_lengths__seen, M_cells__seen]; simp
        have hkt : gKt σ u τ v := by subst hu hv; unfold gKt; simp only [X_xi__xi, X_now__xi, X_tried__xi, X_im0__xi, X_im1__xi, X_seen__xi, X_tape__xi, X_row__xi, X_rw__xi, X_xi__seen, X_now__seen, X_tried__seen, X_im0__seen, X_im1__seen, X_seen__seen, X_tape__seen, X_row__seen, X_rw__seen, I_kept__seenMany, I_seenMany__seenMany, I_weepers__seenMany, I_often__seenMany, I_firstOver__seenMany, I_taped__seenMany, I_fault__seenMany, I_goneSum__seenMany, I_manySum__seenMany, I_allWays__seenMany, I_torn__seenMany, M_oneMany__seenMany, M_readOnes__seenMany, M_toldOnce__seenMany, M_high__seenMany, M_taped__seenMany, M_fault__seenMany, M_broken__seenMany, M_brokenAt__seenMany, M_spot__seenMany, M_here__seenMany, M_token__seenMany, M_value__seenMany, M_weptBits__seenMany, M_weptTimes__seenMany, M_firstNot__seenMany, M_seenMany__seenMany, M_torn__seenMany, M_state__seenMany, M_brims__seenMany, M_readPage__seenMany, M_tape__seenMany, M_cuts__seenMany, M_letters__seenMany, M_seen__seenMany, M_goneBy__seenMany, M_isKept__seenMany, M_lanes__seenMany, M_lengths__seenMany, M_cells__seenMany, M_oneMany__seen, M_readOnes__seen, M_toldOnce__seen, M_high__seen, M_taped__seen, M_fault__seen, M_broken__seen, M_brokenAt__seen, M_spot__seen, M_here__seen, M_token__seen, M_value__seen, M_weptBits__seen, M_weptTimes__seen, M_firstNot__seen, M_seenMany__seen, M_torn__seen, M_state__seen, M_brims__seen, M_readPage__seen, M_tape__seen, M_cuts__seen, M_letters__seen, M_seen__seen, M_goneBy__seen, M_isKept__seen, M_lanes__seen, M_lengths__seen, M_cells__seen]; simp
        have hke : gKe σ u τ v := by subst hu hv; unfold gKe; simp only [X_xi__xi, X_now__xi, X_tried__xi, X_im0__xi, X_im1__xi, X_seen__xi, X_tape__xi, X_row__xi, X_rw__xi, X_xi__seen, X_now__seen, X_tried__seen, X_im0__seen, X_im1__seen, X_seen__seen, X_tape__seen, X_row__seen, X_rw__seen, I_kept__seenMany, I_seenMany__seenMany, I_weepers__seenMany, I_often__seenMany, I_firstOver__seenMany, I_taped__seenMany, I_fault__seenMany, I_goneSum__seenMany, I_manySum__seenMany, I_allWays__seenMany, I_torn__seenMany, M_oneMany__seenMany, M_readOnes__seenMany, M_toldOnce__seenMany, M_high__seenMany, M_taped__seenMany, M_fault__seenMany, M_broken__seenMany, M_brokenAt__seenMany, M_spot__seenMany, M_here__seenMany, M_token__seenMany, M_value__seenMany, M_weptBits__seenMany, M_weptTimes__seenMany, M_firstNot__seenMany, M_seenMany__seenMany, M_torn__seenMany, M_state__seenMany, M_brims__seenMany, M_readPage__seenMany, M_tape__seenMany, M_cuts__seenMany, M_letters__seenMany, M_seen__seenMany, M_goneBy__seenMany, M_isKept__seenMany, M_lanes__seenMany, M_lengths__seenMany, M_cells__seenMany, M_oneMany__seen, M_readOnes__seen, M_toldOnce__seen, M_high__seen, M_taped__seen, M_fault__seen, M_broken__seen, M_brokenAt__seen, M_spot__seen, M_here__seen, M_token__seen, M_value__seen, M_weptBits__seen, M_weptTimes__seen, M_firstNot__seen, M_seenMany__seen, M_torn__seen, M_state__seen, M_brims__seen, M_readPage__seen, M_tape__seen, M_cuts__seen, M_letters__seen, M_seen__seen, M_goneBy__seen, M_isKept__seen, M_lanes__seen, M_lengths__seen, M_cells__seen]; simp
        have hsa : gSame σ u τ v := by subst hu hv; unfold gSame; simp only [X_xi__xi, X_now__xi, X_tried__xi, X_im0__xi, X_im1__xi, X_seen__xi, X_tape__xi, X_row__xi, X_rw__xi, X_xi__seen, X_now__seen, X_tried__seen, X_im0__seen, X_im1__seen, X_seen__seen, X_tape__seen, X_row__seen, X_rw__seen, I_kept__seenMany, I_seenMany__seenMany, I_weepers__seenMany, I_often__seenMany, I_firstOver__seenMany, I_taped__seenMany, I_fault__seenMany, I_goneSum__seenMany, I_manySum__seenMany, I_allWays__seenMany, I_torn__seenMany, M_oneMany__seenMany, M_readOnes__seenMany, M_toldOnce__seenMany, M_high__seenMany, M_taped__seenMany, M_fault__seenMany, M_broken__seenMany, M_brokenAt__seenMany, M_spot__seenMany, M_here__seenMany, M_token__seenMany, M_value__seenMany, M_weptBits__seenMany, M_weptTimes__seenMany, M_firstNot__seenMany, M_seenMany__seenMany, M_torn__seenMany, M_state__seenMany, M_brims__seenMany, M_readPage__seenMany, M_tape__seenMany, M_cuts__seenMany, M_letters__seenMany, M_seen__seenMany, M_goneBy__seenMany, M_isKept__seenMany, M_lanes__seenMany, M_lengths__seenMany, M_cells__seenMany, M_oneMany__seen, M_readOnes__seen, M_toldOnce__seen, M_high__seen, M_taped__seen, M_fault__seen, M_broken__seen, M_brokenAt__seen, M_spot__seen, M_here__seen, M_token__seen, M_value__seen, M_weptBits__seen, M_weptTimes__seen, M_firstNot__seen, M_seenMany__seen, M_torn__seen, M_state__seen, M_brims__seen, M_readPage__seen, M_tape__seen, M_cuts__seen, M_letters__seen, M_seen__seen, M_goneBy__seen, M_isKept__seen, M_lanes__seen, M_lengths__seen, M_cells__seen]; simp
        have hMv : gMO 0 P v := by subst hv; exact hM.to (by simp only [M_oneMany__seenMany, M_readOnes__seenMany, M_toldOnce__seenMany, M_high__seenMany, M_taped__seenMany, M_fault__seenMany, M_broken__seenMany, M_brokenAt__seenMany, M_spot__seenMany, M_here__seenMany, M_token__seenMany, M_value__seenMany, M_weptBits__seenMany, M_weptTimes__seenMany, M_firstNot__seenMany, M_seenMany__seenMany, M_torn__seenMany, M_state__seenMany, M_brims__seenMany, M_readPage__seenMany, M_tape__seenMany, M_cuts__seenMany, M_letters__seenMany, M_seen__seenMany, M_goneBy__seenMany, M_isKept__seenMany, M_lanes__seenMany, M_lengths__seenMany, M_cells__seenMany, M_oneMany__seen, M_readOnes__seen, M_toldOnce__seen, M_high__seen, M_taped__seen, M_fault__seen, M_broken__seen, M_brokenAt__seen, M_spot__seen, M_here__seen, M_token__seen, M_value__seen, M_weptBits__seen, M_weptTimes__seen, M_firstNot__seen, M_seenMany__seen, M_torn__seen, M_state__seen, M_brims__seen, M_readPage__seen, M_tape__seen, M_cuts__seen, M_letters__seen, M_seen__seen, M_goneBy__seen, M_isKept__seen, M_lanes__seen, M_lengths__seen, M_cells__seen]) (by simp only [M_oneMany__seenMany, M_readOnes__seenMany, M_toldOnce__seenMany, M_high__seenMany, M_taped__seenMany, M_fault__seenMany, M_broken__seenMany, M_brokenAt__seenMany, M_spot__seenMany, M_here__seenMany, M_token__seenMany, M_value__seenMany, M_weptBits__seenMany, M_weptTimes__seenMany, M_firstNot__seenMany, M_seenMany__seenMany, M_torn__seenMany, M_state__seenMany, M_brims__seenMany, M_readPage__seenMany, M_tape__seenMany, M_cuts__seenMany, M_letters__seenMany, M_seen__seenMany, M_goneBy__seenMany, M_isKept__seenMany, M_lanes__seenMany, M_lengths__seenMany, M_cells__seenMany, M_oneMany__seen, M_readOnes__seen, M_toldOnce__seen, M_high__seen, M_taped__seen, M_fault__seen, M_broken__seen, M_brokenAt__seen, M_spot__seen, M_here__seen, M_token__seen, M_value__seen, M_weptBits__seen, M_weptTimes__seen, M_firstNot__seen, M_seenMany__seen, M_torn__seen, M_state__seen, M_brims__seen, M_readPage__seen, M_tape__seen, M_cuts__seen, M_letters__seen, M_seen__seen, M_goneBy__seen, M_isKept__seen, M_lanes__seen, M_lengths__seen, M_cells__seen]) (by simp only [M_oneMany__seenMany, M_readOnes__seenMany, M_toldOnce__seenMany, M_high__seenMany, M_taped__seenMany, M_fault__seenMany, M_broken__seenMany, M_brokenAt__seenMany, M_spot__seenMany, M_here__seenMany, M_token__seenMany, M_value__seenMany, M_weptBits__seenMany, M_weptTimes__seenMany, M_firstNot__seenMany, M_seenMany__seenMany, M_torn__seenMany, M_state__seenMany, M_brims__seenMany, M_readPage__seenMany, M_tape__seenMany, M_cuts__seenMany, M_letters__seenMany, M_seen__seenMany, M_goneBy__seenMany, M_isKept__seenMany, M_lanes__seenMany, M_lengths__seenMany, M_cells__seenMany, M_oneMany__seen, M_readOnes__seen, M_toldOnce__seen, M_high__seen, M_taped__seen, M_fault__seen, M_broken__seen, M_brokenAt__seen, M_spot__seen, M_here__seen, M_token__seen, M_value__seen, M_weptBits__seen, M_weptTimes__seen, M_firstNot__seen, M_seenMany__seen, M_torn__seen, M_state__seen, M_brims__seen, M_readPage__seen, M_tape__seen, M_cuts__seen, M_letters__seen, M_seen__seen, M_goneBy__seen, M_isKept__seen, M_lanes__seen, M_lengths__seen, M_cells__seen])
        have hSu : gRS (X_now u) P := by subst hu; simp only [X_xi__xi, X_now__xi, X_tried__xi, X_im0__xi, X_im1__xi, X_seen__xi, X_tape__xi, X_row__xi, X_rw__xi, X_xi__seen, X_now__seen, X_tried__seen, X_im0__seen, X_im1__seen, X_seen__seen, X_tape__seen, X_row__seen, X_rw__seen]; exact hS
        have hs1 : gRs u v P := by
          refine ⟨sm + 1, by omega, by subst hu; simp only [X_xi__xi, X_now__xi, X_tried__xi, X_im0__xi, X_im1__xi, X_seen__xi, X_tape__xi, X_row__xi, X_rw__xi, X_xi__seen, X_now__seen, X_tried__seen, X_im0__seen, X_im1__seen, X_seen__seen, X_tape__seen, X_row__seen, X_rw__seen, I_kept__seenMany, I_seenMany__seenMany, I_weepers__seenMany, I_often__seenMany, I_firstOver__seenMany, I_taped__seenMany, I_fault__seenMany, I_goneSum__seenMany, I_manySum__seenMany, I_allWays__seenMany, I_torn__seenMany], by subst hv; simp only [M_oneMany__seenMany, M_readOnes__seenMany, M_toldOnce__seenMany, M_high__seenMany, M_taped__seenMany, M_fault__seenMany, M_broken__seenMany, M_brokenAt__seenMany, M_spot__seenMany, M_here__seenMany, M_token__seenMany, M_value__seenMany, M_weptBits__seenMany, M_weptTimes__seenMany, M_firstNot__seenMany, M_seenMany__seenMany, M_torn__seenMany, M_state__seenMany, M_brims__seenMany, M_readPage__seenMany, M_tape__seenMany, M_cuts__seenMany, M_letters__seenMany, M_seen__seenMany, M_goneBy__seenMany, M_isKept__seenMany, M_lanes__seenMany, M_lengths__seenMany, M_cells__seenMany, M_oneMany__seen, M_readOnes__seen, M_toldOnce__seen, M_high__seen, M_taped__seen, M_fault__seen, M_broken__seen, M_brokenAt__seen, M_spot__seen, M_here__seen, M_token__seen, M_value__seen, M_weptBits__seen, M_weptTimes__seen, M_firstNot__seen, M_seenMany__seen, M_torn__seen, M_state__seen, M_brims__seen, M_readPage__seen, M_tape__seen, M_cuts__seen, M_letters__seen, M_seen__seen, M_goneBy__seen, M_isKept__seen, M_lanes__seen, M_lengths__seen, M_cells__seen], fun j hj => ?_⟩
          subst hu hv
          simp only [X_xi__xi, X_now__xi, X_tried__xi, X_im0__xi, X_im1__xi, X_seen__xi, X_tape__xi, X_row__xi, X_rw__xi, X_xi__seen, X_now__seen, X_tried__seen, X_im0__seen, X_im1__seen, X_seen__seen, X_tape__seen, X_row__seen, X_rw__seen, M_oneMany__seenMany, M_readOnes__seenMany, M_toldOnce__seenMany, M_high__seenMany, M_taped__seenMany, M_fault__seenMany, M_broken__seenMany, M_brokenAt__seenMany, M_spot__seenMany, M_here__seenMany, M_token__seenMany, M_value__seenMany, M_weptBits__seenMany, M_weptTimes__seenMany, M_firstNot__seenMany, M_seenMany__seenMany, M_torn__seenMany, M_state__seenMany, M_brims__seenMany, M_readPage__seenMany, M_tape__seenMany, M_cuts__seenMany, M_letters__seenMany, M_seen__seenMany, M_goneBy__seenMany, M_isKept__seenMany, M_lanes__seenMany, M_lengths__seenMany, M_cells__seenMany, M_oneMany__seen, M_readOnes__seen, M_toldOnce__seen, M_high__seen, M_taped__seen, M_fault__seen, M_broken__seen, M_brokenAt__seen, M_spot__seen, M_here__seen, M_token__seen, M_value__seen, M_weptBits__seen, M_weptTimes__seen, M_firstNot__seen, M_seenMany__seen, M_torn__seen, M_state__seen, M_brims__seen, M_readPage__seen, M_tape__seen, M_cuts__seen, M_letters__seen, M_seen__seen, M_goneBy__seen, M_isKept__seen, M_lanes__seen, M_lengths__seen, M_cells__seen]
          by_cases ej : j = sm
          · subst ej
            refine ⟨⟨p, h1, ?_, ?_⟩, b, upd_same, upd_same⟩
            · rw [upd_ne (by omega), upd_same]
            · rw [upd_ne (by omega), upd_same]
          · obtain ⟨⟨q, q1, q2, q3⟩, v, v1, v2⟩ := t4 j (by omega)
            refine ⟨⟨q, q1, ?_, ?_⟩, v, ?_, ?_⟩
            · rw [upd_ne (by omega), upd_ne (by omega), q2]
            · rw [upd_ne (by omega), upd_ne (by omega), q3]
            · rw [upd_ne (by omega), upd_ne (by omega), v1]
            · rw [upd_ne (by omega), upd_ne (by omega), v2]
        refine ⟨u, v, ?_, ?_, ⟨P, hw, hSu, hMv, hk.to hkk rfl, hs1, ht.to hkt, he.to hke⟩, hsa⟩
        · unfold f_X0_see_b56
          have hb : vp_nar .byte ((i3 (if b then 1 else 0)).toInt8.toInt32) = i3 (if b then 1 else 0) := by cases b <;> decide +kernel
          rw [hb, g3_st (by omega) (by decide), g3_s, g3_v, g3_s]
          simp only [X_xi__xi, X_now__xi, X_tried__xi, X_im0__xi, X_im1__xi, X_seen__xi, X_tape__xi, X_row__xi, X_rw__xi, X_xi__seen, X_now__seen, X_tried__seen, X_im0__seen, X_im1__seen, X_seen__seen, X_tape__seen, X_row__seen, X_rw__seen, I_kept__seenMany, I_seenMany__seenMany, I_weepers__seenMany, I_often__seenMany, I_firstOver__seenMany, I_taped__seenMany, I_fault__seenMany, I_goneSum__seenMany, I_manySum__seenMany, I_allWays__seenMany, I_torn__seenMany]
          rw [t2, i3_1, i3_add, hu]
        · unfold f_X7_see_b55
          rw [g3_st (by omega) (by decide), g3_s, g3_v, g3_s]
          simp only [M_oneMany__seenMany, M_readOnes__seenMany, M_toldOnce__seenMany, M_high__seenMany, M_taped__seenMany, M_fault__seenMany, M_broken__seenMany, M_brokenAt__seenMany, M_spot__seenMany, M_here__seenMany, M_token__seenMany, M_value__seenMany, M_weptBits__seenMany, M_weptTimes__seenMany, M_firstNot__seenMany, M_seenMany__seenMany, M_torn__seenMany, M_state__seenMany, M_brims__seenMany, M_readPage__seenMany, M_tape__seenMany, M_cuts__seenMany, M_letters__seenMany, M_seen__seenMany, M_goneBy__seenMany, M_isKept__seenMany, M_lanes__seenMany, M_lengths__seenMany, M_cells__seenMany, M_oneMany__seen, M_readOnes__seen, M_toldOnce__seen, M_high__seen, M_taped__seen, M_fault__seen, M_broken__seen, M_brokenAt__seen, M_spot__seen, M_here__seen, M_token__seen, M_value__seen, M_weptBits__seen, M_weptTimes__seen, M_firstNot__seen, M_seenMany__seen, M_torn__seen, M_state__seen, M_brims__seen, M_readPage__seen, M_tape__seen, M_cuts__seen, M_letters__seen, M_seen__seen, M_goneBy__seen, M_isKept__seen, M_lanes__seen, M_lengths__seen, M_cells__seen]
          rw [t3, i3_1, i3_add, hv]
      rw [i3_2, i3_mul, g3_st (by omega) (by decide), g3_st (by omega) (by decide), i3_byte (by omega), g3_s, g3_s]
      simp only [X_xi__xi, X_now__xi, X_tried__xi, X_im0__xi, X_im1__xi, X_seen__xi, X_tape__xi, X_row__xi, X_rw__xi, X_xi__seen, X_now__seen, X_tried__seen, X_im0__seen, X_im1__seen, X_seen__seen, X_tape__seen, X_row__seen, X_rw__seen, M_oneMany__seenMany, M_readOnes__seenMany, M_toldOnce__seenMany, M_high__seenMany, M_taped__seenMany, M_fault__seenMany, M_broken__seenMany, M_brokenAt__seenMany, M_spot__seenMany, M_here__seenMany, M_token__seenMany, M_value__seenMany, M_weptBits__seenMany, M_weptTimes__seenMany, M_firstNot__seenMany, M_seenMany__seenMany, M_torn__seenMany, M_state__seenMany, M_brims__seenMany, M_readPage__seenMany, M_tape__seenMany, M_cuts__seenMany, M_letters__seenMany, M_seen__seenMany, M_goneBy__seenMany, M_isKept__seenMany, M_lanes__seenMany, M_lengths__seenMany, M_cells__seenMany, M_oneMany__seen, M_readOnes__seen, M_toldOnce__seen, M_high__seen, M_taped__seen, M_fault__seen, M_broken__seen, M_brokenAt__seen, M_spot__seen, M_here__seen, M_token__seen, M_value__seen, M_weptBits__seen, M_weptTimes__seen, M_firstNot__seen, M_seenMany__seen, M_torn__seen, M_state__seen, M_brims__seen, M_readPage__seen, M_tape__seen, M_cuts__seen, M_letters__seen, M_seen__seen, M_goneBy__seen, M_isKept__seen, M_lanes__seen, M_lengths__seen, M_cells__seen]
      rw [t2, t3, i3_mul, i3_1, i3_add]
      by_cases ey : y = 0
      · obtain ⟨u, v, k1, k2, k3, k4⟩ := key false
        rw [if_pos ey, if_pos ey]
        exact ⟨i3 (sm + 1), u, v, k1, k2, k3, k4⟩
      · obtain ⟨u, v, k1, k2, k3, k4⟩ := key true
        rw [if_neg ey, if_neg ey]
        exact ⟨i3 (sm + 1), u, v, k1, k2, k3, k4⟩
  · rw [h1, h2]
    exact gOK.rf _ h0
