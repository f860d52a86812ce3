set_option maxRecDepth 100000
set_option maxHeartbeats 400000
/-! swap -/
def swP (P : gP) (i j : Nat) : gP := P_p_s P (gu (gu (P_p P) i (P_p P j)) j (P_p P i))
theorem sw_wf {P : gP} {i j : Nat} (h : gWF P) (hi : i < P_q P) (hj : j < P_q P) : gWF (swP P i j) := by
  obtain ⟨h1, h2, h3, h4, h5, h6, h7, h8, h9, h10⟩ := h
  refine ⟨h1, h2, h3, h4, h5, h6, h7, h8, h9, fun k => ?_⟩
  show gu (gu (P_p P) i (P_p P j)) j (P_p P i) k ≤ 6 ∧ (k < P_q P → gu (gu (P_p P) i (P_p P j)) j (P_p P i) k < P_n P ∨ gu (gu (P_p P) i (P_p P j)) j (P_p P i) k = 5 ∨ gu (gu (P_p P) i (P_p P j)) j (P_p P i) k = 6)
  by_cases ej : k = j
  · rw [ej, gu_same]
    exact ⟨(h10 i).1, fun _ => (h10 i).2 hi⟩
  · rw [gu_ne ej]
    by_cases ei : k = i
    · rw [ei, gu_same]
      exact ⟨(h10 j).1, fun _ => (h10 j).2 hj⟩
    · rw [gu_ne ei]
      exact h10 k
def pc5_le (T : Nat) : Prop := pc5 T ≤ 5
theorem pc5_5 (T : Nat) : pc5 T ≤ 5 := by unfold pc5; omega
theorem c_swap_in {σ : gX} {τ : gM} {P : gP} {i : Nat} {w : Int32} (h0 : gRZp σ τ P) (hi : i < P_q P) {kc : gX → Int32 → Int32 → Int32 → Int32 → Option (Int32 × gX)} {km : gM → Int32 → Int32 → Int32 → Int32 → Option (Int32 × gM)}
    (hk : ∀ xi t rr st x y z g m fd, m ≤ 5 → gXq (X_xi σ) xi → gLo (M_state τ) st → gScr σ τ (kc (sx σ xi t rr) w (i3 m) fd (i3 (i + 1))) (km (mx τ st x y z g) w (i3 m) fd (i3 (i + 1)))) : ∀ c fuel fuel' xi t rr st x y z g m fd j, j + c = P_q P → c < fuel → c < fuel' → m ≤ 5 → gXq (X_xi σ) xi → gLo (M_state τ) st →
    gScr σ τ (f_X0_swap_b42 kc fuel (sx σ xi t rr) w (i3 m) fd (i3 i) (i3 j)) (f_X7_swap_b47 km fuel' (mx τ st x y z g) w (i3 m) fd (i3 i) (i3 j)) := by
  obtain ⟨hw, hS, hM, -⟩ := id h0
  have hq := hw.q
  intro c
  induction c with
  | zero =>
    intro fuel fuel' xi t rr st x y z g m fd j hj hf hf' hm hx hl
    obtain ⟨f, rfl⟩ := gsucc hf
    obtain ⟨f', rfl⟩ := gsucc hf'
    have hR := gLo.R hM.R hl
    simp only [f_X0_swap_b42, f_X7_swap_b47]
    rw [sx__now, hS.hq, if_pos (by rw [i3_le (by omega) (by omega)]; omega), mx__state, i3_27, g3_ld (by decide) (by decide), show st 27 = i3 (P_q P) from hR.hq, if_pos (by rw [i3_le (by omega) (by omega)]; omega), g3_v, g3_v, i3_1, i3_add]
    exact hk _ _ _ _ _ _ _ _ _ _ hm hx hl
  | succ c ih =>
    intro fuel fuel' xi t rr st x y z g m fd j hj hf hf' hm hx hl
    obtain ⟨f, rfl⟩ := gsucc hf
    obtain ⟨f', rfl⟩ := gsucc hf'
    have hR := gLo.R hM.R hl
    have hp6i := hw.p6 i
    have hp6j := hw.p6 j
    obtain ⟨t1, e1, r1⟩ := c_asx (xi := xi) (t := t) (rr := rr) hS hw
    have r2 : gRS (S_plan_s (S_plan_s t1 (upd (S_plan t1) i (i3 (P_p P j)))) (upd (upd (S_plan t1) i (i3 (P_p P j))) j (i3 (P_p P i)))) (swP P i j) := (r1.p (v := P_p P j) (by omega)).p (v := P_p P i) (by omega)
    have hws := sw_wf hw hi (show j < P_q P by omega)
    obtain ⟨t3, e3, r3, w3, -⟩ := c_goes (xi := xi) (over := 0) r2 hws (by decide)
    obtain ⟨st1, m1, k1, q1⟩ := m_copies (τ := mx τ st x y z g) (a := 0) (b := 140) (by decide) (by decide) (by decide)
    rw [mx_s] at m1
    rw [mx__state] at k1 q1
    have hR1 : gRM 140 st1 P := hR.cp k1
    have hR10 : gRM 0 st1 P := hR.fr q1 (by decide)
    have hR2 : gRM 140 (upd (upd st1 (159 + i) (i3 (P_p P j))) (159 + j) (i3 (P_p P i))) (swP P i j) := gRM.p (v := P_p P i) (gRM.p (v := P_p P j) hR1 (p := i) (by omega)) (p := j) (by omega)
    have hl2 : gLo (M_state τ) (upd (upd st1 (159 + i) (i3 (P_p P j))) (159 + j) (i3 (P_p P i))) := ((hl.tr (q1.lo (by decide))).tr (gLo.up (by omega))).tr (gLo.up (by omega))
    obtain ⟨st4, e4, r4, f4⟩ := m_goes (over := 0) (mx_on (x := x) (y := y) (z := z) (g := g) hM hR2 rfl (by decide)) ⟨hws, _, r2⟩ (by decide) (by decide)
    rw [mx_qtm] at e4
    rw [mx__state] at f4
    have hl4 := hl2.tr (f4.lo (by decide))
    generalize sp_goes (swP P i j) 0 = Z at *
    have hpc := pc5_5 (m5 (P_g Z.1))
    have e6 : ∀ a b c, f_X7_goneThen (mx τ st4 a b c g) = some (i3 (pc5 (m5 (P_g Z.1))), mx τ st4 a b c g) := by
      intro a b c
      unfold f_X7_goneThen
      rw [mx__state, i3_127, g3_ld (by decide) (by decide), show st4 127 = i3 (m5 (P_g Z.1)) from r4.hg, m_bits (m5_lt _)]
      rfl
    simp only [f_X0_swap_b42, f_X7_swap_b47]
    rw [sx__now, hS.hq, if_neg (by rw [i3_le (by omega) (by omega)]; omega), mx__state, i3_27, g3_ld (by decide) (by decide), show st 27 = i3 (P_q P) from hR.hq, if_neg (by rw [i3_le (by omega) (by omega)]; omega)]
    have e1 : f_X5_as (X_tried (sx σ xi t rr), X_now σ) = some (t1, X_now σ) := e1
    have m1 : f_X7_copies (mx τ st x y z g) 0 140 = some (mx τ st1 x y z g) := m1
    rw [e1, g3_b, g3_s, sx_t, sx_n, sx__now, g3_ld (by omega) (by decide), hS.hp (by omega), i3_byte1 (by omega), sx__tried, g3_st (by omega) (by decide), g3_s, sx_t, sx__now, g3_ld (by omega) (by decide), hS.hp (by omega), i3_byte1 (by omega), sx__tried]
    rw [g3_st (by omega) (by decide), g3_s, sx_t, sx__xi, sx__tried]
    have e3 : f_X0_goes (xi, S_plan_s (S_plan_s t1 (upd (S_plan t1) i (i3 (P_p P j)))) (upd (S_plan (S_plan_s t1 (upd (S_plan t1) i (i3 (P_p P j))))) j (i3 (P_p P i)))) 0 = some (qxi xi Z, t3) := e3
    rw [e3, g3_b, g3_s, sx_x, sx_t, sx__tried, c_gone r3 w3, g3_b]
    show gScr σ τ ((gs (X_tried_s (sx σ (qxi xi Z) t3 rr) t3) fun s23 => (f_J7_bitCount (i3 (m5 (P_g Z.1)))).bind fun (r24, _) => if r24 ≤ i3 m then (f_X0_swap_b144 kc (f_X0_swap_b42 kc f) s23 w (i3 m) (i3 i) (i3 j) r24 fd) else (f_X0_swap_b144 kc (f_X0_swap_b42 kc f) s23 w (i3 m) (i3 i) (i3 j) r24 (((10 : Int32) * i3 i) + i3 j)))) _
    rw [g3_s, sx_t, c_bits (m5_lt _), g3_b]
    show gScr σ τ (if i3 (pc5 (m5 (P_g Z.1))) ≤ i3 m then (f_X0_swap_b144 kc (f_X0_swap_b42 kc f) (sx σ (qxi xi Z) t3 rr) w (i3 m) (i3 i) (i3 j) (i3 (pc5 (m5 (P_g Z.1)))) fd) else (f_X0_swap_b144 kc (f_X0_swap_b42 kc f) (sx σ (qxi xi Z) t3 rr) w (i3 m) (i3 i) (i3 j) (i3 (pc5 (m5 (P_g Z.1)))) (((10 : Int32) * i3 i) + i3 j))) _
    rw [m1, g3_b, mx__state, i3_19, i3_add, g3_ld (by omega) (by decide), show st1 (19 + j) = i3 (P_p P j) by have := hR10.hp (i := j) (by omega); rwa [Nat.zero_add] at this, i3_159, i3_add, g3_st (by omega) (by decide), g3_s, mx_s, mx__state, i3_add, g3_ld (by omega) (by decide), upd_ne (by omega), show st1 (19 + i) = i3 (P_p P i) by have := hR10.hp (i := i) (by omega); rwa [Nat.zero_add] at this, i3_add, g3_st (by omega) (by decide), g3_s, mx_s]
    have e4 : f_X7_planGoes (mx τ (upd (upd st1 (159 + i) (i3 (P_p P j))) (159 + j) (i3 (P_p P i))) x y z g) 140 0 = some (mx τ st4 (i3 Z.2.1) (i3 Z.2.2.1) (ovl Z.2.2.2) g) := e4
    rw [e4, g3_b, e6, g3_b]
    show gScr σ τ _ (if i3 (pc5 (m5 (P_g Z.1))) ≤ i3 m then (f_X7_swap_b137 km (f_X7_swap_b47 km f') (mx τ st4 (i3 Z.2.1) (i3 Z.2.2.1) (ovl Z.2.2.2) g) w (i3 m) (i3 i) (i3 j) fd) else (f_X7_swap_b137 km (f_X7_swap_b47 km f') (mx τ st4 (i3 Z.2.1) (i3 Z.2.2.1) (ovl Z.2.2.2) g) w (i3 m) (i3 i) (i3 j) (((10 : Int32) * i3 i) + i3 j)))
    have key : ∀ fd', gScr σ τ (f_X0_swap_b144 kc (f_X0_swap_b42 kc f) (sx σ (qxi xi Z) t3 rr) w (i3 m) (i3 i) (i3 j) (i3 (pc5 (m5 (P_g Z.1)))) fd') (f_X7_swap_b137 km (f_X7_swap_b47 km f') (mx τ st4 (i3 Z.2.1) (i3 Z.2.2.1) (ovl Z.2.2.2) g) w (i3 m) (i3 i) (i3 j) fd') := by
      intro fd'
      unfold f_X0_swap_b144 f_X7_swap_b137 f_X7_swap_b154
      rw [e6, g3_b, g3_v, g3_v, if3_lt (by omega) (by omega), i3_1, i3_add]
      show gScr σ τ _ (if i3 (pc5 (m5 (P_g Z.1))) ≤ i3 m then (gv (i3 (j + 1)) fun v27 => f_X7_swap_b47 km f' (mx τ st4 (i3 Z.2.1) (i3 Z.2.2.1) (ovl Z.2.2.2) g) w (i3 m) fd' (i3 i) v27) else ((f_X7_goneThen (mx τ st4 (i3 Z.2.1) (i3 Z.2.2.1) (ovl Z.2.2.2) g)).bind fun (r25, u26) => gv (i3 (j + 1)) fun v27 => f_X7_swap_b47 km f' u26 w r25 fd' (i3 i) v27))
      rw [if3_le (by omega) (by omega), e6, g3_b, g3_v]
      by_cases e : pc5 (m5 (P_g Z.1)) ≤ m
      · rw [if_neg (by omega), if_pos e]
        exact ih f f' _ _ _ _ _ _ _ _ _ _ _ (by omega) (by omega) (by omega) hm (hx.tr (gXq.q _ _)) hl4
      · rw [if_pos (by omega), if_neg e]
        show gScr σ τ _ (gv (i3 (j + 1)) fun v27 => f_X7_swap_b47 km f' (mx τ st4 (i3 Z.2.1) (i3 Z.2.2.1) (ovl Z.2.2.2) g) w (i3 (pc5 (m5 (P_g Z.1)))) fd' (i3 i) v27)
        rw [g3_v]
        exact ih f f' _ _ _ _ _ _ _ _ _ _ _ (by omega) (by omega) (by omega) hpc (hx.tr (gXq.q _ _)) hl4
    by_cases e : i3 (pc5 (m5 (P_g Z.1))) ≤ i3 m
    · rw [if_pos e, if_pos e]
      exact key _
    · rw [if_neg e, if_neg e]
      exact key _
theorem c_swap_out {σ : gX} {τ : gM} {P : gP} {w : Nat} (h0 : gRZp σ τ P) (hw1 : w ≤ 1) : ∀ c fuel fuel' xi t rr st x y z g m fd i, i + c = P_q P → c < fuel → c < fuel' → m ≤ 5 → gXq (X_xi σ) xi → gLo (M_state τ) st →
    gScr σ τ (f_X0_swap_b24 fuel (sx σ xi t rr) (i3 w) (i3 m) fd (i3 i)) (f_X7_swap_b29 fuel' (mx τ st x y z g) (i3 w) (i3 m) fd (i3 i)) := by
  obtain ⟨hw, hS, hM, -⟩ := id h0
  have hq := hw.q
  intro c
  induction c with
  | zero =>
    intro fuel fuel' xi t rr st x y z g m fd i hi hf hf' hm hx hl
    obtain ⟨f, rfl⟩ := gsucc hf
    obtain ⟨f', rfl⟩ := gsucc hf'
    have hR := gLo.R hM.R hl
    simp only [f_X0_swap_b24, f_X7_swap_b29]
    have hle : i3 (P_q P) ≤ i3 i := by rw [i3_le (by omega) (by omega)]; omega
    rw [sx__now, hS.hq, if_pos hle, mx__state, i3_27, g3_ld (by decide) (by decide), show st 27 = i3 (P_q P) from hR.hq, if_pos hle]
    unfold f_X7_swap_b177
    by_cases e : fd = -4
    · rw [if_pos e, if_pos e, e]
      exact ⟨_, _, _, _, _, _, _, _, _, rfl, rfl, hx, hl⟩
    · rw [if_neg e, if_neg e]
      by_cases e2 : i3 w = 0
      · rw [if_pos e2, if_pos e2]
        exact ⟨_, _, _, _, _, _, _, _, _, rfl, rfl, hx, hl⟩
      · rw [if_neg e2, if_neg e2]
        exact ⟨_, _, _, _, _, _, _, _, _, rfl, rfl, hx, hl⟩
  | succ c ih =>
    intro fuel fuel' xi t rr st x y z g m fd i hi hf hf' hm hx hl
    obtain ⟨f, rfl⟩ := gsucc hf
    obtain ⟨f', rfl⟩ := gsucc hf'
    have hR := gLo.R hM.R hl
    simp only [f_X0_swap_b24, f_X7_swap_b29]
    rw [sx__now, hS.hq, if_neg (by rw [i3_le (by omega) (by omega)]; omega), mx__state, i3_27, g3_ld (by decide) (by decide), show st 27 = i3 (P_q P) from hR.hq, if_neg (by rw [i3_le (by omega) (by omega)]; omega), g3_v, g3_v, i3_1, i3_add]
    exact c_swap_in h0 (by omega) (fun xi t rr st x y z g m fd hm hx hl => ih f f' _ _ _ _ _ _ _ _ _ _ _ (by omega) (by omega) (by omega) hm hx hl) c 2000 2000 _ _ _ _ _ _ _ _ _ _ (i + 1) (by omega) (by omega) (by omega) hm hx hl
theorem c_runs0 {σ : gX} {P : gP} (hS : gRS (X_now σ) P) (hw : gWF P) : ∃ t', f_X0_runs σ 0 = some (i3 (m5 (P_g (sp_goes P 0).1)), sx σ (qxi (X_xi σ) (sp_goes P 0)) t' (X_row σ)) := by
  obtain ⟨t', r1, w1, z1, hK⟩ := c_run (over := 0) (ov := 0) (sx_0 σ) rfl hS hw (by decide)
  refine ⟨t', ?_⟩
  unfold f_X0_runs
  rw [show f_X0_in (Int32.toInt64 0) 0 4 = some (1, ()) by decide, g3_b]
  show ((f_X5_as ((X_tried σ), (X_now σ))).bind fun u4 => gs (X_now_s (X_tried_s σ u4.1) u4.2) fun s5 => (f_X0_goes ((X_xi s5), (X_tried s5)) 0).bind fun u7 => gs (X_tried_s (X_xi_s s5 u7.1) u7.2) fun s8 => (f_X5_gone (X_tried s8)).bind fun (r12, u13) => gs (X_tried_s s8 u13) fun s14 => some (r12, s14)) = _
  rw [hK, sx__tried, c_gone r1 w1]
  rfl
theorem z_swap {σ : gX} {τ : gM} {x : Int32} (h : gRZ σ τ) : gOK σ τ (f_X0_swap σ x) (f_X7_swap τ x) := by
  obtain ⟨P, hh⟩ := h
  have h0 := hh
  obtain ⟨hw, hS, hM, -⟩ := hh
  have hq := hw.q
  unfold f_X0_swap f_X7_swap
  rcases isPart2 (x := x) with ⟨w, w1, rfl, e1, e2⟩ | ⟨e1, e2, e3⟩
  · rw [e1, e2, g3_b, g3_b]
    obtain ⟨t', c1⟩ := c_runs0 hS hw
    obtain ⟨st', m1, r2, f2, l2⟩ := m_run (over := 0) (st := M_state τ) (x := M_weptBits τ) (y := M_weptTimes τ) (z := M_firstNot τ) (g := M_goneBy τ) hM h0.pg gLo.rf (by decide)
    have m1 : f_X7_planGoes τ 0 0 = some (mx τ st' (i3 (sp_goes P 0).2.1) (i3 (sp_goes P 0).2.2.1) (ovl (sp_goes P 0).2.2.2) (M_goneBy τ)) := m1
    generalize sp_goes P 0 = Z at *
    have e6 : f_X7_goneThen (mx τ st' (i3 Z.2.1) (i3 Z.2.2.1) (ovl Z.2.2.2) (M_goneBy τ)) = some (i3 (pc5 (m5 (P_g Z.1))), mx τ st' (i3 Z.2.1) (i3 Z.2.2.1) (ovl Z.2.2.2) (M_goneBy τ)) := by
      unfold f_X7_goneThen
      rw [mx__state, i3_127, g3_ld (by decide) (by decide), show st' 127 = i3 (m5 (P_g Z.1)) from r2.hg, m_bits (m5_lt _)]
      rfl
    show gOK σ τ ((f_X0_runs σ 0).bind fun (r3, u4) => (f_J7_bitCount r3).bind fun (r5, _) => f_X0_swap_b24 2000 u4 (i3 w) r5 (-4) 0) ((f_X7_planGoes τ 0 0).bind fun u4 => (f_X7_goneThen u4).bind fun (r5, u6) => f_X7_swap_b29 2000 u6 (i3 w) r5 (-4) 0)
    rw [c1, m1, g3_b, g3_b, e6, g3_b]
    show gOK σ τ ((f_J7_bitCount (i3 (m5 (P_g Z.1)))).bind fun (r5, _) => f_X0_swap_b24 2000 (sx σ (qxi (X_xi σ) Z) t' (X_row σ)) (i3 w) r5 (-4) 0) _
    rw [c_bits (m5_lt _), g3_b]
    exact (c_swap_out h0 w1 (P_q P) 2000 2000 _ _ _ _ _ _ _ _ _ (-4) 0 (by omega) (by omega) (by omega) (pc5_5 _) (gXq.q _ _) l2).ok h0
  · rw [e1, e2]
    exact gOK.rf _ h0
