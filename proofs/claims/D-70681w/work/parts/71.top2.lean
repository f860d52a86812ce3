set_option maxRecDepth 100000
set_option maxHeartbeats 400000
theorem z_act {σ : gX} {τ : gM} {x : Int32} (h : gRZ σ τ) : gOK σ τ (f_X0_act σ x) (f_X7_act τ x) := by
  obtain ⟨P, hh⟩ := h
  have h0 := hh
  obtain ⟨hw, hS, hM, -⟩ := hh
  have hR := hM.R
  have hq := hw.q
  unfold f_X0_act f_X7_act
  rw [i3_27, g3_ld (by decide) (by decide), show M_state τ 27 = i3 (P_q P) from hR.hq, hS.hq]
  rcases in_pred (x := x) (n := P_q P) (by omega) with ⟨p, h1, rfl, h3, h4⟩ | ⟨h1, h2, h3⟩
  · rw [h3, h4]
    show gOK σ τ (gld 8 (S_plan (X_now σ)) (i3 p) fun v3 => some (v3, σ)) (gld 168 (M_state τ) (19 + i3 p) fun v4 => some (v4, τ))
    rw [i3_19, i3_add, g3_ld (by omega) (by decide), g3_ld (by omega) (by decide), hS.hp (by omega), show M_state τ (19 + p) = i3 (P_p P p) by have := hR.hp (i := p) (by omega); rwa [Nat.zero_add] at this]
    exact gOK.rf _ h0
  · rw [h1, h2]
    exact gOK.rf _ h0
theorem z_one {σ : gX} {τ : gM} {x y : Int32} (h : gRZ σ τ) : gOK σ τ (f_X0_one σ x y) (f_X7_one τ x y) := by
  obtain ⟨P, hh⟩ := h
  have h0 := hh
  obtain ⟨hw, hS, hM, -⟩ := hh
  have hR := hM.R
  have hn := hw.n
  unfold f_X0_one f_X7_one
  rcases isOne2 (x := x) hn hS hM with ⟨p, h1, rfl, h3, h4⟩ | ⟨h1, h2, h3⟩
  · rw [h3, h4]
    have hk := hw.k p
    have hww := hw.w p
    have hs := hw.s p
    simp only [g3_b]
    rw [if_neg (by decide), if_neg (by decide)]
    have b44 : ∀ c, c < 2 → gOK σ τ (f_X0_one_b44 σ (i3 p) (i3 c)) (f_X7_one_b44 τ (i3 p) (i3 c)) := by
      intro c hc
      unfold f_X0_one_b44 f_X7_one_b44
      rw [c_of (by omega) (by omega), i3_5, i3_mul, i3_add, g3_ld (by omega) (by decide)]
      have : S_one (X_now σ) (3 * p + c) = M_state τ (5 * c + p) := by
        have hc' : c = 0 ∨ c = 1 := by omega
        rcases hc' with rfl | rfl
        · rw [Nat.add_zero, hS.hk (by omega)]
          have := hR.hk (p := p) (by omega)
          rw [Nat.zero_add] at this
          rw [Nat.mul_zero, Nat.zero_add]
          exact this.symm
        · rw [hS.hs (by omega)]
          exact (hR.hs (p := p) (by omega)).symm
      show gOK σ τ (some (S_one (X_now σ) (3 * p + c), X_now_s σ (X_now σ))) (some (M_state τ (5 * c + p), τ))
      rw [this]
      exact gOK.rf _ h0
    rcases gsw_c (n := 5) (x := y) with ⟨i, hi, rfl⟩ | hD
    · rw [g3_sw hi (by decide), g3_sw hi (by decide)]
      rcases lt5 hi with rfl | rfl | rfl | rfl | rfl
      · exact b44 0 (by decide)
      · exact b44 1 (by decide)
      · show gOK σ τ (gld 5 (S_wept (X_now σ)) (i3 p) fun v3 => some (v3, σ)) (gld 168 (M_state τ) ((10 : Int32) + i3 p) fun v3 => (f_X7_orNone v3).bind fun (r4, _) => some (r4, τ))
        rw [i3_10, i3_add, g3_ld (by omega) (by decide), g3_ld (by omega) (by decide), hS.hw (by omega), show M_state τ (10 + p) = i3 (P_w P p) from hR.hw (p := p) (by omega)]
        have : f_X7_orNone (i3 (P_w P p)) = some (wpt (P_w P p), ()) := by
          unfold f_X7_orNone wpt
          rw [i3_0, if3_eq (by omega) (by decide)]
          by_cases e : P_w P p = 0
          · rw [if_pos e, if_pos e]; rfl
          · rw [if_neg e, if_neg e, i3_1, i3_sub (by omega)]
        rw [this]
        exact gOK.rf _ h0
      · show gOK σ τ ((f_X0_brim ((X_xi σ), (X_now σ)) (i3 p)).bind fun (r4, u5) => gs (X_now_s (X_xi_s σ u5.1) u5.2) fun s6 => some (r4, s6)) (gld 168 (M_state τ) (i3 p) fun v6 => gld 4 (M_brims τ) v6 fun v7 => some (v7, τ))
        rw [c_brim hS hw (by omega), g3_ld (by omega) (by decide), show M_state τ p = i3 (P_k P p) by have := hR.hk (p := p) (by omega); rwa [Nat.zero_add] at this, g3_ld hk (by decide), hM.hB hk]
        exact gOK.rf _ h0
      · show gOK σ τ ((f_X5_of (X_now σ) (i3 p) 2).bind fun (r7, u8) => gs (X_now_s σ u8) fun s9 => some (r7, s9)) (gld 168 (M_state τ) 15 fun v8 => some ((v8 >>> (i3 p &&& 31)) &&& 1, τ))
        rw [i3_2, c_of (by omega) (by decide), hS.hg (by omega), i3_15, g3_ld (by decide) (by decide), show M_state τ 15 = i3 (m5 (P_g P)) from hR.hg, i3_31, i3_1, i3_bit5 (m5_lt _) (by omega), m5_bit (by omega)]
        exact gOK.rf _ h0
    · rw [hD, hD]
      exact gOK.rf _ h0
  · rw [h1, h2]
    exact gOK.rf _ h0
theorem m_puts0 {τ : gM} {a b c : Int32} : f_X7_puts τ 0 a b c = some (-1, τ) := by unfold f_X7_puts; rw [if_pos rfl]
theorem m_puts1 {τ : gM} {a : Nat} {v l : Int32} (ha : a < 168) : f_X7_puts τ 1 (i3 a) v l = some (M_state τ a + l, M_state_s τ (upd (M_state τ) a (v - l))) := by
  unfold f_X7_puts
  rw [if_neg (by decide), g3_ld ha (by decide), g3_v, g3_st ha (by decide)]
  rfl
theorem i3_add0 (x : Int32) : x + 0 = x := Int32.add_zero x
theorem i3_sub0 (x : Int32) : x - 0 = x := Int32.sub_zero x
theorem wf_k {P : gP} {p v : Nat} (h : gWF P) (hv : v < 4) : gWF (P_k_s P (gu (P_k P) p v)) := by
  obtain ⟨h1, h2, h3, h4, h5, h6, h7, h8, h9, h10⟩ := h
  refine ⟨h1, h2, h3, h4, h5, fun q => ?_, h7, h8, h9, h10⟩
  show gu (P_k P) p v q < 4
  unfold gu
  split
  · exact hv
  · exact h6 q
theorem wf_s {P : gP} {p v : Nat} (h : gWF P) (hv : v ≤ 40) : gWF (P_s_s P (gu (P_s P) p v)) := by
  obtain ⟨h1, h2, h3, h4, h5, h6, h7, h8, h9, h10⟩ := h
  refine ⟨h1, h2, h3, h4, h5, h6, fun q => ?_, h8, h9, h10⟩
  show gu (P_s P) p v q ≤ 40
  unfold gu
  split
  · exact hv
  · exact h7 q
theorem wf_w {P : gP} {p v : Nat} (h : gWF P) (hv : v ≤ 1000) : gWF (P_w_s P (gu (P_w P) p v)) := by
  obtain ⟨h1, h2, h3, h4, h5, h6, h7, h8, h9, h10⟩ := h
  refine ⟨h1, h2, h3, h4, h5, h6, h7, fun q => ?_, h9, h10⟩
  show gu (P_w P) p v q ≤ 1000
  unfold gu
  split
  · exact hv
  · exact h8 q
theorem wf_r {P : gP} {v : Nat} (h : gWF P) (hv : 1 ≤ v ∧ v ≤ 5) : gWF (P_r_s P v) := by
  obtain ⟨h1, h2, h3, h4, h5, h6, h7, h8, h9, h10⟩ := h
  exact ⟨h1, h2, hv, h4, h5, h6, h7, h8, h9, h10⟩
theorem wf_t {P : gP} {v : Nat} (h : gWF P) (hv : 1 ≤ v ∧ v ≤ 9) : gWF (P_t_s P v) := by
  obtain ⟨h1, h2, h3, h4, h5, h6, h7, h8, h9, h10⟩ := h
  exact ⟨h1, h2, h3, hv, h5, h6, h7, h8, h9, h10⟩
theorem wf_q {P : gP} {v : Nat} (h : gWF P) (hv : v ≤ P_q P) : gWF (P_q_s P v) := by
  obtain ⟨h1, h2, h3, h4, h5, h6, h7, h8, h9, h10⟩ := h
  exact ⟨h1, h2, h3, h4, Nat.le_trans hv h5, h6, h7, h8, h9, fun i => ⟨(h10 i).1, fun hi => (h10 i).2 (Nat.lt_of_lt_of_le hi hv)⟩⟩
/-- the page at 0 of the model changes at one place -/
theorem gKeep.st {σ u : gX} {τ : gM} {st : Nat → Int32} (h1 : X_xi u = X_xi σ) (h2 : X_im0 u = X_im0 σ) (h3 : X_im1 u = X_im1 σ) (h4 : X_seen u = X_seen σ) (h5 : X_tape u = X_tape σ) (h6 : X_rw u = X_rw σ) (hf : gFr 0 (M_state τ) st) : gKeep σ u τ (M_state_s τ st) :=
  ⟨⟨by rw [h1], rfl, h2, h3, fun j j1 _ => hf j (by omega)⟩, ⟨by rw [h1], rfl, h4, rfl⟩, ⟨by rw [h1], rfl, h5, rfl⟩, ⟨by rw [h1], rfl, by rw [h1], rfl, rfl, rfl⟩, h6, rfl, rfl, rfl⟩
theorem z_alter {σ : gX} {τ : gM} {x y z : Int32} (h : gRZ σ τ) : gOK σ τ (f_X0_alter σ x y z) (f_X7_alter τ x y z) := by
  obtain ⟨P, hh⟩ := h
  have h0 := hh
  obtain ⟨hw, hS, hM, -⟩ := hh
  have hR := hM.R
  have hn := hw.n
  have b46 : f_X7_alter_b46 τ x y z = some (-1, τ) := by
    unfold f_X7_alter_b46 f_X7_alter_b47
    rw [m_puts0]; rfl
  unfold f_X0_alter f_X7_alter
  rcases isOne2 (x := x) hn hS hM with ⟨p, h1, rfl, h3, h4⟩ | ⟨h1, h2, h3⟩
  · rw [h3, h4]
    rcases isPart2 (x := y) with ⟨w, w1, rfl, e1, e2⟩ | ⟨e1, e2, e3⟩
    · have w2 : w = 0 ∨ w = 1 := by omega
      show gOK σ τ ((f_X0_isPart (i3 w)).bind fun (r3, _) => if r3 = 0 then (some ((-1), σ)) else (if i3 w = 0 then (f_X0_alter_b31 σ (i3 p) (i3 w) z 3 0 (z.toInt64)) else (f_X0_alter_b31 σ (i3 p) (i3 w) z 40 0 (z.toInt64)))) (if i3 w = 0 then ((f_X7_in (z.toInt64) 0 3).bind fun (r3, _) => if r3 = 0 then (f_X7_alter_b25 τ (i3 p) (i3 w) z) else (f_X7_alter_b42 τ (i3 p) (i3 w) z)) else (f_X7_alter_b25 τ (i3 p) (i3 w) z))
      rw [e1]
      show gOK σ τ (if i3 w = 0 then (f_X0_alter_b31 σ (i3 p) (i3 w) z 3 0 (z.toInt64)) else (f_X0_alter_b31 σ (i3 p) (i3 w) z 40 0 (z.toInt64))) (if i3 w = 0 then ((f_X7_in (z.toInt64) 0 3).bind fun (r3, _) => if r3 = 0 then (f_X7_alter_b25 τ (i3 p) (i3 w) z) else (f_X7_alter_b42 τ (i3 p) (i3 w) z)) else (f_X7_alter_b25 τ (i3 p) (i3 w) z))
      rcases w2 with rfl | rfl
      · rw [if_pos (by decide), if_pos (by decide)]
        unfold f_X0_alter_b31
        rcases in_lit (x := z) (lo := 0) (hi := 3) (a := 0) (b := 3) rfl rfl with ⟨k, -, hk2, rfl, f1, f2⟩ | ⟨f1, f2, -⟩
        · rw [f1, f2]
          show gOK σ τ ((f_X5_of (X_now σ) (i3 p) (i3 0)).bind fun (r7, u8) => gs (X_now_s σ u8) fun s9 => (f_X5_becomes (X_now s9) (i3 p) (i3 0) (i3 k)).bind fun u11 => gs (X_now_s s9 u11) fun s12 => some (r7, s12)) (f_X7_alter_b42 τ (i3 p) (i3 0) (i3 k))
          rw [c_of (by omega) (by decide), Nat.add_zero, hS.hk (by omega)]
          show gOK σ τ ((f_X5_becomes (X_now σ) (i3 p) (i3 0) (i3 k)).bind fun u11 => gs (X_now_s σ u11) fun s12 => some (i3 (P_k P p), s12)) (f_X7_alter_b42 τ (i3 p) (i3 0) (i3 k))
          rw [c_becomes (by omega) (by decide) (by omega), Nat.add_zero]
          unfold f_X7_alter_b42 f_X7_alter_b47
          rw [i3_5, i3_mul, i3_add, m_puts1 (by omega), i3_add0, i3_sub0, Nat.mul_zero]
          refine gOK.page (P' := P_k_s P (gu (P_k P) p k)) (i3 (P_k P p)) h0 rfl ?_ (wf_k hw (by omega)) (hS.k (by omega)) (hM.on (gRM.k hR (p := p) (by omega)) rfl) rfl (gKeep.st rfl rfl rfl rfl rfl rfl (gFr.up (by omega) (by omega)))
          rw [← hR.hk (p := p) (by omega)]
          rfl
        · rw [f1, f2]
          show gOK σ τ (some (-1, σ)) (f_X7_alter_b25 τ (i3 p) (i3 0) z)
          unfold f_X7_alter_b25
          rw [if_neg (by decide), b46]
          exact gOK.rf _ h0
      · rw [if_neg (by decide), if_neg (by decide)]
        unfold f_X0_alter_b31 f_X7_alter_b25
        rw [if_pos (by decide)]
        rcases in_lit (x := z) (lo := 0) (hi := 40) (a := 0) (b := 40) rfl rfl with ⟨k, -, hk2, rfl, f1, f2⟩ | ⟨f1, f2, -⟩
        · rw [f1, f2]
          show gOK σ τ ((f_X5_of (X_now σ) (i3 p) (i3 1)).bind fun (r7, u8) => gs (X_now_s σ u8) fun s9 => (f_X5_becomes (X_now s9) (i3 p) (i3 1) (i3 k)).bind fun u11 => gs (X_now_s s9 u11) fun s12 => some (r7, s12)) (f_X7_alter_b42 τ (i3 p) (i3 1) (i3 k))
          rw [c_of (by omega) (by decide), hS.hs (by omega)]
          show gOK σ τ ((f_X5_becomes (X_now σ) (i3 p) (i3 1) (i3 k)).bind fun u11 => gs (X_now_s σ u11) fun s12 => some (i3 (P_s P p), s12)) (f_X7_alter_b42 τ (i3 p) (i3 1) (i3 k))
          rw [c_becomes (by omega) (by decide) (by omega)]
          unfold f_X7_alter_b42 f_X7_alter_b47
          rw [i3_5, i3_mul, i3_add, m_puts1 (by omega), i3_add0, i3_sub0]
          refine gOK.page (P' := P_s_s P (gu (P_s P) p k)) (i3 (P_s P p)) h0 rfl ?_ (wf_s hw (by omega)) (hS.s (by omega)) (hM.on (gRM.s hR (p := p) (by omega)) rfl) rfl (gKeep.st rfl rfl rfl rfl rfl rfl (gFr.up (by omega) (by omega)))
          rw [← hR.hs (p := p) (by omega)]
          rfl
        · rw [f1, f2]
          show gOK σ τ (some (-1, σ)) (f_X7_alter_b46 τ (i3 p) (i3 1) z)
          rw [b46]
          exact gOK.rf _ h0
    · show gOK σ τ ((f_X0_isPart y).bind fun (r3, _) => if r3 = 0 then (some ((-1), σ)) else (if y = 0 then (f_X0_alter_b31 σ (i3 p) y z 3 0 (z.toInt64)) else (f_X0_alter_b31 σ (i3 p) y z 40 0 (z.toInt64)))) (if y = 0 then ((f_X7_in (z.toInt64) 0 3).bind fun (r3, _) => if r3 = 0 then (f_X7_alter_b25 τ (i3 p) y z) else (f_X7_alter_b42 τ (i3 p) y z)) else (f_X7_alter_b25 τ (i3 p) y z))
      have y0 : ¬ y = 0 := fun e => e3 0 (by decide) e (by decide)
      rw [e1, g3_b, if_neg y0, if_neg y0]
      show gOK σ τ (some (-1, σ)) (f_X7_alter_b25 τ (i3 p) y z)
      unfold f_X7_alter_b25
      rw [if_neg (show ¬ y = 1 from fun e => e3 1 (by decide) e (by decide)), b46]
      exact gOK.rf _ h0
  · rw [h1, h2]
    show gOK σ τ (some (-1, σ)) (f_X7_alter_b46 τ x y z)
    rw [b46]
    exact gOK.rf _ h0
theorem z_room {σ : gX} {τ : gM} {x : Int32} (h : gRZ σ τ) : gOK σ τ (f_X0_room σ x) (f_X7_room τ x) := by
  obtain ⟨P, hh⟩ := h
  have h0 := hh
  obtain ⟨hw, hS, hM, -⟩ := hh
  have hR := hM.R
  unfold f_X0_room f_X7_room
  rcases in_lit (x := x) (lo := 1) (hi := 5) (a := 1) (b := 5) rfl rfl with ⟨k, hk1, hk2, rfl, f1, f2⟩ | ⟨f1, f2, -⟩
  · rw [f1, f2]
    show gOK σ τ (some (S_room (X_now σ), X_now_s σ (S_room_s (X_now σ) (i3 k)))) ((f_X7_puts τ 1 17 (i3 k) 2).bind fun (r3, u4) => some (r3, u4))
    rw [i3_17, m_puts1 (by decide), i3_2, hS.hr]
    refine gOK.page (P' := P_r_s P k) (i3 (P_r P)) h0 rfl ?_ (wf_r hw ⟨hk1, hk2⟩) hS.r (hM.on (gRM.r hR) rfl) rfl (gKeep.st rfl rfl rfl rfl rfl rfl (gFr.up (by omega) (by omega)))
    show some (M_state τ 17 + i3 2, _) = _
    rw [show M_state τ 17 = i3 (P_r P) - i3 2 from hR.hr, Int32.sub_add_cancel]
  · rw [f1, f2]
    show gOK σ τ (some (-1, σ)) ((f_X7_puts τ 0 17 x 2).bind fun (r3, u4) => some (r3, u4))
    rw [m_puts0]
    exact gOK.rf _ h0
theorem z_think {σ : gX} {τ : gM} {x : Int32} (h : gRZ σ τ) : gOK σ τ (f_X0_think σ x) (f_X7_think τ x) := by
  obtain ⟨P, hh⟩ := h
  have h0 := hh
  obtain ⟨hw, hS, hM, -⟩ := hh
  have hR := hM.R
  unfold f_X0_think f_X7_think
  rcases in_lit (x := x) (lo := 1) (hi := 9) (a := 1) (b := 9) rfl rfl with ⟨k, hk1, hk2, rfl, f1, f2⟩ | ⟨f1, f2, -⟩
  · rw [f1, f2]
    show gOK σ τ (some (S_think (X_now σ), X_now_s σ (S_think_s (X_now σ) (i3 k)))) ((f_X7_puts τ 1 18 (i3 k) 4).bind fun (r3, u4) => some (r3, u4))
    rw [i3_18, m_puts1 (by decide), i3_4, hS.ht]
    refine gOK.page (P' := P_t_s P k) (i3 (P_t P)) h0 rfl ?_ (wf_t hw ⟨hk1, hk2⟩) hS.t (hM.on (gRM.t hR) rfl) rfl (gKeep.st rfl rfl rfl rfl rfl rfl (gFr.up (by omega) (by omega)))
    show some (M_state τ 18 + i3 4, _) = _
    rw [show M_state τ 18 = i3 (P_t P) - i3 4 from hR.ht, Int32.sub_add_cancel]
  · rw [f1, f2]
    show gOK σ τ (some (-1, σ)) ((f_X7_puts τ 0 18 x 4).bind fun (r3, u4) => some (r3, u4))
    rw [m_puts0]
    exact gOK.rf _ h0
theorem z_cut {σ : gX} {τ : gM} {x : Int32} (h : gRZ σ τ) : gOK σ τ (f_X0_cut σ x) (f_X7_cut τ x) := by
  obtain ⟨P, hh⟩ := h
  have h0 := hh
  obtain ⟨hw, hS, hM, -⟩ := hh
  have hR := hM.R
  have hq := hw.q
  unfold f_X0_cut f_X7_cut
  rw [i3_27, g3_ld (by decide) (by decide), show M_state τ 27 = i3 (P_q P) from hR.hq, hS.hq]
  rcases in_lit (x := x) (lo := 0) (hi := P_q P) (a := 0) (b := (i3 (P_q P)).toInt64) rfl (by rw [Int32.toInt_toInt64, i3_int (by omega)]) with ⟨k, -, hk2, rfl, f1, f2⟩ | ⟨f1, f2, -⟩
  · rw [f1, f2]
    show gOK σ τ (some (i3 (P_q P), X_now_s σ (S_planned_s (X_now σ) (i3 k)))) ((f_X7_puts τ 1 (i3 27) (i3 k) 0).bind fun (r3, u4) => some (r3, u4))
    rw [m_puts1 (by decide), i3_add0, i3_sub0]
    refine gOK.page (P' := P_q_s P k) (i3 (P_q P)) h0 rfl ?_ (wf_q hw hk2) hS.q (hM.on (gRM.q hR) rfl) rfl (gKeep.st rfl rfl rfl rfl rfl rfl (gFr.up (by omega) (by omega)))
    show some (M_state τ 27, _) = _
    rw [show M_state τ 27 = i3 (P_q P) from hR.hq]
  · rw [f1, f2]
    show gOK σ τ (some (-1, σ)) ((f_X7_puts τ 0 (i3 27) x 0).bind fun (r3, u4) => some (r3, u4))
    rw [m_puts0]
    exact gOK.rf _ h0
theorem z_plan {σ : gX} {τ : gM} {x : Int32} (h : gRZ σ τ) : gOK σ τ (f_X0_plan σ x) (f_X7_plan τ x) := by
  obtain ⟨P, hh⟩ := h
  have h0 := hh
  obtain ⟨hw, hS, hM, -⟩ := hh
  have hR := hM.R
  have hq := hw.q
  have hn := hw.n
  have hq27 : M_state τ 27 = i3 (P_q P) := hR.hq
  unfold f_X0_plan f_X7_plan
  rcases isAct2 (x := x) hn hS hM with ⟨a, ha, rfl, h3, h4⟩ | ⟨h1, h2, h3⟩
  · have ha6 : a ≤ 6 := by unfold okact at ha; omega
    rw [h3, h4]
    show gOK σ τ (if (S_planned (X_now σ)) = 8 then (some ((-3), σ)) else (gst 8 (S_plan (X_now σ)) ((S_planned (X_now σ))) (vp_nar .byte ((i3 a).toInt8.toInt32)) fun g3 => gs (X_now_s σ (S_plan_s (X_now σ) g3)) fun s4 => gv (((S_planned (X_now s4))) + 1) fun v5 => gs (X_now_s s4 (S_planned_s (X_now s4) v5)) fun s6 => some ((S_planned (X_now s6)), s6)))
      (gld 168 (M_state τ) 27 fun v3 => if v3 = 8 then (some ((-3), τ)) else (gld 168 (M_state τ) 27 fun v4 => gst 168 (M_state τ) ((19 : Int32) + v4) (i3 a) fun g5 => gs (M_state_s τ g5) fun s6 => gld 168 (M_state s6) 27 fun v7 => gst 168 (M_state s6) 27 (v7 + 1) fun g8 => gs (M_state_s s6 g8) fun s9 => gld 168 (M_state s9) 27 fun v10 => some (v10, s9)))
    rw [hS.hq, i3_27, g3_ld (by decide) (by decide), hq27, i3_8, if3_eq (by omega) (by decide), if3_eq (by omega) (by decide)]
    by_cases e : P_q P = 8
    · rw [if_pos e, if_pos e]
      exact gOK.rf _ h0
    · rw [if_neg e, if_neg e, g3_ld (by decide) (by decide), hq27, i3_19, i3_add, g3_st (by omega) (by decide), g3_st (by omega) (by decide), i3_byte (by omega)]
      have hw' : gWF (P_q_s (P_p_s P (gu (P_p P) (P_q P) a)) (P_q P + 1)) := by
        obtain ⟨w1, w2, w3, w4, w5, w6, w7, w8, w9, w10⟩ := hw
        refine ⟨w1, w2, w3, w4, by show P_q P + 1 ≤ 8; omega, w6, w7, w8, w9, fun i => ?_⟩
        show gu (P_p P) (P_q P) a i ≤ 6 ∧ (i < P_q P + 1 → gu (P_p P) (P_q P) a i < P_n P ∨ gu (P_p P) (P_q P) a i = 5 ∨ gu (P_p P) (P_q P) a i = 6)
        by_cases ei : i = P_q P
        · subst ei
          rw [gu_same]
          exact ⟨ha6, fun _ => ha⟩
        · rw [gu_ne ei]
          exact ⟨(w10 i).1, fun hi => (w10 i).2 (by omega)⟩
      have hRM : gRM 0 (upd (upd (M_state τ) (19 + P_q P) (i3 a)) 27 (i3 (P_q P + 1))) (P_q_s (P_p_s P (gu (P_p P) (P_q P) a)) (P_q P + 1)) := by
        have := gRM.q (v := P_q P + 1) (gRM.p (v := a) hR (p := P_q P) (by omega))
        rwa [Nat.zero_add, Nat.zero_add] at this
      refine gOK.page (P' := P_q_s (P_p_s P (gu (P_p P) (P_q P) a)) (P_q P + 1)) (u := X_now_s σ (S_planned_s (S_plan_s (X_now σ) (upd (S_plan (X_now σ)) (P_q P) (i3 a))) (i3 (P_q P + 1)))) (v := M_state_s τ (upd (upd (M_state τ) (19 + P_q P) (i3 a)) 27 (i3 (P_q P + 1)))) (i3 (P_q P + 1)) h0 ?_ ?_ hw' ((hS.p (by omega)).q) (hM.on hRM rfl) rfl (gKeep.st rfl rfl rfl rfl rfl rfl (gFr.tr (gFr.up (by omega) (by omega)) (gFr.up (by omega) (by omega))))
      · show some (S_planned (X_now σ) + 1, X_now_s σ (S_planned_s (S_plan_s (X_now σ) (upd (S_plan (X_now σ)) (P_q P) (i3 a))) (S_planned (X_now σ) + 1))) = _
        rw [hS.hq, i3_1, i3_add]
      · show (gld 168 (upd (M_state τ) (19 + P_q P) (i3 a)) (i3 27) fun v7 => gst 168 (upd (M_state τ) (19 + P_q P) (i3 a)) (i3 27) (v7 + 1) fun g8 => gld 168 g8 (i3 27) fun v10 => some (v10, M_state_s τ g8)) = _
        rw [g3_ld (by decide) (by decide), upd_ne (by omega), hq27, g3_st (by decide) (by decide), g3_ld (by decide) (by decide), upd_same, i3_1, i3_add]
  · rw [h1, h2]
    exact gOK.rf _ h0
theorem z_thinks {σ : gX} {τ : gM} {x : Int32} (h : gRZ σ τ) : gOK σ τ (f_X0_thinks σ x) (f_X7_thinks τ x) := by
  obtain ⟨P, hh⟩ := h
  have h0 := hh
  obtain ⟨hw, hS, hM, -⟩ := hh
  have hn := hw.n
  unfold f_X0_thinks f_X7_thinks
  rcases isOne2 (x := x) hn hS hM with ⟨p, h1, rfl, h3, h4⟩ | ⟨h1, h2, h3⟩
  · rw [h3, h4]
    show gOK σ τ ((f_X5_waits (X_now σ) (i3 p)).bind fun (r3, u4) => gs (X_now_s σ u4) fun s5 => if r3 = 0 then (some ((-2), s5)) else ((f_X0_thinking ((X_xi s5), (X_now s5)) (i3 p)).bind fun (r6, u7) => gs (X_now_s (X_xi_s s5 u7.1) u7.2) fun s8 => some (r6, s8))) ((f_X7_waits τ 0 (i3 p)).bind fun (r3, u4) => if r3 = 0 then (some ((-2), u4)) else ((f_X7_thinksOn u4 0 (i3 p)).bind fun (r5, u6) => some (r5, u6)))
    rw [c_waits hS (by omega), i3_0, m_waits hM (by omega)]
    cases P_g P p
    · obtain ⟨s', e1, r1, w1, -⟩ := c_think (xi := X_xi σ) hS hw (p := p) (by omega)
      obtain ⟨st, e2, r2, n2, f2⟩ := m_think hM hw (p := p) (by omega)
      show gOK σ τ ((f_X0_thinking ((X_xi σ), (X_now σ)) (i3 p)).bind fun (r6, u7) => gs (X_now_s (X_xi_s σ u7.1) u7.2) fun s8 => some (r6, s8)) ((f_X7_thinksOn τ (i3 0) (i3 p)).bind fun (r5, u6) => some (r5, u6))
      rw [e1, e2]
      exact gOK.page (P' := (sp_think P p).2) (u := X_now_s σ s') (v := M_state_s τ st) _ h0 rfl rfl w1 r1 (hM.on r2 n2) n2 (gKeep.st rfl rfl rfl rfl rfl rfl f2)
    · exact gOK.rf _ h0
  · rw [h1, h2]
    exact gOK.rf _ h0
theorem z_tram {σ : gX} {τ : gM} (h : gRZ σ τ) : gOK σ τ (f_X0_tram σ) (f_X7_tram τ) := by
  obtain ⟨P, hh⟩ := h
  have h0 := hh
  obtain ⟨hw, hS, hM, -⟩ := hh
  unfold f_X0_tram f_X7_tram
  obtain ⟨s', e1, r1⟩ := c_tram hS hw
  obtain ⟨st, e2, r2, f2⟩ := m_tram hM hw
  rw [e1, i3_0, e2]
  exact gOK.page (P' := sp_tram P) (u := X_now_s σ s') (v := M_state_s τ st) _ h0 rfl rfl (sp_tram_wf hw) r1 (hM.on r2 rfl) rfl (gKeep.st rfl rfl rfl rfl rfl rfl f2)
theorem z_joy {σ : gX} {τ : gM} {x : Int32} (h : gRZ σ τ) : gOK σ τ (f_X0_joy σ x) (f_X7_joy τ x) := by
  obtain ⟨P, hh⟩ := h
  have h0 := hh
  obtain ⟨hw, hS, hM, -⟩ := hh
  have hn := hw.n
  have hR := hM.R
  unfold f_X0_joy f_X7_joy
  rcases isOne2 (x := x) hn hS hM with ⟨p, h1, rfl, h3, h4⟩ | ⟨h1, h2, h3⟩
  · rw [h3, h4]
    show gOK σ τ ((f_X5_waits (X_now σ) (i3 p)).bind fun (r3, u4) => gs (X_now_s σ u4) fun s5 => if r3 = 0 then (some ((-2), s5)) else ((f_X5_of (X_now s5) (i3 p) 1).bind fun (r6, u7) => gs (X_now_s s5 u7) fun s8 => (f_X5_becomes (X_now s8) (i3 p) 1 0).bind fun u10 => gs (X_now_s s8 u10) fun s11 => gst 5 (S_wept (X_now s11)) (i3 p) (vp_nar .short (-4)) fun g12 => gs (X_now_s s11 (S_wept_s (X_now s11) g12)) fun s13 => some (r6, s13)))
      ((f_X7_waits τ 0 (i3 p)).bind fun (r3, u4) => if r3 = 0 then (some ((-2), u4)) else (gld 168 (M_state u4) ((5 : Int32) + i3 p) fun v5 => gst 168 (M_state u4) ((5 : Int32) + i3 p) 0 fun g6 => gs (M_state_s u4 g6) fun s7 => gst 168 (M_state s7) ((10 : Int32) + i3 p) 0 fun g8 => gs (M_state_s s7 g8) fun s9 => some (v5, s9)))
    rw [c_waits hS (by omega), show f_X7_waits τ 0 (i3 p) = _ from m_waits (b := 0) hM (by omega)]
    cases P_g P p
    · show gOK σ τ ((f_X5_of (X_now σ) (i3 p) 1).bind fun (r6, u7) => gs (X_now_s σ u7) fun s8 => (f_X5_becomes (X_now s8) (i3 p) 1 0).bind fun u10 => gs (X_now_s s8 u10) fun s11 => gst 5 (S_wept (X_now s11)) (i3 p) (vp_nar .short (-4)) fun g12 => gs (X_now_s s11 (S_wept_s (X_now s11) g12)) fun s13 => some (r6, s13))
        (gld 168 (M_state τ) ((5 : Int32) + i3 p) fun v5 => gst 168 (M_state τ) ((5 : Int32) + i3 p) 0 fun g6 => gs (M_state_s τ g6) fun s7 => gst 168 (M_state s7) ((10 : Int32) + i3 p) 0 fun g8 => gs (M_state_s s7 g8) fun s9 => some (v5, s9))
      rw [i3_1, c_of (by omega) (by decide), hS.hs (by omega)]
      show gOK σ τ ((f_X5_becomes (X_now σ) (i3 p) (i3 1) 0).bind fun u10 => gs (X_now_s σ u10) fun s11 => gst 5 (S_wept (X_now s11)) (i3 p) (vp_nar .short (-4)) fun g12 => gs (X_now_s s11 (S_wept_s (X_now s11) g12)) fun s13 => some (i3 (P_s P p), s13))
        (gld 168 (M_state τ) ((5 : Int32) + i3 p) fun v5 => gst 168 (M_state τ) ((5 : Int32) + i3 p) 0 fun g6 => gs (M_state_s τ g6) fun s7 => gst 168 (M_state s7) ((10 : Int32) + i3 p) 0 fun g8 => gs (M_state_s s7 g8) fun s9 => some (v5, s9))
      rw [i3_0, i3_5, i3_10, i3_add, i3_add, c_becomes (by omega) (by decide) (by decide), g3_ld (by omega) (by decide), g3_st (by omega) (by decide), show M_state τ (5 + p) = i3 (P_s P p) from hR.hs (p := p) (by omega)]
      show gOK σ τ (gst 5 (S_wept (X_now σ)) (i3 p) (vp_nar .short (-4)) fun g12 => some (i3 (P_s P p), X_now_s σ (S_wept_s (S_one_s (X_now σ) (upd (S_one (X_now σ)) (3 * p + 1) (i3 0))) g12))) (gst 168 (upd (M_state τ) (5 + p) (i3 0)) (i3 (10 + p)) (i3 0) fun g8 => some (i3 (P_s P p), M_state_s τ g8))
      rw [g3_st (by omega) (by decide), g3_st (by omega) (by decide), show vp_nar .short (-4) = wpt 0 from i3_shortN]
      refine gOK.page (P' := P_w_s (P_s_s P (gu (P_s P) p 0)) (gu (P_w P) p 0)) (u := X_now_s σ (S_wept_s (S_one_s (X_now σ) (upd (S_one (X_now σ)) (3 * p + 1) (i3 0))) (upd (S_wept (X_now σ)) p (wpt 0)))) (v := M_state_s τ (upd (upd (M_state τ) (5 + p) (i3 0)) (10 + p) (i3 0))) _ h0 rfl rfl (wf_w (wf_s hw (by omega)) (by omega)) ((hS.s (by omega)).w (by omega)) (hM.on ?_ rfl) rfl (gKeep.st rfl rfl rfl rfl rfl rfl (gFr.tr (gFr.up (by omega) (by omega)) (gFr.up (by omega) (by omega))))
      exact gRM.w (gRM.s hR (p := p) (by omega)) (p := p) (by omega)
    · exact gOK.rf _ h0
  · rw [h1, h2]
    exact gOK.rf _ h0
