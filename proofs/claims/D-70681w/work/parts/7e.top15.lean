set_option maxRecDepth 100000
set_option maxHeartbeats 400000
/-! home -/
def rowQ (d : Nat → Nat) (k i : Nat) (Q : gP) : gP := fo (fun j Q => sp_act Q (d j)) k i Q
theorem rowZQ (d : Nat → Nat) : ∀ k i Z, (rowZ d k i Z).1 = rowQ d k i Z.1
  | 0, _, _ => rfl
  | k + 1, i, Z => rowZQ d k (i + 1) (q_do (d i) Z)
theorem c_home_in {σ : gX} {P : gP} {N p : Nat} {rr : Nat → Int32} {d : Nat → Nat} (hp : p < 5) (hN : N < 4) (hrr : ∀ j, j < N → rr j = i3 (d j)) (hok : ∀ j, j < N → okact P (d j)) : ∀ k fuel i xi t Q, i + k = N → k < fuel → gRS t Q → gWF Q → P_n Q = P_n P → ∃ xi' t', f_X0_isHome_b13 fuel (sx σ xi t rr) (i3 p) (i3 N) (i3 i) = some (bI ((sp_tramT (rowQ d k i Q)).testBit p), sx σ xi' t' rr) ∧ gXq xi xi' := by
  intro k
  induction k with
  | zero =>
    intro fuel i xi t Q hi hf hr hw hnn
    obtain ⟨f, rfl⟩ := gsucc hf
    obtain ⟨t', e, r⟩ := c_tram hr hw
    refine ⟨xi, t', ?_, gXq.rf⟩
    simp only [f_X0_isHome_b13]
    rw [if_pos (by rw [i3_le (by omega) (by omega)]; omega), sx__tried, e]
    simp only [g3_b, g3_s, sx_t]
    rw [c_has (sp_tram_sub hw.n).1 hp]
    simp only [g3_b]
    show gzr (i3 (if (sp_tramT Q).testBit p then 1 else 0)) _ = some (bI ((sp_tramT Q).testBit p), _)
    cases (sp_tramT Q).testBit p <;> rfl
  | succ k ih =>
    intro fuel i xi t Q hi hf hr hw hnn
    obtain ⟨f, rfl⟩ := gsucc hf
    have ha : okact Q (d i) := by have := hok i (by omega); unfold okact at this ⊢; rw [hnn]; exact this
    obtain ⟨t1, e1, r1, w1⟩ := c_acts (xi := xi) hr hw ha
    obtain ⟨xi', t', e, h⟩ := ih f (i + 1) (axi xi Q (d i)) t1 (sp_act Q (d i)) (by omega) (by omega) r1 w1 ((sp_act_same Q _).2.2.trans hnn)
    refine ⟨xi', t', ?_, (gXq.a _ _ _).tr h⟩
    refine Eq.trans ?_ e
    simp only [f_X0_isHome_b13]
    rw [if_neg (by rw [i3_le (by omega) (by omega)]; omega), sx__row, g3_ld (by omega) (by decide), hrr i (by omega), sx__xi, sx__tried, e1]
    simp only [g3_b, g3_s, sx_x, sx_t]
    rw [g3_v, i3_1, i3_add]
theorem okact_5 {P : gP} {N c j : Nat} (hj : j < N) : (vdg (P_n P) false (dig 5 N c j) = true ↔ okact P (dig 5 N c j)) := by
  have : dig 5 N c j < 5 := Nat.mod_lt _ (by decide)
  unfold vdg okact
  simp
  omega
theorem pw5 {N : Nat} (h : N < 4) : 5 ^ N ≤ 125 := Nat.le_trans (Nat.pow_le_pow_right (n := 5) (by decide) (show N ≤ 3 by omega)) (by decide)
theorem rowQ_congr {d d' : Nat → Nat} {N : Nat} {Q : gP} (h : ∀ i, i < N → d i = d' i) : rowQ d N 0 Q = rowQ d' N 0 Q := fo_congr _ _ _ (fun p _ hp => by rw [h p (by omega)])
theorem c_home_mid {σ : gX} {τ : gM} {P : gP} {N p : Nat} {w : Int32} (h0 : gRZp σ τ P) (hp : p < P_n P) (hN : N < 4) (hwh : w = i3 0 ∨ ∃ q, 10 ≤ q ∧ q ≤ 12 ∧ w = i3 q) {kc : gX → Int32 → Int32 → Int32 → Option (Int32 × gX)} {km : gM → Int32 → Int32 → Int32 → Option (Int32 × gM)}
    (hk : ∀ xi t rr st x y z g, gXq (X_xi σ) xi → gLo (M_state τ) st → gScr σ τ (kc (sx σ xi t rr) (i3 p) w (i3 (N + 1))) (km (mx τ st x y z g) (i3 p) w (i3 (N + 1)))) : ∀ K fuel fuel' xi t rr st x y z g c, c + K = 5 ^ N → P_n P ^ N - rk (P_n P) false N c < fuel → K < fuel' → gXq (X_xi σ) xi → gLo (M_state τ) st →
    gScr σ τ (f_X0_home_b46 kc fuel (sx σ xi t rr) (i3 p) w (i3 N) (i3 (rk (P_n P) false N c))) (f_X7_home_b50 km fuel' (mx τ st x y z g) (i3 p) w (i3 N) (i3 c)) := by
  obtain ⟨hw, hS, hM, -⟩ := id h0
  have hn := hw.n
  have h5 := pw5 hN
  have hB := pow_b (P_n P) (by omega) N (by omega)
  intro K
  induction K with
  | zero =>
    intro fuel fuel' xi t rr st x y z g c hc hf hf' hx hl
    obtain ⟨f, rfl⟩ := gsucc hf
    obtain ⟨f', rfl⟩ := gsucc hf'
    have hc5 : c = 5 ^ N := by omega
    have hrk : rk (P_n P) false N c = P_n P ^ N := by rw [hc5]; exact rk_51 _ (by omega) _ hN
    simp only [f_X0_home_b46, f_X7_home_b50]
    rw [sx__now, hS.hn, c_pow (P_n P) (by omega) N (by omega), i3_5, m_pow 5 (by decide) N (by omega)]
    simp only [g3_b]
    rw [if_pos (by rw [hrk, i3_le (by omega) (by omega)]; omega), if_pos (by rw [i3_le (by omega) (by omega)]; omega), g3_v, g3_v, i3_1, i3_add]
    exact hk _ _ _ _ _ _ _ _ hx hl
  | succ K ih =>
    intro fuel fuel' xi t rr st x y z g c hc hf hf' hx hl
    obtain ⟨f', rfl⟩ := gsucc hf'
    have hc5 : c < 5 ^ N := by omega
    have hr2 := rk_52 (P_n P) (by omega) N hN c hc5
    have hr3 := rk_53 (P_n P) (by omega) N hN c hc5
    obtain ⟨st1, x1, y1, z1, m1, l1, hh⟩ := m_rowg (x := x) (y := y) (z := z) (g := g) (B := 5) (N := N) (c := c) (ok := fun i => vdg (P_n P) false (dig 5 N c i)) hS hw hM (by decide) (by decide) (by omega) (by omega) (fun j hj => okact_5 hj) hl
    have hvo : okd (fun i => vdg (P_n P) false (dig 5 N c i)) N 0 = vld (P_n P) false N c := vld_okd (mi := false) (vld_5 (P_n P) (by omega) N hN c hc5)
    rw [hvo] at m1 hh
    have hMo : f_X7_home_b50 km (f' + 1) (mx τ st x y z g) (i3 p) w (i3 N) (i3 c) = ((f_X7_rowGoes (mx τ st x y z g) (i3 c) 5 (i3 N)).bind fun (r10, u11) => if r10 = 0 then (f_X7_home_b118 km (f_X7_home_b50 km f') u11 (i3 p) w (i3 N) (i3 c)) else ((f_X7_tramOn u11 112).bind fun (r12, u13) => if ((r12 >>> (i3 p &&& 31)) &&& 1) = 1 then (if w = 0 then (some (i3 N, u13)) else (if i3 N ≤ (w - 10) then (some ((-4), u13)) else ((f_X7_figureOf (i3 c) 5 (i3 N) (w - 10)).bind fun (r14, _) => some (r14, u13)))) else (f_X7_home_b118 km (f_X7_home_b50 km f') u13 (i3 p) w (i3 N) (i3 c)))) := by
      simp only [f_X7_home_b50]
      rw [show f_X7_powerOf 5 (i3 N) = _ from m_pow 5 (by decide) N (by omega)]
      simp only [g3_b]
      rw [if_neg (by rw [i3_le (by omega) (by omega)]; omega)]
    rw [hMo, show f_X7_rowGoes (mx τ st x y z g) (i3 c) 5 (i3 N) = _ from m1]
    simp only [g3_b]
    cases hv : vld (P_n P) false N c
    · rw [hv] at hr2
      have hr2 : rk (P_n P) false N (c + 1) = rk (P_n P) false N c := hr2
      rw [if_pos (by decide)]
      unfold f_X7_home_b118
      rw [g3_v, i3_1, i3_add, ← hr2]
      exact ih fuel f' xi t rr st1 x1 y1 z1 g (c + 1) (by omega) (by rw [hr2]; exact hf) (by omega) hx l1
    · rw [hv] at hr2
      have hr2 : rk (P_n P) false N (c + 1) = rk (P_n P) false N c + 1 := hr2
      have hr4 := rk_54 (P_n P) (by omega) N hN c hc5 hv
      have hr5 := rk_55 (P_n P) (by omega) N hN c hc5 hv
      obtain ⟨f, rfl⟩ := gsucc hf
      obtain ⟨hx1, hy1, hR1, hn1, hp1, hz1⟩ := hh hv
      rw [rowZQ] at hR1 hn1 hp1
      have hn1 : P_n (rowQ (dig 5 N c) N 0 P) = P_n P := hn1
      have hokc : ∀ j, j < N → okact P (dig (P_n P) N (rk (P_n P) false N c) j) := fun j hj => by
        rw [hr5 j hj]
        have := (okd_all (fun i => vdg (P_n P) false (dig 5 N c i)) N 0).mp (by rw [hvo]; exact hv) j (by omega) (by omega)
        exact (okact_5 hj).mp this
      have hQe : rowQ (dig (P_n P) N (rk (P_n P) false N c)) N 0 P = rowQ (dig 5 N c) N 0 P := rowQ_congr hr5
      obtain ⟨t1, e1, r1⟩ := c_asx (xi := xi) (t := t) (rr := rowF (P_n P) N (rk (P_n P) false N c) rr) hS hw
      obtain ⟨xi2, t2, e2, q2⟩ := c_home_in (σ := σ) (P := P) (N := N) (p := p) (rr := rowF (P_n P) N (rk (P_n P) false N c) rr) (d := dig (P_n P) N (rk (P_n P) false N c)) (by omega) hN (fun j hj => by unfold rowF; rw [if_pos hj]) hokc N 2000 0 xi t1 P (by omega) (by omega) r1 hw rfl
      rw [hQe] at e2
      obtain ⟨st3, e3, r3, f3⟩ := m_tram (mx_on (x := x1) (y := y1) (z := z1) (g := g) hM hR1 hn1 (by decide)) hp1.1
      rw [mx_s] at e3
      rw [mx__state] at f3
      have hT := (sp_tram_sub hp1.1.n).1
      have l3 := l1.tr (f3.lo (by decide))
      have hCo : f_X0_home_b46 kc (f + 1) (sx σ xi t rr) (i3 p) w (i3 N) (i3 (rk (P_n P) false N c)) = (if bI ((sp_tramT (rowQ (dig 5 N c) N 0 P)).testBit p) = 0 then (gv (i3 (rk (P_n P) false N c) + 1) fun v15 => (f_X0_home_b46 kc f) (sx σ xi2 t2 (rowF (P_n P) N (rk (P_n P) false N c) rr)) (i3 p) w (i3 N) v15) else (if w = 0 then (some (i3 N, sx σ xi2 t2 (rowF (P_n P) N (rk (P_n P) false N c) rr))) else (if i3 N ≤ (w - 10) then (some ((-4), sx σ xi2 t2 (rowF (P_n P) N (rk (P_n P) false N c) rr))) else (gld 4 (rowF (P_n P) N (rk (P_n P) false N c) rr) (w - 10) fun v16 => some (v16, sx σ xi2 t2 (rowF (P_n P) N (rk (P_n P) false N c) rr)))))) := by
        simp only [f_X0_home_b46]
        rw [sx__now, hS.hn, c_pow (P_n P) (by omega) N (by omega)]
        simp only [g3_b]
        rw [if_neg (by rw [i3_le (by omega) (by omega)]; omega), c_row (by omega) (by omega) (by omega) (by omega)]
        simp only [g3_b]
        unfold f_X0_isHome
        rw [e1]
        simp only [g3_b, g3_s, sx_t, sx_n]
        rw [show f_X0_isHome_b13 2000 (sx σ xi t1 (rowF (P_n P) N (rk (P_n P) false N c) rr)) (i3 p) (i3 N) 0 = _ from e2]
        simp only [g3_b, sx__row]
      rw [hCo, if_neg (show ¬ bI true = 0 by decide), show f_X7_tramOn (mx τ st1 x1 y1 z1 g) 112 = _ from e3]
      simp only [g3_b]
      rw [i3_31, i3_1, i3_bit5 hT (by omega)]
      cases hb : (sp_tramT (rowQ (dig 5 N c) N 0 P)).testBit p
      · rw [if_pos (show bI false = 0 from rfl), if_neg (show ¬ i3 (if false = true then 1 else 0) = i3 1 by decide)]
        unfold f_X7_home_b118
        rw [g3_v, g3_v, i3_1, i3_add, i3_add, ← hr2]
        exact ih f f' _ _ _ _ _ _ _ _ (c + 1) (by omega) (by omega) (by omega) (hx.tr q2) l3
      · rw [if_neg (show ¬ bI true = 0 by decide), if_pos (show i3 (if true = true then 1 else 0) = i3 1 from rfl)]
        rcases hwh with rfl | ⟨q, q1, q2', rfl⟩
        · rw [if_pos (show i3 0 = 0 from rfl), if_pos (show i3 0 = 0 from rfl)]
          exact ⟨_, _, _, _, _, _, _, _, _, rfl, rfl, hx.tr q2, l3⟩
        · have e0 : ¬ i3 q = 0 := by rw [i3_0, i3_eq (by omega) (by decide)]; omega
          rw [if_neg e0, if_neg e0, i3_10, i3_sub (by omega), if3_le (by omega) (by omega), if3_le (by omega) (by omega)]
          by_cases e : N ≤ q - 10
          · rw [if_pos e, if_pos e]
            exact ⟨_, _, _, _, _, _, _, _, _, rfl, rfl, hx.tr q2, l3⟩
          · rw [if_neg e, if_neg e, g3_ld (by omega) (by decide), show rowF (P_n P) N (rk (P_n P) false N c) rr (q - 10) = i3 (dig 5 N c (q - 10)) by unfold rowF; rw [if_pos (by omega), hr5 _ (by omega)], i3_5, m_fig (by decide) (by decide) (by omega) (by omega) (by omega)]
            exact ⟨_, _, _, _, _, _, _, _, _, rfl, rfl, hx.tr q2, l3⟩
theorem c_home_out {σ : gX} {τ : gM} {P : gP} {p : Nat} {w : Int32} (h0 : gRZp σ τ P) (hp : p < P_n P) (hwh : w = i3 0 ∨ ∃ q, 10 ≤ q ∧ q ≤ 12 ∧ w = i3 q) : ∀ c fuel fuel' xi t rr st x y z g N, N + c = 4 → c < fuel → c < fuel' → gXq (X_xi σ) xi → gLo (M_state τ) st → gScr σ τ (f_X0_home_b38 fuel (sx σ xi t rr) (i3 p) w (i3 N)) (f_X7_home_b42 fuel' (mx τ st x y z g) (i3 p) w (i3 N)) := by
  have hn := h0.1.n
  intro c
  induction c with
  | zero =>
    intro fuel fuel' xi t rr st x y z g N hN hf hf' hx hl
    obtain ⟨f, rfl⟩ := gsucc hf
    obtain ⟨f', rfl⟩ := gsucc hf'
    have : N = 4 := by omega
    subst this
    simp only [f_X0_home_b38, f_X7_home_b42]
    rw [if_pos (by decide), if_pos (by decide)]
    exact ⟨_, _, _, _, _, _, _, _, _, rfl, rfl, hx, hl⟩
  | succ c ih =>
    intro fuel fuel' xi t rr st x y z g N hN hf hf' hx hl
    obtain ⟨f, rfl⟩ := gsucc hf
    obtain ⟨f', rfl⟩ := gsucc hf'
    have h5 := pw5 (show N < 4 by omega)
    have hB := pow_b (P_n P) (by omega) N (by omega)
    have hr0 := rk_50 (P_n P) (by omega) N (by omega)
    simp only [f_X0_home_b38, f_X7_home_b42]
    rw [if_neg (by rw [i3_3, i3_lt (by omega) (by omega)]; omega), if_neg (by rw [i3_4, i3_le (by omega) (by omega)]; omega)]
    have := c_home_mid (w := w) h0 hp (show N < 4 by omega) hwh (kc := f_X0_home_b38 f) (km := f_X7_home_b42 f') (fun xi t rr st x y z g hx hl => ih f f' _ _ _ _ _ _ _ _ (N + 1) (by omega) (by omega) (by omega) hx hl) (5 ^ N) 2000 2000 xi t rr st x y z g 0 (by omega) (by omega) (by omega) hx hl
    rw [hr0] at this
    exact this
theorem z_home {σ : gX} {τ : gM} {x y : Int32} (h : gRZ σ τ) : gOK σ τ (f_X0_home σ x y) (f_X7_home τ x y) := by
  obtain ⟨P, hh⟩ := h
  have h0 := hh
  obtain ⟨hw, hS, hM, -⟩ := hh
  have hn := hw.n
  unfold f_X0_home f_X7_home
  rcases isOne2 (x := x) hn hS hM with ⟨p, h1, rfl, h3, h4⟩ | ⟨h1, h2, h3⟩
  · rw [h3, h4]
    simp only [g3_b]
    rw [if_neg n10, if_neg n10]
    have key : (y = i3 0 ∨ ∃ q, 10 ≤ q ∧ q ≤ 12 ∧ y = i3 q) → gOK σ τ (f_X0_home_b22 σ (i3 p) y) (f_X7_home_b28 τ (i3 p) y) := by
      intro hy
      unfold f_X0_home_b22 f_X7_home_b28
      rw [c_waits hS (by omega), show f_X7_waits τ 0 (i3 p) = _ from m_waits (b := 0) hM (by omega)]
      simp only [g3_b, g3_s]
      cases P_g P p
      · rw [if_neg (by decide), if_neg (by decide)]
        exact (c_home_out (w := y) h0 h1 hy 4 2000 2000 (X_xi σ) (X_tried σ) (X_row σ) (M_state τ) (M_weptBits τ) (M_weptTimes τ) (M_firstNot τ) (M_goneBy τ) 0 rfl (by decide) (by decide) gXq.rf gLo.rf).ok h0
      · exact gOK.rf _ h0
    by_cases y0 : y = 0
    · rw [if_pos y0, if_pos y0]
      exact key (.inl y0)
    · rw [if_neg y0, if_neg y0]
      unfold f_X0_isRowPart
      rcases in_lit (x := y) (lo := 10) (hi := 12) (a := 10) (b := 12) rfl rfl with ⟨q, q1, q2, rfl, g1, g2⟩ | ⟨g1, g2, -⟩
      · rw [show f_X0_in (i3 q).toInt64 10 ((((10 : Int32) + 3) - 1).toInt64) = some (1, ()) from g1, g2]
        exact key (.inr ⟨q, q1, q2, rfl⟩)
      · rw [show f_X0_in y.toInt64 10 ((((10 : Int32) + 3) - 1).toInt64) = some (0, ()) from g1, g2]
        exact gOK.rf _ h0
  · rw [h1, h2]
    exact gOK.rf _ h0
