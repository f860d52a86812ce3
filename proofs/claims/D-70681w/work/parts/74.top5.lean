set_option maxRecDepth 100000
set_option maxHeartbeats 400000
/-! soon, drift -/
theorem n10 : ¬ (1 : Int32) = 0 := by decide
theorem first_w {Q : gP} (hn : P_n Q ≤ 5) : sp_first Q (fun p => (sp_waiting Q).testBit p) = sp_first Q (fun p => !P_g Q p && !(0 : Nat).testBit p) :=
  sp_first_congr (fun p hp => by
    show (sp_waiting Q).testBit p = (!P_g Q p && !(0 : Nat).testBit p)
    rw [waiting_bit hn (by omega), Nat.zero_testBit]
    simp [hp])
theorem atm_mx (τ : gM) (st : Nat → Int32) (x y z : Int32) (g : Nat → Int32) (Q : gP) (a : Nat) : ∃ x' y', atm (mx τ st x y z g) Q a = mx τ st x' y' z g := by
  unfold atm
  split
  · exact ⟨_, _, by rw [mx_w, mx_t]⟩
  · exact ⟨x, y, rfl⟩
theorem sp_weep_g (P : gP) (q : Nat) : P_g (sp_weep P q) = P_g P := by unfold sp_weep; rw [sp_told_g, sp_told_g]; rfl
theorem tl_g : ∀ c P T, P_g (tl c P T).2 = P_g P
  | 0, P, T => rfl
  | c + 1, P, T => by
    unfold tl
    split
    · rfl
    · rename_i q hq
      exact (tl_g c (sp_weep P q) (T ||| 2 ^ q)).trans (sp_weep_g P q)
theorem think_g (P : gP) (p : Nat) : P_g (sp_think P p).2 = P_g P := tl_g 5 (sp_sad P p (P_t P)) 0
theorem think_n (P : gP) (p : Nat) : P_n (sp_think P p).2 = P_n P := (tl_same 5 (sp_sad P p (P_t P)) 0).2.2
theorem c_soon_b {σ : gX} {τ : gM} {P : gP} {p : Nat} (h0 : gRZp σ τ P) (hp : p < P_n P) : ∀ c fuel fuel' xi t rr st x y z g Q, c ≤ 10 → c < fuel → c < fuel' → gRS t Q → gWF Q → gRM 112 st Q → P_n Q = P_n P → P_g Q = P_g P → gXq (X_xi σ) xi → gLo (M_state τ) st → gScr σ τ (f_X0_soon_b23 fuel (sx σ xi t rr) (i3 p) (i3 (10 - c))) (f_X7_soon_b17 fuel' (mx τ st x y z g) (i3 p) (i3 (10 - c))) := by
  obtain ⟨hw, hS, hM, -⟩ := id h0
  have hn := hw.n
  intro c
  induction c with
  | zero =>
    intro fuel fuel' xi t rr st x y z g Q hc hf hf' hr hwq hm hnq hgq hx hl
    obtain ⟨f, rfl⟩ := gsucc hf
    obtain ⟨f', rfl⟩ := gsucc hf'
    simp only [f_X0_soon_b23, f_X7_soon_b17]
    rw [if_pos (by decide), if_pos (by decide)]
    exact ⟨_, _, _, _, _, _, _, _, _, rfl, rfl, hx, hl⟩
  | succ c ih =>
    intro fuel fuel' xi t rr st x y z g Q hc hf hf' hr hwq hm hnq hgq hx hl
    obtain ⟨f, rfl⟩ := gsucc hf
    obtain ⟨f', rfl⟩ := gsucc hf'
    have hM0 : gMO 0 P (mx τ st x y z g) := mx_on hM (gLo.R hM.R hl) rfl (by decide)
    have hM1 : gMO 112 Q (mx τ st x y z g) := mx_on hM hm hnq (by decide)
    simp only [f_X0_soon_b23, f_X7_soon_b17]
    rw [if_neg (by rw [i3_9, i3_lt (by omega) (by omega)]; omega), if_neg (by rw [i3_9, i3_lt (by omega) (by omega)]; omega), sx__tried, c_waits hr (by omega), show f_X7_waits (mx τ st x y z g) 0 (i3 p) = _ from m_waits hM0 (by omega), hgq]
    simp only [g3_b, g3_s, sx_t, sx__tried, sx__xi]
    cases hg : P_g P p
    · rw [if_neg (by decide), if_neg (by decide), c_waiting hr hwq.n, show f_X7_nextOn (mx τ st x y z g) 112 0 = _ from m_first (T := 0) hM1 hwq (by decide)]
      simp only [g3_b, g3_s, sx_t, sx__tried]
      rw [c_first hr hwq (waiting_lt hwq.n), first_w hwq.n]
      simp only [g3_b, g3_s, sx_t, sx__tried, sx__xi]
      by_cases e : ovl (sp_first Q (fun p => !P_g Q p && !(0 : Nat).testBit p)) = i3 p
      · rw [if_pos e, if_pos e]
        exact ⟨_, _, _, _, _, _, _, _, _, rfl, rfl, hx, hl⟩
      · rw [if_neg e, if_neg e]
        have hgp : P_g Q p = false := by rw [hgq]; exact hg
        have e5 : ¬ p = 5 := by omega
        have e6 : ¬ p = 6 := by omega
        have hact : sp_act Q p = (sp_think Q p).2 := by unfold sp_act; rw [if_neg e5, if_neg e6, hgp]; rfl
        have ha : okact Q p := .inl (by omega)
        obtain ⟨t', e1, r1, w1, -⟩ := c_think (xi := xi) hr hwq (p := p) (by omega)
        obtain ⟨st', e2, r2, n2, f2⟩ := m_acts hM1 hwq ha (sp_wt_lt hr hwq ha)
        rw [mx_s] at e2
        rw [mx__state] at f2
        obtain ⟨x', y', e3⟩ := atm_mx τ st' x y z g Q p
        rw [e3] at e2
        rw [e1, e2]
        simp only [g3_b, g3_s, sx_t, sx_x]
        rw [g3_v, g3_v, i3_1, i3_add, show 10 - (c + 1) + 1 = 10 - c by omega]
        rw [hact] at r2
        exact ih f f' _ _ _ _ _ _ _ _ _ (by omega) (by omega) (by omega) r1 w1 r2 ((think_n Q p).trans hnq) ((think_g Q p).trans hgq) hx (hl.tr (f2.lo (by decide)))
    · rw [if_pos (by decide), if_pos (by decide)]
      exact ⟨_, _, _, _, _, _, _, _, _, rfl, rfl, hx, hl⟩
theorem c_asx {σ : gX} {xi : gXI} {t : gS} {rr : Nat → Int32} {P : gP} (hS : gRS (X_now σ) P) (hw : gWF P) : ∃ t', f_X5_as (X_tried (sx σ xi t rr), X_now (sx σ xi t rr)) = some (t', X_now σ) ∧ gRS t' P := c_as hS hw
theorem m_begx {P : gP} {τ : gM} {st : Nat → Int32} {x y z : Int32} {g : Nat → Int32} (h : gMO 0 P τ) (hl : gLo (M_state τ) st) : ∃ st', f_X7_begins (mx τ st x y z g) 0 = some (mx τ st' (i3 0) (i3 0) (ovl none) g) ∧ gRM 112 st' P ∧ gFr 112 st st' ∧ gLo (M_state τ) st' := by
  obtain ⟨st', e, r, f⟩ := m_begins (mx_on (x := x) (y := y) (z := z) (g := g) h (gLo.R h.R hl) rfl (by decide)) (by decide)
  rw [mx_qtm] at e
  rw [mx__state] at f
  exact ⟨st', e, r, f, hl.tr (f.lo (by decide))⟩
theorem z_soon {σ : gX} {τ : gM} {x : Int32} (h : gRZ σ τ) : gOK σ τ (f_X0_soon σ x) (f_X7_soon τ x) := by
  obtain ⟨P, hh⟩ := h
  have h0 := hh
  obtain ⟨hw, hS, hM, -⟩ := hh
  have hn := hw.n
  unfold f_X0_soon f_X7_soon
  rcases isOne2 (x := x) hn hS hM with ⟨p, h1, rfl, h3, h4⟩ | ⟨h1, h2, h3⟩
  · rw [h3, h4]
    simp only [g3_b]
    rw [if_neg (by decide), if_neg (by decide)]
    obtain ⟨t', e1, r1⟩ := c_asx (xi := X_xi σ) (t := X_tried σ) (rr := X_row σ) hS hw
    obtain ⟨st', e2, r2, f2, l2⟩ := m_begx (st := M_state τ) (x := M_weptBits τ) (y := M_weptTimes τ) (z := M_firstNot τ) (g := M_goneBy τ) hM gLo.rf
    have e1 : f_X5_as (X_tried σ, X_now σ) = some (t', X_now σ) := e1
    have e2 : f_X7_begins τ 0 = some (mx τ st' (i3 0) (i3 0) (ovl none) (M_goneBy τ)) := e2
    rw [e1, e2]
    simp only [g3_b, g3_s]
    have es : X_now_s (X_tried_s σ t') (X_now σ) = sx σ (X_xi σ) t' (X_row σ) := rfl
    rw [es]
    exact (c_soon_b h0 h1 10 2000 2000 _ _ _ _ _ _ _ _ P (by decide) (by decide) (by decide) r1 hw r2 rfl rfl gXq.rf l2).ok h0
  · rw [h1, h2]
    exact gOK.rf _ h0
/-! acts whose answer is not asked -/
def q_do (a : Nat) (Z : gQ) : gQ := (sp_act Z.1 a, Z.2.1 ||| sp_wt Z.1 a, Z.2.2.1 + pc5 (sp_wt Z.1 a), Z.2.2.2)
theorem q_doxi {xi : gXI} {Z : gQ} {a : Nat} (hZ : Z.2.1 < 32) (hT : sp_wt Z.1 a < 32) : axi (qxi xi Z) Z.1 a = qxi xi (q_do a Z) := by
  unfold axi q_do
  split
  · show I_often_s (I_weepers_s (qxi xi Z) (i3 Z.2.1 ||| i3 (sp_wt Z.1 a))) (i3 Z.2.2.1 + i3 (pc5 (sp_wt Z.1 a))) = _
    rw [i3_or5 hZ hT, i3_add]
    rfl
  · rename_i h
    have : sp_wt Z.1 a = 0 := by unfold sp_wt; rw [if_neg h]
    rw [this, Nat.or_zero, show pc5 0 = 0 from rfl, Nat.add_zero]
    rfl
theorem q_domx {τ : gM} {st : Nat → Int32} {z : Int32} {g : Nat → Int32} {Z : gQ} {a : Nat} (hZ : Z.2.1 < 32) (hT : sp_wt Z.1 a < 32) : atm (mx τ st (i3 Z.2.1) (i3 Z.2.2.1) z g) Z.1 a = mx τ st (i3 (q_do a Z).2.1) (i3 (q_do a Z).2.2.1) z g := by
  unfold atm q_do
  split
  · rw [mx_w, mx_t, mx__weptBits, mx__weptTimes, i3_or5 hZ hT, i3_add]
  · rename_i h
    have : sp_wt Z.1 a = 0 := by unfold sp_wt; rw [if_neg h]
    rw [this, Nat.or_zero, show pc5 0 = 0 from rfl, Nat.add_zero]
theorem c_do {σ : gX} {xi : gXI} {t : gS} {Z : gQ} {a : Nat} (h : gRS t Z.1) (hw : gWF Z.1) (ha : okact Z.1 a) (hZ : Z.2.1 < 32) : ∃ t' r, f_X0_acts ((qxi xi Z, t) : gA) (i3 a) = some (r, ((qxi xi (q_do a Z), t') : gA)) ∧ gRS t' (q_do a Z).1 ∧ gWF (q_do a Z).1 ∧ (q_do a Z).2.1 < 32 := by
  obtain ⟨t', e, r, w⟩ := c_acts (xi := qxi xi Z) h hw ha
  have hT := sp_wt_lt h hw ha
  rw [q_doxi hZ hT] at e
  exact ⟨t', _, e, r, w, or5_lt hZ hT⟩
theorem m_do {P : gP} {τ : gM} {st : Nat → Int32} {z : Int32} {g : Nat → Int32} {Z : gQ} {a : Nat} (hM : gMO 0 P τ) (hr : gRM 112 st Z.1) (hn : P_n Z.1 = P_n P) (hpg : isPg Z.1) (ha : okact Z.1 a) (hZ : Z.2.1 < 32) : ∃ st' r, f_X7_acts (mx τ st (i3 Z.2.1) (i3 Z.2.2.1) z g) (i3 a) = some (r, mx τ st' (i3 (q_do a Z).2.1) (i3 (q_do a Z).2.2.1) z g) ∧ gRM 112 st' (q_do a Z).1 ∧ P_n (q_do a Z).1 = P_n P ∧ gFr 112 st st' := by
  have hM1 : gMO 112 Z.1 (mx τ st (i3 Z.2.1) (i3 Z.2.2.1) z g) := mx_on hM hr hn (by decide)
  have hT := hpg.wt ha
  obtain ⟨st', e2, r2, n2, f2⟩ := m_acts hM1 hpg.1 ha hT
  rw [mx_s, q_domx hZ hT] at e2
  rw [mx__state] at f2
  exact ⟨st', _, e2, r2, n2.trans hn, f2⟩
theorem i3_mod {m k : Nat} (hm : m < 2147483648) (hk : k < 2147483648) : i3 m - i3 m / i3 k * i3 k = i3 (m % k) := by
  rw [i3_div hm hk, i3_mul, i3_sub (Nat.div_mul_le_self m k), Nat.mod_eq_sub_div_mul]
theorem shr16 (w : Int32) : ((w.toUInt32 >>> ((16 : Int32).toUInt32 &&& Int32.toUInt32 31)).toInt32) &&& 32767 = (w >>> ((16 : Int32) &&& 31)) &&& 32767 := by
  apply Int32.toBitVec.inj
  have h1 : (((w.toUInt32 >>> ((16 : Int32).toUInt32 &&& Int32.toUInt32 31)).toInt32) &&& 32767).toBitVec = (w.toBitVec >>> 16) &&& 32767#32 := rfl
  have h2 : ((w >>> ((16 : Int32) &&& 31)) &&& 32767).toBitVec = (w.toBitVec.sshiftRight 16) &&& 32767#32 := rfl
  rw [h1, h2]
  generalize w.toBitVec = v
  apply BitVec.eq_of_getLsbD_eq
  intro i hi
  rw [BitVec.getLsbD_and, BitVec.getLsbD_and, BitVec.getLsbD_ushiftRight, BitVec.getLsbD_sshiftRight]
  by_cases h : i < 15
  · simp [hi, show 16 + i < 32 by omega, show ¬ 32 ≤ i by omega]
  · have : (32767#32).getLsbD i = false := by
      have : ∀ i, i < 32 → 15 ≤ i → (32767#32).getLsbD i = false := by decide
      exact this i hi (by omega)
    rw [this, Bool.and_false, Bool.and_false]
theorem and15 (w : Int32) : ∃ m, m < 32768 ∧ w &&& 32767 = i3 m := by
  refine ⟨(w.toBitVec &&& 32767#32).toNat, ?_, ?_⟩
  · rw [BitVec.toNat_and]
    exact Nat.lt_of_le_of_lt Nat.and_le_right (by decide)
  · apply Int32.toBitVec.inj
    show w.toBitVec &&& 32767#32 = BitVec.ofNat 32 (w.toBitVec &&& 32767#32).toNat
    rw [BitVec.ofNat_toNat, BitVec.setWidth_eq]
theorem qxi_often (xi : gXI) (Z : gQ) : I_often (qxi xi Z) = i3 Z.2.2.1 := rfl
theorem c_drift_b {σ : gX} {τ : gM} {P : gP} {N w : Nat} (h0 : gRZp σ τ P) (hN : N ≤ 60) (hw1 : w ≤ 1) : ∀ c fuel fuel' xi t rr st z g Z v, c ≤ N → c < fuel → c < fuel' → gRS t Z.1 → gWF Z.1 → Z.2.1 < 32 → gRM 112 st Z.1 → P_n Z.1 = P_n P → gXq (X_xi σ) xi → gLo (M_state τ) st → gScr σ τ (f_X0_drift_b55 fuel (sx σ (qxi xi Z) t rr) (i3 N) (i3 w) v (i3 (N - c))) (f_X7_drift_b45 fuel' (mx τ st (i3 Z.2.1) (i3 Z.2.2.1) z g) (i3 N) (i3 w) v (i3 (N - c))) := by
  obtain ⟨hw, hS, hM, -⟩ := id h0
  have hn := hw.n
  intro c
  induction c with
  | zero =>
    intro fuel fuel' xi t rr st z g Z v hc hf hf' hr hwq hZ hm hnq hx hl
    obtain ⟨f, rfl⟩ := gsucc hf
    obtain ⟨f', rfl⟩ := gsucc hf'
    have hM1 : gMO 112 Z.1 (mx τ st (i3 Z.2.1) (i3 Z.2.2.1) z g) := mx_on hM hm hnq (by decide)
    simp only [f_X0_drift_b55, f_X7_drift_b45]
    generalize v * 1103515245 + 12345 = v'
    have hle : i3 N ≤ i3 (N - 0) := by rw [i3_le (by omega) (by omega)]; omega
    rw [if_pos hle, if_pos hle, sx__xi, qxi_often, mx__weptTimes]
    have w2 : w = 0 ∨ w = 1 := by omega
    rcases w2 with rfl | rfl
    · rw [if_pos (by decide), if_pos (by decide)]
      exact ⟨_, _, _, _, _, _, _, _, _, rfl, rfl, hx.tr (gXq.q _ _), hl⟩
    · rw [if_neg (by decide), if_neg (by decide), sx__tried, c_waiting hr hwq.n, show f_X7_nextOn (mx τ st (i3 Z.2.1) (i3 Z.2.2.1) z g) 112 0 = _ from m_first (T := 0) hM1 hwq (by decide)]
      simp only [g3_b, g3_s, sx_t, sx__tried]
      rw [c_first hr hwq (waiting_lt hwq.n), first_w hwq.n]
      exact ⟨_, _, _, _, _, _, _, _, _, rfl, rfl, hx.tr (gXq.q _ _), hl⟩
  | succ c ih =>
    intro fuel fuel' xi t rr st z g Z v hc hf hf' hr hwq hZ hm hnq hx hl
    obtain ⟨f, rfl⟩ := gsucc hf
    obtain ⟨f', rfl⟩ := gsucc hf'
    simp only [f_X0_drift_b55, f_X7_drift_b45]
    generalize v * 1103515245 + 12345 = v'
    have hle : ¬ i3 N ≤ i3 (N - (c + 1)) := by rw [i3_le (by omega) (by omega)]; omega
    rw [if_neg hle, if_neg hle, sx__now, hS.hn, mx__oneMany, hM.hn]
    rw [g3_v, shr16, i3_1, i3_add, i3_dv (a := P_n P + 1) (by omega) (by omega), g3_v, g3_v, i3_dv (a := P_n P + 1) (by omega) (by omega), g3_v]
    obtain ⟨m, hm1, em⟩ := and15 (v' >>> ((16 : Int32) &&& 31))
    rw [em, i3_mod (by omega) (by omega), if3_eq (by have := Nat.mod_lt m (show P_n P + 1 > 0 by omega); omega) (by omega), if3_eq (by have := Nat.mod_lt m (show P_n P + 1 > 0 by omega); omega) (by omega)]
    have hmd := Nat.mod_lt m (show P_n P + 1 > 0 by omega)
    generalize m % (P_n P + 1) = d at *
    have key : ∀ a, okact Z.1 a → gScr σ τ (f_X0_drift_b117 (f_X0_drift_b55 f) (sx σ (qxi xi Z) t rr) (i3 N) (i3 w) v' (i3 (N - (c + 1))) (i3 a)) (f_X7_drift_b96 (f_X7_drift_b45 f') (mx τ st (i3 Z.2.1) (i3 Z.2.2.1) z g) (i3 N) (i3 w) v' (i3 (N - (c + 1))) (i3 a)) := by
      intro a ha
      obtain ⟨t', r', e1, r1, w1, z1⟩ := c_do (σ := σ) (xi := xi) hr hwq ha hZ
      obtain ⟨st', r'', e2, r2, n2, f2⟩ := m_do (z := z) (g := g) hM hm hnq ⟨hwq, _, hr⟩ ha hZ
      unfold f_X0_drift_b117 f_X7_drift_b96
      rw [sx__xi, sx__tried, e1, e2]
      simp only [g3_b, g3_s, sx_t, sx_x]
      rw [g3_v, g3_v, i3_1, i3_add, show N - (c + 1) + 1 = N - c by omega]
      exact ih f f' _ _ _ _ _ _ _ _ (by omega) (by omega) (by omega) r1 w1 z1 r2 n2 hx (hl.tr (f2.lo (by decide)))
    by_cases ed : d = P_n P
    · rw [if_pos ed, if_pos ed]
      exact key 5 (.inr (.inl rfl))
    · rw [if_neg ed, if_neg ed]
      exact key d (.inl (by omega))
theorem z_drift {σ : gX} {τ : gM} {x y z : Int32} (h : gRZ σ τ) : gOK σ τ (f_X0_drift σ x y z) (f_X7_drift τ x y z) := by
  obtain ⟨P, hh⟩ := h
  have h0 := hh
  obtain ⟨hw, hS, hM, -⟩ := hh
  have hn := hw.n
  unfold f_X0_drift f_X7_drift
  rcases in_lit (x := y) (lo := 1) (hi := 60) (a := 1) (b := 60) rfl rfl with ⟨N, hN1, hN, rfl, f1, f2⟩ | ⟨f1, f2, -⟩
  · rw [f1, f2]
    simp only [g3_b]
    rw [if_neg n10, if_neg n10]
    rcases isPart2 (x := z) with ⟨w, w1, rfl, e1, e2⟩ | ⟨e1, e2, e3⟩
    · rw [e1, e2]
      simp only [g3_b]
      rw [if_neg n10, if_neg n10, hS.hn, hM.hn, i3_0, if3_eq (by omega) (by decide), if3_eq (by omega) (by decide)]
      by_cases e0 : P_n P = 0
      · rw [if_pos e0, if_pos e0]
        exact gOK.rf _ h0
      · rw [if_neg e0, if_neg e0]
        obtain ⟨t', e1, r1⟩ := c_asx (xi := X_xi σ) (t := X_tried σ) (rr := X_row σ) hS hw
        obtain ⟨st', e2, r2, f2, l2⟩ := m_begx (st := M_state τ) (x := M_weptBits τ) (y := M_weptTimes τ) (z := M_firstNot τ) (g := M_goneBy τ) hM gLo.rf
        have e1 : f_X5_as (X_tried σ, X_now σ) = some (t', X_now σ) := e1
        have e2 : f_X7_begins τ (i3 0) = some (mx τ st' (i3 0) (i3 0) (ovl none) (M_goneBy τ)) := e2
        rw [e1, e2]
        simp only [g3_b, g3_s]
        have es : X_now_s (X_tried_s σ t') (X_now σ) = sx σ (X_xi σ) t' (X_row σ) := rfl
        have eb : f_X0_begins (X_xi (sx σ (X_xi σ) t' (X_row σ))) = some (qxi (X_xi σ) (P, 0, 0, none)) := rfl
        rw [es, eb]
        simp only [g3_b, g3_s, sx_x]
        have := c_drift_b (w := w) h0 hN w1 N 2000 2000 (X_xi σ) t' (X_row σ) st' (ovl none) (M_goneBy τ) (P, 0, 0, none) x (by omega) (by omega) (by omega) r1 hw (show 0 < 32 by decide) r2 rfl gXq.rf l2
        rw [Nat.sub_self] at this
        exact this.ok h0
    · rw [e1, e2]
      exact gOK.rf _ h0
  · rw [f1, f2]
    exact gOK.rf _ h0
