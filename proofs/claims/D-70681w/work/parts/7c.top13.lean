set_option maxRecDepth 100000
set_option maxHeartbeats 400000
/-! a row of acts is tried -/
def rowZ (d : Nat → Nat) (k i : Nat) (Z : gQ) : gQ := fo (fun j Z => q_do (d j) Z) k i Z
def okd (ok : Nat → Bool) (k i : Nat) : Bool := match k with
  | 0 => true
  | k + 1 => ok i && okd ok k (i + 1)
theorem q_do_pg {Z : gQ} {a : Nat} (h : isPg Z.1) (ha : okact Z.1 a) (hZ : Z.2.1 < 32) : isPg (q_do a Z).1 ∧ (q_do a Z).2.1 < 32 := ⟨h.act ha, or5_lt hZ (h.wt ha)⟩
theorem m_row_b {σ : gX} {τ : gM} {P : gP} {B N c : Nat} {g : Nat → Int32} {ok : Nat → Bool} (hS : gRS (X_now σ) P) (hM : gMO 0 P τ) (hn : P_n P ≤ 5) (hB : 0 < B) (hB6 : B < 7) (hN : N < 5) (hc : c < 2147483648) (hok : ∀ j, j < N → (ok j = true ↔ okact P (dig B N c j))) : ∀ k fuel i st z Z, i + k = N → k < fuel → gRM 112 st Z.1 → P_n Z.1 = P_n P → isPg Z.1 → Z.2.1 < 32 → gLo (M_state τ) st →
    ∃ st' x' y', f_X7_rowGoes_b8 fuel (mx τ st (i3 Z.2.1) (i3 Z.2.2.1) z g) (i3 c) (i3 B) (i3 N) (i3 i) = some (bI (okd ok k i), mx τ st' x' y' z g) ∧ gLo (M_state τ) st' ∧ (okd ok k i = true → x' = i3 (rowZ (dig B N c) k i Z).2.1 ∧ y' = i3 (rowZ (dig B N c) k i Z).2.2.1 ∧ gRM 112 st' (rowZ (dig B N c) k i Z).1 ∧ P_n (rowZ (dig B N c) k i Z).1 = P_n P ∧ isPg (rowZ (dig B N c) k i Z).1 ∧ (rowZ (dig B N c) k i Z).2.1 < 32) := by
  intro k
  induction k with
  | zero =>
    intro fuel i st z Z hi hf hr hnn hpg hZ hl
    obtain ⟨f, rfl⟩ := gsucc hf
    refine ⟨st, _, _, ?_, hl, fun _ => ⟨rfl, rfl, hr, hnn, hpg, hZ⟩⟩
    simp only [f_X7_rowGoes_b8]
    rw [if_pos (by rw [i3_le (by omega) (by omega)]; omega)]
    rfl
  | succ k ih =>
    intro fuel i st z Z hi hf hr hnn hpg hZ hl
    obtain ⟨f, rfl⟩ := gsucc hf
    have hM0 : gMO 0 P (mx τ st (i3 Z.2.1) (i3 Z.2.2.1) z g) := mx_on hM (gLo.R hM.R hl) rfl (by decide)
    have hd : dig B N c i < 2147483648 := Nat.lt_of_lt_of_le (Nat.mod_lt _ hB) (by omega)
    simp only [f_X7_rowGoes_b8]
    rw [if_neg (by rw [i3_le (by omega) (by omega)]; omega), m_fig hB hB6 hN (by omega) hc]
    simp only [g3_b]
    have hoki := hok i (by omega)
    rcases isAct2 (x := i3 (dig B N c i)) hn hS hM0 with ⟨a, ha, ea, -, e2⟩ | ⟨-, e2, e3⟩
    · have ea : dig B N c i = a := by
        have h6 : a < 2147483648 := by unfold okact at ha; omega
        have := i3_eq hd h6
        rwa [this] at ea
      rw [e2]
      simp only [g3_b]
      rw [if_neg n10]
      have ha' : okact Z.1 (dig B N c i) := by rw [ea]; unfold okact at ha ⊢; rw [hnn]; exact ha
      have hoi : ok i = true := hoki.mpr (by rw [ea]; exact ha)
      obtain ⟨st1, r1, m1, q1, n1, f1⟩ := m_do (z := z) (g := g) hM hr hnn hpg ha' hZ
      obtain ⟨p1, z1⟩ := q_do_pg hpg ha' hZ
      rw [m1]
      simp only [g3_b]
      rw [g3_v, i3_1, i3_add]
      obtain ⟨st', x', y', e, l, hh⟩ := ih f (i + 1) st1 z (q_do (dig B N c i) Z) (by omega) (by omega) q1 n1 p1 z1 (hl.tr (f1.lo (by decide)))
      refine ⟨st', x', y', ?_, l, ?_⟩
      · rw [e]
        show _ = some (bI (ok i && okd ok k (i + 1)), _)
        rw [hoi, Bool.true_and]
      · intro h
        have h : (ok i && okd ok k (i + 1)) = true := h
        rw [hoi, Bool.true_and] at h
        exact hh h
    · have hoi : ok i = false := by
        cases ho : ok i
        · rfl
        · exact absurd (hoki.mp ho) (e3 _ hd rfl)
      rw [e2]
      simp only [g3_b]
      refine ⟨st, i3 Z.2.1, i3 Z.2.2.1, ?_, hl, ?_⟩
      · rw [if_pos trivial]
        show _ = some (bI (ok i && okd ok k (i + 1)), _)
        rw [hoi, Bool.false_and]
        rfl
      · intro h
        have h : (ok i && okd ok k (i + 1)) = true := h
        rw [hoi, Bool.false_and] at h
        cases h
theorem m_rowg {σ : gX} {τ : gM} {P : gP} {B N c : Nat} {st : Nat → Int32} {x y z : Int32} {g : Nat → Int32} {ok : Nat → Bool} (hS : gRS (X_now σ) P) (hw : gWF P) (hM : gMO 0 P τ) (hB : 0 < B) (hB6 : B < 7) (hN : N < 5) (hc : c < 2147483648) (hok : ∀ j, j < N → (ok j = true ↔ okact P (dig B N c j))) (hl : gLo (M_state τ) st) : ∃ st' x' y' z', f_X7_rowGoes (mx τ st x y z g) (i3 c) (i3 B) (i3 N) = some (bI (okd ok N 0), mx τ st' x' y' z' g) ∧ gLo (M_state τ) st' ∧ (okd ok N 0 = true → x' = i3 (rowZ (dig B N c) N 0 (P, 0, 0, none)).2.1 ∧ y' = i3 (rowZ (dig B N c) N 0 (P, 0, 0, none)).2.2.1 ∧ gRM 112 st' (rowZ (dig B N c) N 0 (P, 0, 0, none)).1 ∧ P_n (rowZ (dig B N c) N 0 (P, 0, 0, none)).1 = P_n P ∧ isPg (rowZ (dig B N c) N 0 (P, 0, 0, none)).1 ∧ (rowZ (dig B N c) N 0 (P, 0, 0, none)).2.1 < 32) := by
  obtain ⟨st1, e1, r1, f1, l1⟩ := m_begx (x := x) (y := y) (z := z) (g := g) hM hl
  obtain ⟨st', x', y', e, l, hh⟩ := m_row_b (g := g) hS hM hw.n hB hB6 hN hc hok N 2000 0 st1 (ovl none) (P, 0, 0, none) (by omega) (by omega) r1 rfl ⟨hw, _, hS⟩ (show 0 < 32 by decide) l1
  refine ⟨st', x', y', ovl none, ?_, l, hh⟩
  unfold f_X7_rowGoes
  rw [e1, g3_b]
  exact e
/-! best -/
def bet (m o m' o' : Int32) : Bool := decide (m < m') || (decide (m' = m) && !decide (o' ≤ o))
theorem c_rowAct {σ : gX} {xi : gXI} {t : gS} {rr : Nat → Int32} {P : gP} {B N c i : Nat} (hS : gRS (X_now σ) P) (hn : P_n P ≤ 5) (hB : 0 < B) (hB6 : B < 7) (hN : N < 5) (hi : i < N) : f_X0_rowAct (sx σ xi t (rowF B N c rr)) (i3 i) = some (i3 (actC (P_n P) (dig B N c i)), sx σ xi t (rowF B N c rr)) := by
  have hd : dig B N c i < B := Nat.mod_lt _ hB
  have hr : rowF B N c rr i = i3 (dig B N c i) := by unfold rowF; rw [if_pos hi]
  unfold f_X0_rowAct actC
  rw [sx__row, g3_ld (by omega) (by decide), hr, sx__now, hS.hn, g3_ld (by omega) (by decide), hr, if3_eq (by omega) (by omega)]
  by_cases e : dig B N c i = P_n P
  · rw [if_pos e, if_pos e]; rfl
  · rw [if_neg e, if_neg e]
theorem c_best_in {σ : gX} {P : gP} {B N m : Nat} {rr : Nat → Int32} {xi : gXI} {w mo ti fd : Int32} (hS : gRS (X_now σ) P) (hn : P_n P ≤ 5) (hB : 0 < B) (hB6 : B < 7) (hN : N < 5) (hm : m < 2147483647) (hok : ∀ j, j < N → okact P (actC (P_n P) (dig B N m j))) {k51 : gX → Int32 → Int32 → Int32 → Int32 → Int32 → Int32 → Int32 → Option (Int32 × gX)} : ∀ k fuel i t Z, i + k = N → k < fuel → gRS t Z.1 → gWF Z.1 → P_n Z.1 = P_n P → Z.2.1 < 32 →
    ∃ t', f_X0_best_b89 k51 fuel (sx σ (qxi xi Z) t (rowF B N m rr)) (i3 N) w mo ti fd (i3 B) (i3 m) (i3 i) = (if bet mo ti (i3 (pc5 (rowZ (fun j => actC (P_n P) (dig B N m j)) k i Z).2.1)) (i3 (rowZ (fun j => actC (P_n P) (dig B N m j)) k i Z).2.2.1) then k51 (sx σ (qxi xi (rowZ (fun j => actC (P_n P) (dig B N m j)) k i Z)) t' (rowF B N m rr)) (i3 N) w (i3 (pc5 (rowZ (fun j => actC (P_n P) (dig B N m j)) k i Z).2.1)) (i3 (rowZ (fun j => actC (P_n P) (dig B N m j)) k i Z).2.2.1) (i3 m) (i3 B) (i3 (m + 1)) else k51 (sx σ (qxi xi (rowZ (fun j => actC (P_n P) (dig B N m j)) k i Z)) t' (rowF B N m rr)) (i3 N) w mo ti fd (i3 B) (i3 (m + 1))) := by
  intro k
  induction k with
  | zero =>
    intro fuel i t Z hi hf hr hw hnn hZ
    obtain ⟨f, rfl⟩ := gsucc hf
    refine ⟨t, ?_⟩
    have hyes : f_X0_best_b146 k51 (sx σ (qxi xi Z) t (rowF B N m rr)) (i3 N) w mo ti fd (i3 B) (i3 m) (i3 (pc5 Z.2.1)) = k51 (sx σ (qxi xi Z) t (rowF B N m rr)) (i3 N) w (i3 (pc5 Z.2.1)) (i3 Z.2.2.1) (i3 m) (i3 B) (i3 (m + 1)) := by
      unfold f_X0_best_b146 f_X0_best_b151 f_X0_best_b165 f_X0_best_b181 f_X0_best_b194
      rw [if_neg n10, if_neg n10, if_neg n10, g3_v, i3_1, i3_add]
      rfl
    have hno : f_X0_best_b150 k51 (sx σ (qxi xi Z) t (rowF B N m rr)) (i3 N) w mo ti fd (i3 B) (i3 m) (i3 (pc5 Z.2.1)) = k51 (sx σ (qxi xi Z) t (rowF B N m rr)) (i3 N) w mo ti fd (i3 B) (i3 (m + 1)) := by
      unfold f_X0_best_b150 f_X0_best_b151 f_X0_best_b165 f_X0_best_b181 f_X0_best_b194
      rw [if_pos rfl, if_pos rfl, if_pos rfl, g3_v, i3_1, i3_add]
    simp only [f_X0_best_b89]
    rw [if_pos (by rw [i3_le (by omega) (by omega)]; omega), sx__xi, show I_weepers (qxi xi Z) = i3 Z.2.1 from rfl, show I_often (qxi xi Z) = i3 Z.2.2.1 from rfl, c_bits hZ]
    simp only [g3_b]
    rw [hyes, hno]
    show _ = (if bet mo ti (i3 (pc5 Z.2.1)) (i3 Z.2.2.1) then k51 (sx σ (qxi xi Z) t (rowF B N m rr)) (i3 N) w (i3 (pc5 Z.2.1)) (i3 Z.2.2.1) (i3 m) (i3 B) (i3 (m + 1)) else k51 (sx σ (qxi xi Z) t (rowF B N m rr)) (i3 N) w mo ti fd (i3 B) (i3 (m + 1)))
    unfold bet
    by_cases e1 : mo < i3 (pc5 Z.2.1)
    · rw [if_pos e1, decide_eq_true e1, Bool.true_or, if_pos rfl]
    · rw [if_neg e1, decide_eq_false e1, Bool.false_or]
      by_cases e2 : i3 (pc5 Z.2.1) = mo
      · rw [if_pos e2, decide_eq_true e2, Bool.true_and]
        by_cases e3 : i3 Z.2.2.1 ≤ ti
        · rw [if_pos e3, decide_eq_true e3]; rfl
        · rw [if_neg e3, decide_eq_false e3]; rfl
      · rw [if_neg e2, decide_eq_false e2, Bool.false_and]; rfl
  | succ k ih =>
    intro fuel i t Z hi hf hr hw hnn hZ
    obtain ⟨f, rfl⟩ := gsucc hf
    have ha : okact Z.1 (actC (P_n P) (dig B N m i)) := by have := hok i (by omega); unfold okact at this ⊢; rw [hnn]; exact this
    obtain ⟨t1, r1, e1, q1, w1, z1⟩ := c_do (σ := σ) (xi := xi) hr hw ha hZ
    obtain ⟨t', e⟩ := ih f (i + 1) t1 (q_do (actC (P_n P) (dig B N m i)) Z) (by omega) (by omega) q1 w1 ((sp_act_same Z.1 _).2.2.trans hnn) z1
    refine ⟨t', ?_⟩
    refine Eq.trans ?_ e
    simp only [f_X0_best_b89]
    rw [if_neg (by rw [i3_le (by omega) (by omega)]; omega), c_rowAct hS hn hB hB6 hN (by omega)]
    simp only [g3_b, sx__xi, sx__tried]
    rw [e1]
    simp only [g3_b, g3_s, sx_x, sx_t]
    rw [g3_v, i3_1, i3_add]
