set_option maxRecDepth 100000
set_option maxHeartbeats 400000
/-! kinds, sorrows: is all as seen, were something of one so -/
def sc (σ : gX) (Q : gP) (j : Nat) : Bool := decide (i3 (if P_g Q (X_seen σ (2 * j)).toNatClampNeg then 1 else 0) = X_seen σ (2 * j + 1))
def soF (σ : gX) (Q : gP) (k i : Nat) (acc : Bool) : Bool := fo (fun j acc => acc && sc σ Q j) k i acc
def bI (b : Bool) : Int32 := i3 (if b then 1 else 0)
theorem c_so_b {σ : gX} {P Q : gP} {sm : Nat} {xi : gXI} {t : gS} {rr : Nat → Int32} (hsm : sm ≤ 6) (hseen : ∀ j, j < sm → (∃ q, q < P_n P ∧ X_seen σ (2 * j) = i3 q)) (hxi : I_seenMany xi = i3 sm) (hn : P_n P ≤ 5) (hr : gRS t Q) : ∀ k fuel i acc, i + k = sm → k < fuel → f_X0_isSo_b36 fuel (sx σ xi t rr) (bI acc) (i3 i) = some (bI (soF σ Q k i acc), sx σ xi t rr) := by
  intro k
  induction k with
  | zero =>
    intro fuel i acc hi hf
    obtain ⟨f, rfl⟩ := gsucc hf
    simp only [f_X0_isSo_b36]
    rw [sx__xi, hxi, if_pos (by rw [i3_le (by omega) (by omega)]; omega)]
    cases acc <;> rfl
  | succ k ih =>
    intro fuel i acc hi hf
    obtain ⟨f, rfl⟩ := gsucc hf
    obtain ⟨q, hq, eq⟩ := hseen i (by omega)
    simp only [f_X0_isSo_b36]
    rw [sx__xi, hxi, if_neg (by rw [i3_le (by omega) (by omega)]; omega), i3_2, i3_mul, sx__seen, g3_ld (by omega) (by decide), eq, sx__tried, c_of (by omega) (by decide), hr.hg (by omega), g3_b, g3_s, sx_t, sx__seen, i3_1, i3_add, g3_ld (by omega) (by decide)]
    have hsc : sc σ Q i = decide (i3 (if P_g Q q then 1 else 0) = X_seen σ (2 * i + 1)) := by unfold sc; rw [eq, i3_idx (by omega)]
    have h83 : ∀ b : Bool, f_X0_isSo_b83 (f_X0_isSo_b36 f) (sx σ xi t rr) (i3 i) (bI b) (bI acc) = f_X0_isSo_b36 f (sx σ xi t rr) (bI (acc && b)) (i3 (i + 1)) := by
      intro b
      unfold f_X0_isSo_b83
      have e : bI acc &&& bI b = bI (acc && b) := by cases acc <;> cases b <;> decide
      rw [e, i3_1, i3_add]
      rfl
    by_cases e : i3 (if P_g Q q then 1 else 0) = X_seen σ (2 * i + 1)
    · rw [if_pos e]
      have e2 : sc σ Q i = true := by rw [hsc]; exact decide_eq_true e
      show f_X0_isSo_b83 (f_X0_isSo_b36 f) (sx σ xi t rr) (i3 i) (bI true) (bI acc) = some (bI (soF σ Q k (i + 1) (acc && sc σ Q i)), _)
      rw [h83, e2]
      exact ih f (i + 1) _ (by omega) (by omega)
    · rw [if_neg e]
      have e2 : sc σ Q i = false := by rw [hsc]; exact decide_eq_false e
      show f_X0_isSo_b83 (f_X0_isSo_b36 f) (sx σ xi t rr) (i3 i) (bI false) (bI acc) = some (bI (soF σ Q k (i + 1) (acc && sc σ Q i)), _)
      rw [h83, e2]
      exact ih f (i + 1) _ (by omega) (by omega)
theorem soF_false (σ : gX) (Q : gP) : ∀ k i, soF σ Q k i false = false
  | 0, _ => rfl
  | k + 1, i => soF_false σ Q k (i + 1)
theorem m_so_b {σ : gX} {τ : gM} {P Q : gP} {sm : Nat} {st : Nat → Int32} {x y z : Int32} {g : Nat → Int32} (hsm : sm ≤ 6) (hmany : M_seenMany τ = i3 sm) (hseen : ∀ j, j < sm → (∃ q, q < P_n P ∧ X_seen σ (2 * j) = i3 q ∧ M_seen τ (2 * j) = i3 q) ∧ X_seen σ (2 * j + 1) = M_seen τ (2 * j + 1)) (hn : P_n P ≤ 5) (hr : gRM 112 st Q) : ∀ k fuel i acc, i + k = sm → k < fuel → f_X7_isAsSeen_b10 fuel (mx τ st x y z g) (bI acc) (i3 i) = some (bI (soF σ Q k i acc), mx τ st x y z g) := by
  intro k
  induction k with
  | zero =>
    intro fuel i acc hi hf
    obtain ⟨f, rfl⟩ := gsucc hf
    simp only [f_X7_isAsSeen_b10]
    rw [mx__seenMany, hmany, if_pos (by rw [i3_le (by omega) (by omega)]; omega)]
    cases acc <;> rfl
  | succ k ih =>
    intro fuel i acc hi hf
    obtain ⟨f, rfl⟩ := gsucc hf
    obtain ⟨⟨q, hq, eq, eqm⟩, ev⟩ := hseen i (by omega)
    have h58 : ∀ b : Bool, f_X7_isAsSeen_b58 (f_X7_isAsSeen_b10 f) (mx τ st x y z g) (i3 i) (bI b) = f_X7_isAsSeen_b10 f (mx τ st x y z g) (bI b) (i3 (i + 1)) := by
      intro b
      unfold f_X7_isAsSeen_b58
      rw [i3_1, i3_add]
      rfl
    have h57 : f_X7_isAsSeen_b57 (f_X7_isAsSeen_b10 f) (mx τ st x y z g) (i3 i) = f_X7_isAsSeen_b10 f (mx τ st x y z g) (bI false) (i3 (i + 1)) := by
      unfold f_X7_isAsSeen_b57
      exact h58 false
    have hsc : sc σ Q i = decide (i3 (if P_g Q q then 1 else 0) = X_seen σ (2 * i + 1)) := by unfold sc; rw [eq, i3_idx (by omega)]
    simp only [f_X7_isAsSeen_b10]
    rw [mx__seenMany, hmany, if_neg (by rw [i3_le (by omega) (by omega)]; omega), h57]
    cases acc
    · rw [if_pos (by decide)]
      show _ = some (bI (soF σ Q k (i + 1) (false && sc σ Q i)), _)
      exact ih f (i + 1) _ (by omega) (by omega)
    · rw [if_neg (by decide), mx__state, mx__seen, i3_127, g3_ld (by decide) (by decide), show st 127 = i3 (m5 (P_g Q)) from hr.hg, i3_2, i3_mul, g3_ld (by omega) (by decide), eqm, i3_1, i3_add, g3_ld (by omega) (by decide), i3_31, i3_bit5 (m5_lt _) (by omega), m5_bit (by omega), ← ev]
      show _ = some (bI (soF σ Q k (i + 1) (true && sc σ Q i)), _)
      by_cases e : i3 (if P_g Q q then 1 else 0) = X_seen σ (2 * i + 1)
      · rw [if_pos e, show sc σ Q i = true by rw [hsc]; exact decide_eq_true e]
        rw [show f_X7_isAsSeen_b58 (f_X7_isAsSeen_b10 f) (mx τ st x y z g) (i3 i) (i3 1) = _ from h58 true]
        exact ih f (i + 1) _ (by omega) (by omega)
      · rw [if_neg e, show sc σ Q i = false by rw [hsc]; exact decide_eq_false e]
        exact ih f (i + 1) _ (by omega) (by omega)
theorem qxi_sm {xi : gXI} {Z : gQ} : I_seenMany (qxi xi Z) = I_seenMany xi := rfl
/-- something of one is so: c = 0 the kind, 1 the sorrow -/
def sv (P : gP) (p c v : Nat) : gP := if c = 0 then P_k_s P (gu (P_k P) p v) else P_s_s P (gu (P_s P) p v)
def svZ (P : gP) (p c v : Nat) : gQ := sp_goes (sv P p c v) 0
def SO (σ : gX) (P : gP) (sm p c v : Nat) : Bool := soF σ (svZ P p c v).1 sm 0 true
theorem sv_wf {P : gP} {p c v : Nat} (h : gWF P) (hv : (c = 0 → v < 4) ∧ v ≤ 40) : gWF (sv P p c v) := by
  unfold sv
  split
  · rename_i e; exact wf_k h (hv.1 e)
  · exact wf_s h hv.2
theorem sv_n (P : gP) (p c v : Nat) : P_n (sv P p c v) = P_n P := by unfold sv; split <;> rfl
theorem c_sv {t : gS} {P : gP} {p c v : Nat} (h : gRS t P) (hp : p < 5) (hc : c < 2) (hv : v < 128) : ∃ t', f_X5_becomes t (i3 p) (i3 c) (i3 v) = some t' ∧ gRS t' (sv P p c v) := by
  have : c = 0 ∨ c = 1 := by omega
  rcases this with rfl | rfl
  · exact ⟨_, c_becomes hp (by decide) hv, h.k hp⟩
  · exact ⟨_, c_becomes hp (by decide) hv, h.s hp⟩
theorem c_isSo {σ : gX} {P : gP} {sm p c v : Nat} {xi : gXI} {t : gS} {rr : Nat → Int32} (hS : gRS (X_now σ) P) (hw : gWF P) (hsm : sm ≤ 6) (hseen : ∀ j, j < sm → (∃ q, q < P_n P ∧ X_seen σ (2 * j) = i3 q)) (hxi : I_seenMany xi = i3 sm) (hp : p < P_n P) (hc : c < 2) (hv : (c = 0 → v < 4) ∧ v ≤ 40) : ∃ t', f_X0_isSo (sx σ xi t rr) (i3 p) (i3 c) (i3 v) = some (bI (SO σ P sm p c v), sx σ (qxi xi (svZ P p c v)) t' rr) ∧ gRS t' (svZ P p c v).1 ∧ gWF (svZ P p c v).1 := by
  have hn := hw.n
  obtain ⟨t1, e1, r1⟩ := c_asx (xi := xi) (t := t) (rr := rr) hS hw
  obtain ⟨t2, e2, r2⟩ := c_sv (p := p) (c := c) (v := v) r1 (by omega) hc (by omega)
  obtain ⟨t3, e3, r3, w3, -⟩ := c_goes (xi := xi) (over := 0) r2 (sv_wf hw hv) (by decide)
  have hZ : svZ P p c v = sp_goes (sv P p c v) 0 := rfl
  have hSO : SO σ P sm p c v = soF σ (sp_goes (sv P p c v) 0).1 sm 0 true := rfl
  rw [hSO, hZ]
  generalize sp_goes (sv P p c v) 0 = Z at *
  refine ⟨t3, ?_, r3, w3⟩
  unfold f_X0_isSo
  rw [e1, g3_b, g3_s, sx_t, sx_n, sx__tried, e2, g3_b, g3_s, sx_t, sx__xi, sx__tried, show f_X0_goes (xi, t2) 0 = _ from e3, g3_b, g3_s, sx_x, sx_t]
  exact c_so_b (P := P) hsm hseen (qxi_sm.trans hxi) hn r3 sm 2000 0 true (by omega) (by omega)
theorem m_isSo {σ : gX} {τ : gM} {P : gP} {sm p c v : Nat} {st : Nat → Int32} {x y z : Int32} {g : Nat → Int32} (hM : gMO 0 P τ) (hpg : isPg (sv P p c v)) (hsm : sm ≤ 6) (hmany : M_seenMany τ = i3 sm) (hseen : ∀ j, j < sm → (∃ q, q < P_n P ∧ X_seen σ (2 * j) = i3 q ∧ M_seen τ (2 * j) = i3 q) ∧ X_seen σ (2 * j + 1) = M_seen τ (2 * j + 1)) (hn : P_n P ≤ 5) (hr : gRM 0 st (sv P p c v)) : ∃ st' x' y' z', f_X7_isAsSeen (mx τ st x y z g) = some (bI (SO σ P sm p c v), mx τ st' x' y' z' g) ∧ gRM 112 st' (svZ P p c v).1 ∧ gFr 112 st st' := by
  obtain ⟨st', e, r, f⟩ := m_goes (over := 0) (mx_on (x := x) (y := y) (z := z) (g := g) hM hr (sv_n P p c v) (by decide)) hpg (by decide) (by decide)
  rw [mx_qtm] at e
  rw [mx__state] at f
  have hZ : svZ P p c v = sp_goes (sv P p c v) 0 := rfl
  have hSO : SO σ P sm p c v = soF σ (sp_goes (sv P p c v) 0).1 sm 0 true := rfl
  rw [hSO, hZ]
  generalize sp_goes (sv P p c v) 0 = Z at *
  refine ⟨st', i3 Z.2.1, i3 Z.2.2.1, ovl Z.2.2.2, ?_, r, f⟩
  unfold f_X7_isAsSeen
  rw [show f_X7_planGoes (mx τ st x y z g) 0 0 = _ from e, g3_b]
  exact m_so_b (P := P) hsm hmany hseen hn r sm 2000 0 true (by omega) (by omega)
/-- the bits of those that are so -/
def whF (σ : gX) (P : gP) (sm p c : Nat) (v : Nat) (acc : Int32) : Int32 := acc ||| (if SO σ P sm p c v then ((1 : Int32) <<< (i3 v &&& 31)) else 0)
theorem c_which_b {σ : gX} {P : gP} {sm p c M : Nat} {rr : Nat → Int32} (hS : gRS (X_now σ) P) (hw : gWF P) (hsm : sm ≤ 6) (hseen : ∀ j, j < sm → (∃ q, q < P_n P ∧ X_seen σ (2 * j) = i3 q)) (hp : p < P_n P) (hc : c < 2) (hM : (c = 0 → M < 4) ∧ M ≤ 40) : ∀ k fuel xi t v acc, v + k = M + 1 → k < fuel → I_seenMany xi = i3 sm → ∃ xi' t', f_X0_which_b6 fuel (sx σ xi t rr) (i3 p) (i3 c) (i3 M) acc (i3 v) = some (fo (whF σ P sm p c) k v acc, sx σ xi' t' rr) ∧ gXq xi xi' := by
  intro k
  induction k with
  | zero =>
    intro fuel xi t v acc hv hf hxi
    obtain ⟨f, rfl⟩ := gsucc hf
    refine ⟨xi, t, ?_, gXq.rf⟩
    simp only [f_X0_which_b6]
    rw [if_pos (by rw [i3_lt (by omega) (by omega)]; omega)]
    rfl
  | succ k ih =>
    intro fuel xi t v acc hv hf hxi
    obtain ⟨f, rfl⟩ := gsucc hf
    obtain ⟨t1, e1, r1, w1⟩ := c_isSo (t := t) (rr := rr) (v := v) hS hw hsm hseen hxi hp hc ⟨fun e => by have := hM.1 e; omega, by omega⟩
    obtain ⟨xi', t', e2, h2⟩ := ih f (qxi xi (svZ P p c v)) t1 (v + 1) (whF σ P sm p c v acc) (by omega) (by omega) (qxi_sm.trans hxi)
    refine ⟨xi', t', ?_, (gXq.q _ _).tr h2⟩
    simp only [f_X0_which_b6]
    rw [if_neg (by rw [i3_lt (by omega) (by omega)]; omega), e1, g3_b]
    show _ = some (fo (whF σ P sm p c) k (v + 1) (whF σ P sm p c v acc), _)
    rw [← e2]
    unfold whF
    cases SO σ P sm p c v
    · show f_X0_which_b33 (f_X0_which_b6 f) (sx σ (qxi xi (svZ P p c v)) t1 rr) (i3 p) (i3 c) (i3 M) (i3 v) 0 acc = _
      unfold f_X0_which_b33
      rw [i3_1, i3_add]
      rfl
    · show f_X0_which_b33 (f_X0_which_b6 f) (sx σ (qxi xi (svZ P p c v)) t1 rr) (i3 p) (i3 c) (i3 M) (i3 v) ((1 : Int32) <<< (i3 v &&& 31)) acc = _
      unfold f_X0_which_b33
      rw [i3_1, i3_add]
      rfl
/-- the pages below 84 are as they were but for one place -/
def gLoX (k : Nat) (st st' : Nat → Int32) : Prop := ∀ j, j < 84 → j ≠ k → st' j = st j
theorem sv_RM {P : gP} {p c v : Nat} {st0 st : Nat → Int32} (h : gRM 0 st0 P) (hp : p < 5) (hc : c < 2) (hl : gLoX (5 * c + p) st0 st) : gRM 0 (upd st (5 * c + p) (i3 v)) (sv P p c v) := by
  have h1 : gRM 0 (upd st0 (5 * c + p) (i3 v)) (sv P p c v) := by
    have : c = 0 ∨ c = 1 := by omega
    rcases this with rfl | rfl
    · have := gRM.k (v := v) h hp
      rw [Nat.zero_add] at this
      rw [Nat.mul_zero, Nat.zero_add]
      exact this
    · exact gRM.s (v := v) h hp
  refine h1.eq (fun j _ hj => ?_)
  by_cases e : j = 5 * c + p
  · rw [e, upd_same, upd_same]
  · rw [upd_ne e, upd_ne e]
    exact hl j (by omega) e
theorem sv_pg {σ : gX} {P : gP} {p c v : Nat} (hS : gRS (X_now σ) P) (hw : gWF P) (hp : p < 5) (hc : c < 2) (hv : (c = 0 → v < 4) ∧ v ≤ 40) : isPg (sv P p c v) := by
  obtain ⟨t', -, r⟩ := c_sv (v := v) hS hp hc (by omega)
  exact ⟨sv_wf hw hv, t', r⟩
theorem m_kinds_b {σ : gX} {τ : gM} {P : gP} {sm p : Nat} {g : Nat → Int32} {had : Int32} (hS : gRS (X_now σ) P) (hw : gWF P) (hM : gMO 0 P τ) (hsm : sm ≤ 6) (hmany : M_seenMany τ = i3 sm) (hseen : ∀ j, j < sm → (∃ q, q < P_n P ∧ X_seen σ (2 * j) = i3 q ∧ M_seen τ (2 * j) = i3 q) ∧ X_seen σ (2 * j + 1) = M_seen τ (2 * j + 1)) (hp : p < P_n P) (hhad : had = M_state τ p) : ∀ k fuel st x y z v acc, v + k = 4 → k < fuel → gLoX p (M_state τ) st → ∃ st' x' y' z', f_X7_kinds_b22 fuel (mx τ st x y z g) (i3 p) had acc (i3 v) = some (fo (whF σ P sm p 0) k v acc, mx τ st' x' y' z' g) ∧ gLo (M_state τ) st' := by
  have hn := hw.n
  intro k
  induction k with
  | zero =>
    intro fuel st x y z v acc hv hf hl
    obtain ⟨f, rfl⟩ := gsucc hf
    refine ⟨upd st p had, x, y, z, ?_, fun j hj => ?_⟩
    · simp only [f_X7_kinds_b22]
      rw [i3_4, if_pos (by rw [i3_le (by omega) (by omega)]; omega), mx__state, g3_st (by omega) (by decide), g3_s, mx_s]
      rfl
    · by_cases e : j = p
      · rw [e, upd_same, hhad]
      · rw [upd_ne e]; exact hl j hj e
  | succ k ih =>
    intro fuel st x y z v acc hv hf hl
    obtain ⟨f, rfl⟩ := gsucc hf
    have hR : gRM 0 (upd st p (i3 v)) (sv P p 0 v) := by
      have := sv_RM (c := 0) (v := v) (p := p) hM.R (by omega) (by decide) (st := st) (by rw [Nat.mul_zero, Nat.zero_add]; exact hl)
      rwa [Nat.mul_zero, Nat.zero_add] at this
    obtain ⟨st1, x1, y1, z1, e1, r1, f1⟩ := m_isSo (σ := σ) (x := x) (y := y) (z := z) (g := g) hM (sv_pg (v := v) hS hw (by omega) (by decide) ⟨fun _ => by omega, by omega⟩) hsm hmany hseen hn hR
    have hl1 : gLoX p (M_state τ) st1 := fun j hj hne => by
      rw [f1 j (by omega), upd_ne hne]; exact hl j hj hne
    obtain ⟨st', x', y', z', e2, h2⟩ := ih f st1 x1 y1 z1 (v + 1) (whF σ P sm p 0 v acc) (by omega) (by omega) hl1
    refine ⟨st', x', y', z', ?_, h2⟩
    simp only [f_X7_kinds_b22]
    rw [i3_4, if_neg (by rw [i3_le (by omega) (by omega)]; omega), mx__state, g3_st (by omega) (by decide), g3_s, mx_s, e1, g3_b]
    show _ = some (fo (whF σ P sm p 0) k (v + 1) (whF σ P sm p 0 v acc), _)
    rw [← e2]
    unfold whF
    cases SO σ P sm p 0 v
    · show f_X7_kinds_b52 (f_X7_kinds_b22 f) (mx τ st1 x1 y1 z1 g) (i3 p) had (i3 v) 0 acc = _
      unfold f_X7_kinds_b52
      rw [i3_1, i3_add]
      rfl
    · show f_X7_kinds_b52 (f_X7_kinds_b22 f) (mx τ st1 x1 y1 z1 g) (i3 p) had (i3 v) ((1 : Int32) <<< (i3 v &&& 31)) acc = _
      unfold f_X7_kinds_b52
      rw [i3_1, i3_add]
      rfl
theorem z_kinds {σ : gX} {τ : gM} {x : Int32} (h : gRZ σ τ) : gOK σ τ (f_X0_kinds σ x) (f_X7_kinds τ x) := by
  obtain ⟨P, hh⟩ := h
  have h0 := hh
  obtain ⟨hw, hS, hM, -, ⟨sm, t1, t2, t3, t4⟩, -⟩ := hh
  have hn := hw.n
  unfold f_X0_kinds f_X7_kinds
  rcases isOne2 (x := x) hn hS hM with ⟨p, h1, rfl, h3, h4⟩ | ⟨h1, h2, h3⟩
  · rw [h3, h4, g3_b, g3_b]
    show gOK σ τ ((f_X0_which σ (i3 p) 0 3).bind fun (r3, u4) => some (r3, u4)) (gld 168 (M_state τ) (i3 p) fun v3 => f_X7_kinds_b22 2000 τ (i3 p) v3 0 0)
    obtain ⟨xi', t', e1, q1⟩ := c_which_b (c := 0) (M := 3) (rr := X_row σ) hS hw t1 (fun j hj => by obtain ⟨⟨q, q1, q2, -⟩, -⟩ := t4 j hj; exact ⟨q, q1, q2⟩) h1 (by decide) (by decide) 4 2000 (X_xi σ) (X_tried σ) 0 0 rfl (by decide) t2
    obtain ⟨st', x', y', z', e2, l2⟩ := m_kinds_b (σ := σ) (g := M_goneBy τ) (had := M_state τ p) hS hw hM t1 t3 (fun j hj => by obtain ⟨⟨q, q1, q2, q3⟩, v, v1, v2⟩ := t4 j hj; exact ⟨⟨q, q1, q2, q3⟩, v1.trans v2.symm⟩) h1 rfl 4 2000 (M_state τ) (M_weptBits τ) (M_weptTimes τ) (M_firstNot τ) 0 0 rfl (by decide) (fun _ _ _ => rfl)
    refine gScr.ok h0 ⟨fo (whF σ P sm p 0) 4 0 0, xi', t', X_row σ, st', x', y', z', M_goneBy τ, ?_, ?_, q1, l2⟩
    · rw [show f_X0_which σ (i3 p) 0 3 = _ from e1]
      rfl
    · rw [g3_ld (by omega) (by decide)]
      exact e2
  · rw [h1, h2]
    exact gOK.rf _ h0
