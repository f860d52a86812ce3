set_option maxRecDepth 100000
/-! the nearest who wait, below and above -/
def dnw (g : Nat → Bool) : Nat → Option Nat
  | 0 => none
  | q + 1 => if g q then dnw g q else some q
def upw (g : Nat → Bool) : Nat → Nat → Option Nat
  | 0, _ => none
  | k + 1, q => if g q then upw g k (q + 1) else some q
theorem dnw_lt {g : Nat → Bool} : ∀ {c q : Nat}, dnw g c = some q → q < c
  | 0, q, h => by cases h
  | c + 1, q, h => by
    unfold dnw at h
    split at h
    · exact Nat.lt_succ_of_lt (dnw_lt h)
    · cases h; exact Nat.lt_succ_self _
theorem upw_lt {g : Nat → Bool} : ∀ {k i q : Nat}, upw g k i = some q → q < i + k
  | 0, i, q, h => by cases h
  | k + 1, i, q, h => by
    unfold upw at h
    split at h
    · have := upw_lt h; omega
    · cases h; omega
def sp_told (P : gP) (o : Option Nat) : gP := match o with
  | none => P
  | some q => sp_sad P q 2
theorem sp_told_wf {P : gP} {o : Option Nat} (h : gWF P) : gWF (sp_told P o) := by
  cases o with
  | none => exact h
  | some q => exact sp_sad_wf h
theorem sp_told_g (P : gP) (o : Option Nat) : P_g (sp_told P o) = P_g P := by cases o <;> rfl
theorem sp_told_n (P : gP) (o : Option Nat) : P_n (sp_told P o) = P_n P := by cases o <;> rfl
theorem i3_subdec (c : Nat) : i3 c - i3 1 = i3 c + -(i3 1) := Int32.sub_eq_add_neg _ _
theorem i3_decu (c : Nat) : i3 (c + 1) + -(i3 1) = i3 c := by rw [i3_dec (by omega)]; rfl
theorem i3_nlt {a : Nat} (h : a < 2147483648) : ¬ (i3 a < 0) := by rw [i3_0, i3_lt h (by decide)]; omega
theorem i3_dlt : (i3 0 + -(i3 1)) < 0 := by decide
def c_tq (σ : gS) (o : Option Nat) : Option gS := match o with
  | none => some σ
  | some q => f_X5_saddens σ (i3 q) 2
def m_tq (τ : gM) (b : Int32) (o : Option Nat) : Option gM := match o with
  | none => some τ
  | some q => f_X7_grieves τ b (i3 q) 2
theorem c_tells_dn {σ : gS} {P : gP} (h : gRS σ P) (hn : P_n P ≤ 5) : ∀ c fuel, c ≤ P_n P → c < fuel → f_X5_tells_b4 fuel σ (-1) (i3 c + -(i3 1)) = c_tq σ (dnw (P_g P) c) := by
  intro c
  induction c with
  | zero =>
    intro fuel hc hf
    obtain ⟨f, rfl⟩ := gsucc hf
    simp only [f_X5_tells_b4]
    rw [if_pos i3_dlt]
    unfold f_X5_tells_b31
    rw [if_pos i3_dlt]
    rfl
  | succ c ih =>
    intro fuel hc hf
    obtain ⟨f, rfl⟩ := gsucc hf
    simp only [f_X5_tells_b4]
    rw [i3_decu, if_neg (i3_nlt (by omega)), h.hn, if_neg (by rw [i3_le (by omega) (by omega)]; omega), c_waits h (by omega)]
    unfold dnw
    cases hg : P_g P c
    · show f_X5_tells_b31 σ (i3 c) = f_X5_saddens σ (i3 c) 2
      unfold f_X5_tells_b31
      rw [if_neg (i3_nlt (by omega)), h.hn, if_neg (by rw [i3_le (by omega) (by omega)]; omega)]
      cases f_X5_saddens σ (i3 c) 2 <;> rfl
    · show f_X5_tells_b4 f σ (-1) (i3 c + -1) = _
      exact ih f (by omega) (by omega)
theorem c_tells_up {σ : gS} {P : gP} (h : gRS σ P) (hn : P_n P ≤ 5) : ∀ k fuel q, q + k = P_n P → k < fuel → f_X5_tells_b4 fuel σ 1 (i3 q) = c_tq σ (upw (P_g P) k q) := by
  intro k
  induction k with
  | zero =>
    intro fuel q hc hf
    obtain ⟨f, rfl⟩ := gsucc hf
    simp only [f_X5_tells_b4]
    rw [if_neg (i3_nlt (by omega)), h.hn, if_pos (by rw [i3_le (by omega) (by omega)]; omega)]
    unfold f_X5_tells_b31
    rw [if_neg (i3_nlt (by omega)), h.hn, if_pos (by rw [i3_le (by omega) (by omega)]; omega)]
    rfl
  | succ k ih =>
    intro fuel q hc hf
    obtain ⟨f, rfl⟩ := gsucc hf
    simp only [f_X5_tells_b4]
    rw [if_neg (i3_nlt (by omega)), h.hn, if_neg (by rw [i3_le (by omega) (by omega)]; omega), c_waits h (by omega)]
    unfold upw
    cases hg : P_g P q
    · show f_X5_tells_b31 σ (i3 q) = f_X5_saddens σ (i3 q) 2
      unfold f_X5_tells_b31
      rw [if_neg (i3_nlt (by omega)), h.hn, if_neg (by rw [i3_le (by omega) (by omega)]; omega)]
      cases f_X5_saddens σ (i3 q) 2 <;> rfl
    · show f_X5_tells_b4 f σ 1 (i3 q + 1) = _
      rw [i3_1, i3_add]
      exact ih f (q + 1) (by omega) (by omega)
theorem c_told {σ : gS} {P : gP} (h : gRS σ P) (hw : gWF P) {o : Option Nat} (ho : ∀ q, o = some q → q < 5) : ∃ σ', c_tq σ o = some σ' ∧ gRS σ' (sp_told P o) := by
  cases o with
  | none => exact ⟨σ, rfl, h⟩
  | some q => exact c_sad h hw (ho q rfl) (by decide)
theorem c_tellsD {σ : gS} {P : gP} (h : gRS σ P) (hw : gWF P) {p : Nat} (hp : p < P_n P) : ∃ σ', f_X5_tells σ (i3 p) (-1) = some σ' ∧ gRS σ' (sp_told P (dnw (P_g P) p)) := by
  have hn := hw.n
  obtain ⟨σ', e, r⟩ := c_told h hw (o := dnw (P_g P) p) (fun q hq => by have := dnw_lt hq; omega)
  refine ⟨σ', ?_, r⟩
  rw [← e, ← c_tells_dn h hn p 20 (by omega) (by omega)]
  unfold f_X5_tells
  rw [g3_v, i3_1]
theorem c_tellsU {σ : gS} {P : gP} (h : gRS σ P) (hw : gWF P) {p : Nat} (hp : p < P_n P) : ∃ σ', f_X5_tells σ (i3 p) 1 = some σ' ∧ gRS σ' (sp_told P (upw (P_g P) (P_n P - (p + 1)) (p + 1))) := by
  have hn := hw.n
  obtain ⟨σ', e, r⟩ := c_told h hw (o := upw (P_g P) (P_n P - (p + 1)) (p + 1)) (fun q hq => by have := upw_lt hq; omega)
  refine ⟨σ', ?_, r⟩
  rw [← e, ← c_tells_up h hn (P_n P - (p + 1)) 20 (p + 1) (by omega) (by omega), ← i3_add]
  unfold f_X5_tells
  rw [g3_v, i3_1]
def dvl (o : Option Nat) : Int32 := match o with
  | none => -(i3 1)
  | some q => i3 q
def uvl (n : Nat) (o : Option Nat) : Int32 := match o with
  | none => i3 n
  | some q => i3 q
theorem m_sets_dn {b : Nat} {P : gP} {τ : gM} {x2 : Int32} (h : gMO b P τ) (hn : P_n P ≤ 5) : ∀ c fuel, c ≤ P_n P → c < fuel → f_X7_setsOff_b4 fuel τ (i3 b) x2 (i3 c + -(i3 1)) = f_X7_setsOff_b23 τ (i3 b) x2 (dvl (dnw (P_g P) c)) := by
  intro c
  induction c with
  | zero =>
    intro fuel hc hf
    obtain ⟨f, rfl⟩ := gsucc hf
    simp only [f_X7_setsOff_b4]
    rw [if_pos i3_dlt, i3_decz]
    rfl
  | succ c ih =>
    intro fuel hc hf
    obtain ⟨f, rfl⟩ := gsucc hf
    simp only [f_X7_setsOff_b4]
    rw [i3_decu, if_neg (i3_nlt (by omega)), m_waits h (by omega)]
    unfold dnw
    cases hg : P_g P c
    · rfl
    · show f_X7_setsOff_b4 f τ (i3 b) x2 (i3 c + -1) = _
      exact ih f (by omega) (by omega)
theorem m_sets_up {b : Nat} {P : gP} {τ : gM} {x3 : Int32} (h : gMO b P τ) (hn : P_n P ≤ 5) : ∀ k fuel q, q + k = P_n P → k < fuel → f_X7_setsOff_b28 fuel τ (i3 b) x3 (i3 q) = f_X7_setsOff_b53 τ (i3 b) x3 (uvl (P_n P) (upw (P_g P) k q)) := by
  intro k
  induction k with
  | zero =>
    intro fuel q hc hf
    obtain ⟨f, rfl⟩ := gsucc hf
    simp only [f_X7_setsOff_b28]
    rw [h.hn, if_pos (by rw [i3_le (by omega) (by omega)]; omega)]
    have : q = P_n P := by omega
    rw [this]
    rfl
  | succ k ih =>
    intro fuel q hc hf
    obtain ⟨f, rfl⟩ := gsucc hf
    simp only [f_X7_setsOff_b28]
    rw [h.hn, if_neg (by rw [i3_le (by omega) (by omega)]; omega), m_waits h (by omega)]
    unfold upw
    cases hg : P_g P q
    · rfl
    · show f_X7_setsOff_b28 f τ (i3 b) x3 (i3 q + 1) = _
      rw [i3_1, i3_add]
      exact ih f (q + 1) (by omega) (by omega)
theorem m_told {b : Nat} {P : gP} {τ : gM} (h : gMO b P τ) (hw : gWF P) {o : Option Nat} (ho : ∀ q, o = some q → q < 5) : ∃ st, m_tq τ (i3 b) o = some (M_state_s τ st) ∧ gRM b st (sp_told P o) ∧ gFr b (M_state τ) st := by
  cases o with
  | none => exact ⟨M_state τ, rfl, h.R, gFr.rf⟩
  | some q => exact m_sad h hw (ho q rfl) (by decide)
theorem m_sets {b : Nat} {P : gP} {τ : gM} (h : gMO b P τ) (hw : gWF P) {p : Nat} (hp : p < P_n P) : ∃ st, f_X7_setsOff τ (i3 b) (i3 p) = some (M_state_s τ st) ∧ gRM b st (sp_told (sp_told P (dnw (P_g P) p)) (upw (P_g P) (P_n P - (p + 1)) (p + 1))) ∧ gFr b (M_state τ) st := by
  have hn := hw.n
  obtain ⟨st1, e1, r1, f1⟩ := m_told h hw (o := dnw (P_g P) p) (fun q hq => by have := dnw_lt hq; omega)
  have h1 : gMO b (sp_told P (dnw (P_g P) p)) (M_state_s τ st1) := h.on r1 (sp_told_n _ _)
  obtain ⟨st2, e2, r2, f2⟩ := m_told h1 (sp_told_wf hw) (o := upw (P_g P) (P_n P - (p + 1)) (p + 1)) (fun q hq => by have := upw_lt hq; omega)
  refine ⟨st2, ?_, r2, f1.tr f2⟩
  have hlast : f_X7_setsOff_b64 (M_state_s τ st1) (i3 b) (uvl (P_n P) (upw (P_g P) (P_n P - (p + 1)) (p + 1))) = some (M_state_s τ st2) := by
    unfold f_X7_setsOff_b64
    rw [M_one_st, h.hn]
    cases hu : upw (P_g P) (P_n P - (p + 1)) (p + 1) with
    | none =>
      rw [hu] at e2
      show (if i3 (P_n P) ≤ i3 (P_n P) then _ else _) = _
      rw [if_pos (by rw [i3_le (by omega) (by omega)]; omega)]
      exact e2
    | some q =>
      have hq := upw_lt hu
      rw [hu] at e2
      have e2 : f_X7_grieves (M_state_s τ st1) (i3 b) (i3 q) 2 = some (M_state_s τ st2) := e2
      show (if i3 (P_n P) ≤ i3 q then _ else _) = _
      rw [if_neg (by rw [i3_le (by omega) (by omega)]; omega)]
      show (f_X7_grieves (M_state_s τ st1) (i3 b) (i3 q) 2).bind _ = _
      rw [e2]; rfl
  have hmid : f_X7_setsOff_b53 τ (i3 b) (dvl (dnw (P_g P) p)) (uvl (P_n P) (upw (P_g P) (P_n P - (p + 1)) (p + 1))) = some (M_state_s τ st2) := by
    unfold f_X7_setsOff_b53
    cases hd : dnw (P_g P) p with
    | none =>
      rw [hd] at e1
      have e1 : τ = M_state_s τ st1 := Option.some.inj e1
      rw [if_pos (show dvl none < 0 by decide)]
      rw [← e1] at hlast
      exact hlast
    | some q =>
      have hq := dnw_lt hd
      rw [hd] at e1
      have e1 : f_X7_grieves τ (i3 b) (i3 q) 2 = some (M_state_s τ st1) := e1
      rw [if_neg (show ¬ dvl (some q) < 0 from i3_nlt (by omega))]
      show (f_X7_grieves τ (i3 b) (i3 q) 2).bind _ = _
      rw [e1]
      exact hlast
  unfold f_X7_setsOff
  show f_X7_setsOff_b4 2000 τ (i3 b) (i3 p) (i3 p - 1) = _
  rw [i3_1, i3_subdec, m_sets_dn h hn p 2000 (by omega) (by omega)]
  unfold f_X7_setsOff_b23
  show f_X7_setsOff_b28 2000 τ (i3 b) _ (i3 p + 1) = _
  rw [i3_1, i3_add, m_sets_up h hn (P_n P - (p + 1)) 2000 (p + 1) (by omega) (by omega)]
  exact hmid
/-! a minute goes -/
def sp_ms (i : Nat) (P : gP) : gP := P_s_s P (gu (P_s P) i (if P_g P i then P_s P i else P_s P i - 1))
theorem sp_ms_wf {i : Nat} {P : gP} (h : gWF P) : gWF (sp_ms i P) := by
  obtain ⟨h1, h2, h3, h4, h5, h6, h7, h8, h9, h10⟩ := h
  refine ⟨h1, h2, h3, h4, h5, h6, fun q => ?_, h8, h9, h10⟩
  show gu (P_s P) i (if P_g P i then P_s P i else P_s P i - 1) q ≤ 40
  have := h7 i
  unfold gu
  split
  · split <;> omega
  · exact h7 q
def sp_minute (P : gP) : gP := P_m_s (fo sp_ms (P_n P) 0 P) (min 999 (P_m P + 1))
theorem c_minute_b : ∀ k fuel i σ P, gRS σ P → gWF P → i + k = P_n P → k < fuel → ∃ σ', f_X5_minuteGoes_b2 fuel σ (i3 i) = some σ' ∧ gRS σ' (P_m_s (fo sp_ms k i P) (min 999 (P_m P + 1))) := by
  intro k
  induction k with
  | zero =>
    intro fuel i σ P h hw hi hf
    have hn := hw.n
    have hm := hw.m
    obtain ⟨f, rfl⟩ := gsucc hf
    refine ⟨_, ?_, gRS.m h⟩
    simp only [f_X5_minuteGoes_b2]
    rw [h.hn, if_pos (by rw [i3_le (by omega) (by omega)]; omega), h.hm, i3_1, i3_add, i3_999, if3_lt (by omega) (by decide)]
    have e : (if P_m P + 1 < 999 then i3 (P_m P + 1) else i3 999) = i3 (min 999 (P_m P + 1)) := by
      split
      · rw [Nat.min_eq_right (by omega)]
      · rw [Nat.min_eq_left (by omega)]
    rw [e]
    rfl
  | succ k ih =>
    intro fuel i σ P h hw hi hf
    have hn := hw.n
    have hs := hw.s i
    obtain ⟨f, rfl⟩ := gsucc hf
    have e : f_X5_minuteGoes_b2 (f + 1) σ (i3 i) = f_X5_minuteGoes_b2 f (S_one_s σ (upd (S_one σ) (3 * i + 1) (i3 (if P_g P i then P_s P i else P_s P i - 1)))) (i3 (i + 1)) := by
      simp only [f_X5_minuteGoes_b2]
      rw [h.hn, if_neg (by rw [i3_le (by omega) (by omega)]; omega), c_waits h (by omega)]
      cases P_g P i
      · show ((f_X5_of σ (i3 i) 1).bind fun (r7, u8) => f_X5_minuteGoes_b42 (f_X5_minuteGoes_b2 f) u8 (i3 i) (if (0 : Int32) < (r7 - 1) then (r7 - 1) else 0) 1 (i3 i)) = f_X5_minuteGoes_b2 f (S_one_s σ (upd (S_one σ) (3 * i + 1) (i3 (P_s P i - 1)))) (i3 (i + 1))
        rw [i3_1, c_of (by omega) (by decide), h.hs (by omega)]
        show f_X5_minuteGoes_b42 (f_X5_minuteGoes_b2 f) σ (i3 i) (if (0 : Int32) < (i3 (P_s P i) - i3 1) then (i3 (P_s P i) - i3 1) else 0) (i3 1) (i3 i) = _
        have e : (if (0 : Int32) < (i3 (P_s P i) - i3 1) then (i3 (P_s P i) - i3 1) else 0) = i3 (P_s P i - 1) := by
          cases hh : P_s P i with
          | zero => decide
          | succ v =>
            rw [i3_sub (by omega), i3_0, if3_lt (by omega) (by omega)]
            split
            · rfl
            · have : v = 0 := by omega
              subst this; rfl
        rw [e]
        unfold f_X5_minuteGoes_b42
        rw [c_becomes (by omega) (by decide) (by omega), i3_1, i3_add]
        rfl
      · show ((f_X5_of σ (i3 i) 1).bind fun (r5, u6) => f_X5_minuteGoes_b42 (f_X5_minuteGoes_b2 f) u6 (i3 i) r5 1 (i3 i)) = f_X5_minuteGoes_b2 f (S_one_s σ (upd (S_one σ) (3 * i + 1) (i3 (P_s P i)))) (i3 (i + 1))
        rw [i3_1, c_of (by omega) (by decide), h.hs (by omega)]
        show f_X5_minuteGoes_b42 (f_X5_minuteGoes_b2 f) σ (i3 i) (i3 (P_s P i)) (i3 1) (i3 i) = _
        unfold f_X5_minuteGoes_b42
        rw [c_becomes (by omega) (by decide) (by omega), i3_1, i3_add]
        rfl
    obtain ⟨σ', e', r'⟩ := ih f (i + 1) _ (sp_ms i P) (gRS.s h (by omega)) (sp_ms_wf hw) (show i + 1 + k = P_n P by omega) (by omega)
    exact ⟨σ', e.trans e', r'⟩
theorem c_minute {σ : gS} {P : gP} (h : gRS σ P) (hw : gWF P) : ∃ σ', f_X5_minuteGoes σ = some σ' ∧ gRS σ' (sp_minute P) := by
  have hn := hw.n
  exact c_minute_b (P_n P) 20 0 σ P h hw (by omega) (by omega)
theorem m_minute_b {b : Nat} : ∀ k fuel i τ P, gMO b P τ → gWF P → i + k = P_n P → k < fuel → ∃ st, f_X7_minuteOn_b2 fuel τ (i3 b) (i3 i) = some (M_state_s τ st) ∧ gRM b st (P_m_s (fo sp_ms k i P) (min 999 (P_m P + 1))) ∧ gFr b (M_state τ) st := by
  intro k
  induction k with
  | zero =>
    intro fuel i τ P h hw hi hf
    have hn := hw.n
    have hm := hw.m
    have hb := h.hb
    obtain ⟨f, rfl⟩ := gsucc hf
    refine ⟨_, ?_, gRM.m h.R, gFr.up (by omega) (by omega)⟩
    simp only [f_X7_minuteOn_b2]
    rw [h.hn, if_pos (by rw [i3_le (by omega) (by omega)]; omega), i3_16, i3_add]
    show (gld 168 (M_state τ) (i3 (b + 16)) fun v2 => gld 168 (M_state τ) (i3 (b + 16)) fun v3 => if 999 ≤ v3 then (f_X7_minuteOn_b86 τ 0 v2 (i3 (b + 16))) else (f_X7_minuteOn_b86 τ 1 v2 (i3 (b + 16)))) = _
    rw [g3_ld (by omega) (by decide), g3_ld (by omega) (by decide), h.R.hm, i3_999, if3_le (by decide) (by omega)]
    unfold f_X7_minuteOn_b86
    rw [i3_0, i3_1, i3_add, i3_add, g3_st (by omega) (by decide), g3_st (by omega) (by decide)]
    split
    · have : min 999 (P_m P + 1) = P_m P + 0 := by omega
      rw [this]; rfl
    · have : min 999 (P_m P + 1) = P_m P + 1 := by omega
      rw [this]; rfl
  | succ k ih =>
    intro fuel i τ P h hw hi hf
    have hn := hw.n
    have hs := hw.s i
    have hb := h.hb
    obtain ⟨f, rfl⟩ := gsucc hf
    have e : f_X7_minuteOn_b2 (f + 1) τ (i3 b) (i3 i) = f_X7_minuteOn_b2 f (M_state_s τ (upd (M_state τ) (b + 5 + i) (i3 (if P_g P i then P_s P i else P_s P i - 1)))) (i3 b) (i3 (i + 1)) := by
      simp only [f_X7_minuteOn_b2]
      rw [h.hn, if_neg (by rw [i3_le (by omega) (by omega)]; omega), i3_5, i3_add, i3_add]
      show (gld 168 (M_state τ) (i3 (b + 5 + i)) fun v5 => (f_X7_waits τ (i3 b) (i3 i)).bind fun (r6, u7) => if r6 = 0 then (f_X7_minuteOn_b47 (f_X7_minuteOn_b2 f) u7 (i3 b) (i3 i) v5 (i3 (b + 5 + i))) else (gld 168 (M_state u7) (i3 (b + 5 + i)) fun v8 => if v8 ≤ 0 then (f_X7_minuteOn_b47 (f_X7_minuteOn_b2 f) u7 (i3 b) (i3 i) v5 (i3 (b + 5 + i))) else (f_X7_minuteOn_b48 (f_X7_minuteOn_b2 f) u7 (i3 b) (i3 i) 1 v5 (i3 (b + 5 + i))))) = _
      rw [g3_ld (by omega) (by decide), h.R.hs (by omega), m_waits h (by omega)]
      cases P_g P i
      · show (gld 168 (M_state τ) (i3 (b + 5 + i)) fun v8 => if v8 ≤ 0 then (f_X7_minuteOn_b47 (f_X7_minuteOn_b2 f) τ (i3 b) (i3 i) (i3 (P_s P i)) (i3 (b + 5 + i))) else (f_X7_minuteOn_b48 (f_X7_minuteOn_b2 f) τ (i3 b) (i3 i) 1 (i3 (P_s P i)) (i3 (b + 5 + i)))) = f_X7_minuteOn_b2 f (M_state_s τ (upd (M_state τ) (b + 5 + i) (i3 (P_s P i - 1)))) (i3 b) (i3 (i + 1))
        rw [g3_ld (by omega) (by decide), h.R.hs (by omega), i3_0, if3_le (by omega) (by decide)]
        unfold f_X7_minuteOn_b47 f_X7_minuteOn_b48
        split
        · rw [i3_0, i3_sub (by omega), g3_st (by omega) (by decide), i3_1, i3_add, show P_s P i - 0 = P_s P i - 1 by omega]
          rfl
        · rw [i3_1, i3_sub (by omega), g3_st (by omega) (by decide), i3_add]
          rfl
      · show f_X7_minuteOn_b47 (f_X7_minuteOn_b2 f) τ (i3 b) (i3 i) (i3 (P_s P i)) (i3 (b + 5 + i)) = f_X7_minuteOn_b2 f (M_state_s τ (upd (M_state τ) (b + 5 + i) (i3 (P_s P i)))) (i3 b) (i3 (i + 1))
        unfold f_X7_minuteOn_b47 f_X7_minuteOn_b48
        rw [i3_0, i3_sub (by omega), g3_st (by omega) (by decide), i3_1, i3_add]
        rfl
    have r1 := gRM.s (v := if P_g P i then P_s P i else P_s P i - 1) h.R (show i < 5 by omega)
    obtain ⟨st, e', r', f'⟩ := ih f (i + 1) (M_state_s τ (upd (M_state τ) (b + 5 + i) (i3 (if P_g P i then P_s P i else P_s P i - 1)))) (sp_ms i P) (h.on r1 rfl) (sp_ms_wf hw) (show i + 1 + k = P_n P by omega) (by omega)
    exact ⟨st, e.trans e', r', (gFr.up (by omega) (by omega)).tr f'⟩
theorem m_minute {b : Nat} {P : gP} {τ : gM} (h : gMO b P τ) (hw : gWF P) : ∃ st, f_X7_minuteOn τ (i3 b) = some (M_state_s τ st) ∧ gRM b st (sp_minute P) ∧ gFr b (M_state τ) st := by
  have hn := hw.n
  exact m_minute_b (P_n P) 2000 0 τ P h hw (by omega) (by omega)
theorem fo_ms_wf : ∀ k i P, gWF P → gWF (fo sp_ms k i P)
  | 0, _, _, h => h
  | k + 1, i, P, h => fo_ms_wf k (i + 1) (sp_ms i P) (sp_ms_wf h)
theorem sp_minute_wf {P : gP} (h : gWF P) : gWF (sp_minute P) := by
  obtain ⟨h1, h2, h3, h4, h5, h6, h7, h8, h9, h10⟩ := fo_ms_wf (P_n P) 0 P h
  refine ⟨h1, ?_, h3, h4, h5, h6, h7, h8, h9, h10⟩
  show min 999 (P_m P + 1) ≤ 999
  omega
