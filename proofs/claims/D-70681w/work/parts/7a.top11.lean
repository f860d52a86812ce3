set_option maxRecDepth 100000
set_option maxHeartbeats 400000
theorem m_may {τ : gM} {P : gP} {st : Nat → Int32} {x y z : Int32} {g : Nat → Int32} {v p w : Int32} (hR : gRM 0 st P) (hw : gWF P) : ∀ c fuel i acc, i + c = P_q P → c < fuel → f_X7_byFails_b6 fuel (mx τ st x y z g) v p w (i3 acc) (i3 i) = f_X7_byFails_b60 2000 (mx τ st x y z g) v p w (i3 (fo (thF P) c i acc)) 0 1 0 := by
  have hq := hw.q
  intro c
  induction c with
  | zero =>
    intro fuel i acc hi hf
    obtain ⟨f, rfl⟩ := gsucc hf
    simp only [f_X7_byFails_b6]
    rw [mx__state, i3_27, g3_ld (by decide) (by decide), show st 27 = i3 (P_q P) from hR.hq, if_pos (by rw [i3_le (by omega) (by omega)]; omega)]
    rfl
  | succ c ih =>
    intro fuel i acc hi hf
    obtain ⟨f, rfl⟩ := gsucc hf
    have hp6 := hw.p6 i
    simp only [f_X7_byFails_b6]
    rw [mx__state, i3_27, g3_ld (by decide) (by decide), show st 27 = i3 (P_q P) from hR.hq, if_neg (by rw [i3_le (by omega) (by omega)]; omega), i3_19, i3_add, g3_ld (by omega) (by decide), show st (19 + i) = i3 (P_p P i) by have := hR.hp (i := i) (by omega); rwa [Nat.zero_add] at this, i3_5, if3_le (by decide) (by omega)]
    unfold f_X7_byFails_b42
    have e0 := ih f (i + 1) (thF P i acc) (by omega) (by omega)
    show _ = f_X7_byFails_b60 2000 (mx τ st x y z g) v p w (i3 (fo (thF P) c (i + 1) (thF P i acc))) 0 1 0
    rw [← e0]
    unfold thF
    by_cases e5 : P_p P i < 5
    · rw [if_neg (by omega), if_pos e5, g3_v, i3_shl (by omega), i3_or, g3_v, i3_1, i3_add]
    · rw [if_pos (by omega), if_neg e5, g3_v, i3_0, i3_or, Nat.or_zero, g3_v, i3_1, i3_add]
theorem m_down {τ' : gM} {P : gP} {v p w : Int32} {U : Int64} (hT : TH P < 256) : ∀ c fuel i W, i + c = 8 → c < fuel → f_X7_byFails_b60 fuel τ' v p w (i3 (TH P)) U (j6 W) (i3 i) = f_X7_byFails_b99 2000 τ' v p w (i3 (TH P)) U (j6 (fo (awF P) c i W)) 0 := by
  intro c
  induction c with
  | zero =>
    intro fuel i W hi hf
    obtain ⟨f, rfl⟩ := gsucc hf
    simp only [f_X7_byFails_b60]
    rw [i3_8, if_pos (by rw [i3_le (by omega) (by omega)]; omega)]
    rfl
  | succ c ih =>
    intro fuel i W hi hf
    obtain ⟨f, rfl⟩ := gsucc hf
    have e0 := ih f (i + 1) (awF P i W) (by omega) (by omega)
    show _ = f_X7_byFails_b99 2000 τ' v p w (i3 (TH P)) U (j6 (fo (awF P) c (i + 1) (awF P i W))) 0
    rw [← e0]
    have h87 : ∀ n : Nat, f_X7_byFails_b87 (f_X7_byFails_b60 f) τ' v p w (i3 (TH P)) U (i3 i) (j6 n) (j6 W) = f_X7_byFails_b60 f τ' v p w (i3 (TH P)) U (j6 (W * n)) (i3 (i + 1)) := by
      intro n
      unfold f_X7_byFails_b87
      rw [g3_vl, j6_mul, g3_v, i3_1, i3_add]
    simp only [f_X7_byFails_b60]
    rw [i3_8, if_neg (by rw [i3_le (by omega) (by omega)]; omega), i3_31, i3_1, i3_bit8 hT (by omega)]
    unfold awF
    cases (TH P).testBit i
    · rw [if_neg (by decide)]
      exact h87 1
    · rw [if_pos (by decide)]
      exact h87 10
/-- p as the model takes it: none means the mean -/
def pvl (o : Option Nat) : Int32 := ovl o
def uFo (P : gP) (v : Nat) (o : Option Nat) (over A : Nat) : Nat := match o with
  | none => mFo P v over A
  | some p => gFo P v p over A
def uAdd (P : gP) (o : Option Nat) (over W : Nat) : Nat := match o with
  | none => W * pc5 (gG5 P over)
  | some p => if (gG5 P over).testBit p then W else 0
theorem uFo_yes {P : gP} {v over A : Nat} {o : Option Nat} (h : cnd P over = true) : uFo P v o over A = A + uAdd P o over (WY P v over) := by
  cases o
  · show mFo P v over A = _; unfold mFo; rw [h]; rfl
  · show gFo P v _ over A = _; unfold gFo; rw [h]; rfl
theorem uFo_no {P : gP} {v over A : Nat} {o : Option Nat} (h : cnd P over = false) : uFo P v o over A = A := by
  cases o
  · show mFo P v over A = _; unfold mFo; rw [h]; rfl
  · show gFo P v _ over A = _; unfold gFo; rw [h]; rfl
theorem m_ways {τ : gM} {P : gP} {v over D A : Nat} {w : Int32} {o : Option Nat} {st : Nat → Int32} {x y z : Int32} {g : Nat → Int32} (hM : gMO 0 P τ) (hp : isPg P) (hl : gLo (M_state τ) st) (hv : v ≤ 10) (ho : over < 256) (hop : ∀ p, o = some p → p < 5) {k99 : gM → Int32 → Int32 → Int32 → Int32 → Int64 → Int64 → Int32 → Option (Int64 × gM)} : ∀ c fuel i W, i + c = 8 → c < fuel → ∃ st' x' y' z', f_X7_byFails_b123 k99 fuel (mx τ st x y z g) (i3 v) (pvl o) w (i3 (TH P)) (j6 A) (j6 D) (i3 over) (j6 W) (i3 i) = k99 (mx τ st' x' y' z' g) (i3 v) (pvl o) w (i3 (TH P)) (j6 (A + uAdd P o over (fo (wyF P v over) c i W))) (j6 D) (i3 (over + 1)) ∧ gLo (M_state τ) st' := by
  have hq := hp.1.q
  have hT := TH_256 hq
  intro c
  induction c with
  | zero =>
    intro fuel i W hi hf
    obtain ⟨f, rfl⟩ := gsucc hf
    obtain ⟨st', e2, r2, f2, l2⟩ := m_run (over := over) (x := x) (y := y) (z := z) (g := g) hM hp hl ho
    have hG : m5 (P_g (sp_goes P over).1) = gG5 P over := rfl
    have hst : st' 127 = i3 (gG5 P over) := r2.hg
    have hg32 : gG5 P over < 32 := m5_lt _
    refine ⟨st', i3 (sp_goes P over).2.1, i3 (sp_goes P over).2.2.1, ovl (sp_goes P over).2.2.2, ?_, l2⟩
    have h211 : ∀ n : Nat, n < 2147483648 → f_X7_byFails_b211 k99 (mx τ st' (i3 (sp_goes P over).2.1) (i3 (sp_goes P over).2.2.1) (ovl (sp_goes P over).2.2.2) g) (i3 v) (pvl o) w (i3 (TH P)) (j6 D) (i3 over) (i3 n) (j6 W) (j6 A) = k99 (mx τ st' (i3 (sp_goes P over).2.1) (i3 (sp_goes P over).2.2.1) (ovl (sp_goes P over).2.2.2) g) (i3 v) (pvl o) w (i3 (TH P)) (j6 (A + W * n)) (j6 D) (i3 (over + 1)) := by
      intro n hn
      unfold f_X7_byFails_b211 f_X7_byFails_b216
      rw [g3_vl, j6_i3 hn, j6_mul, j6_add, g3_v, i3_1, i3_add]
    simp only [f_X7_byFails_b123]
    rw [i3_8, if_pos (by rw [i3_le (by omega) (by omega)]; omega), e2, g3_b]
    cases o with
    | none =>
      rw [if_pos (show pvl none = -4 from rfl)]
      unfold f_X7_goneThen
      rw [mx__state, i3_127, g3_ld (by decide) (by decide), hst, m_bits hg32]
      simp only [g3_b]
      exact h211 _ (by have := pc5_5 (gG5 P over); omega)
    | some p =>
      have hp5 := hop p rfl
      rw [if_neg (show ¬ pvl (some p) = -4 by
        show ¬ i3 p = -(i3 4)
        rw [i3_ng (by omega) (by decide) (by decide)]; exact id), mx__state, i3_127, g3_ld (by decide) (by decide), hst]
      show f_X7_byFails_b211 k99 _ (i3 v) (pvl (some p)) w (i3 (TH P)) (j6 D) (i3 over) ((i3 (gG5 P over) >>> (i3 p &&& 31)) &&& 1) (j6 W) (j6 A) = _
      rw [i3_31, i3_1, i3_bit5 hg32 hp5, h211 _ (by split <;> decide)]
      have e : W * (if (gG5 P over).testBit p then 1 else 0) = uAdd P (some p) over (fo (wyF P v over) 0 i W) := by
        show W * (if (gG5 P over).testBit p then 1 else 0) = if (gG5 P over).testBit p then W else 0
        split
        · rw [Nat.mul_one]
        · rw [Nat.mul_zero]
      rw [e]
  | succ c ih =>
    intro fuel i W hi hf
    obtain ⟨f, rfl⟩ := gsucc hf
    obtain ⟨st', x', y', z', e, l⟩ := ih f (i + 1) (wyF P v over i W) (by omega) (by omega)
    refine ⟨st', x', y', z', ?_, l⟩
    refine Eq.trans ?_ e
    have h167 : ∀ n : Nat, f_X7_byFails_b167 k99 (f_X7_byFails_b123 k99 f) (mx τ st x y z g) (i3 v) (pvl o) w (i3 (TH P)) (j6 A) (j6 D) (i3 over) (i3 i) (j6 n) (j6 W) = f_X7_byFails_b123 k99 f (mx τ st x y z g) (i3 v) (pvl o) w (i3 (TH P)) (j6 A) (j6 D) (i3 over) (j6 (W * n)) (i3 (i + 1)) := by
      intro n
      unfold f_X7_byFails_b167
      rw [g3_vl, j6_mul, g3_v, i3_1, i3_add]
    simp only [f_X7_byFails_b123]
    rw [i3_8, if_neg (by rw [i3_le (by omega) (by omega)]; omega), i3_31, i3_1, i3_bit8 hT (by omega), i3_bit8 ho (by omega)]
    unfold wyF
    cases (TH P).testBit i
    · rw [if_pos (by decide)]
      exact h167 1
    · rw [if_neg (by decide)]
      cases over.testBit i
      · rw [if_neg (by decide), i3_10, i3_sub (by omega), j6_i3 (by omega)]
        exact h167 (10 - v)
      · rw [if_pos (by decide), j6_i3 (by omega)]
        exact h167 v
theorem m_odds_out {τ : gM} {P : gP} {v D : Nat} {w : Int32} {o : Option Nat} {g : Nat → Int32} (hM : gMO 0 P τ) (hp : isPg P) (hv : v ≤ 10) (hop : ∀ p, o = some p → p < 5) : ∀ c fuel st x y z over A, over + c = 256 → c < fuel → gLo (M_state τ) st → ∃ st' x' y' z', f_X7_byFails_b99 fuel (mx τ st x y z g) (i3 v) (pvl o) w (i3 (TH P)) (j6 A) (j6 D) (i3 over) = ((f_X7_lowest (j6 (fo (uFo P v o) c over A)) (j6 D) w).bind fun (r3, _) => some (r3, mx τ st' x' y' z' g)) ∧ gLo (M_state τ) st' := by
  intro c
  induction c with
  | zero =>
    intro fuel st x y z over A ho hf hl
    obtain ⟨f, rfl⟩ := gsucc hf
    refine ⟨st, x, y, z, ?_, hl⟩
    simp only [f_X7_byFails_b99]
    rw [i3_256, if_pos (by rw [i3_le (by omega) (by omega)]; omega)]
    rfl
  | succ c ih =>
    intro fuel st x y z over A ho hf hl
    obtain ⟨f, rfl⟩ := gsucc hf
    have hne : ¬ (256 : Int32) ≤ i3 over := by rw [i3_256, i3_le (by omega) (by omega)]; omega
    simp only [f_X7_byFails_b99]
    rw [if_neg hne]
    cases hc : cnd P over
    · have hc' : ¬ (i3 over &&& (i3 (TH P) ^^^ (-1))) = 0 := by unfold cnd at hc; exact of_decide_eq_false hc
      obtain ⟨st', x', y', z', e, l⟩ := ih f st x y z (over + 1) A (by omega) (by omega) hl
      refine ⟨st', x', y', z', ?_, l⟩
      rw [if_neg hc']
      unfold f_X7_byFails_b216
      rw [g3_v, i3_1, i3_add]
      refine e.trans ?_
      show _ = ((f_X7_lowest (j6 (fo (uFo P v o) c (over + 1) (uFo P v o over A))) (j6 D) w).bind fun (r3, _) => some (r3, mx τ st' x' y' z' g))
      rw [uFo_no hc]
    · have hc' : (i3 over &&& (i3 (TH P) ^^^ (-1))) = 0 := by unfold cnd at hc; exact of_decide_eq_true hc
      obtain ⟨st1, x1, y1, z1, e1, l1⟩ := m_ways (D := D) (A := A) (w := w) (x := x) (y := y) (z := z) (g := g) hM hp hl hv (show over < 256 by omega) hop (k99 := f_X7_byFails_b99 f) 8 2000 0 1 (by omega) (by omega)
      obtain ⟨st', x', y', z', e, l⟩ := ih f st1 x1 y1 z1 (over + 1) (A + uAdd P o over (WY P v over)) (by omega) (by omega) l1
      refine ⟨st', x', y', z', ?_, l⟩
      rw [if_pos hc']
      refine e1.trans (e.trans ?_)
      show _ = ((f_X7_lowest (j6 (fo (uFo P v o) c (over + 1) (uFo P v o over A))) (j6 D) w).bind fun (r3, _) => some (r3, mx τ st' x' y' z' g))
      rw [uFo_yes hc]
theorem m_odds {τ : gM} {P : gP} {v : Nat} {w : Int32} {o : Option Nat} (hM : gMO 0 P τ) (hp : isPg P) (hv : v ≤ 10) (hop : ∀ p, o = some p → p < 5) : ∃ st' x' y' z', f_X7_byFails τ (i3 v) (pvl o) w = ((f_X7_lowest (j6 (fo (uFo P v o) (2 ^ P_q P) 0 0)) (j6 (AW P)) w).bind fun (r3, _) => some (r3, mx τ st' x' y' z' (M_goneBy τ))) ∧ gLo (M_state τ) st' := by
  have hw := hp.1
  have hq := hw.q
  have h256 := pow8 hq
  obtain ⟨st', x', y', z', e, l⟩ := m_odds_out (D := AW P) (w := w) (g := M_goneBy τ) hM hp hv hop 256 2000 (M_state τ) (M_weptBits τ) (M_weptTimes τ) (M_firstNot τ) 0 0 (by omega) (by omega) gLo.rf
  refine ⟨st', x', y', z', ?_, l⟩
  have ef : fo (uFo P v o) 256 0 0 = fo (uFo P v o) (2 ^ P_q P) 0 0 := by
    rw [show 256 = 2 ^ P_q P + (256 - 2 ^ P_q P) by omega, fo_add]
    exact fo_id _ _ _ (fun j b h1 h2 => uFo_no (cnd_no (by omega) (by omega) hq))
  rw [ef] at e
  refine Eq.trans ?_ e
  have e1 := m_may (τ := τ) (x := M_weptBits τ) (y := M_weptTimes τ) (z := M_firstNot τ) (g := M_goneBy τ) (v := i3 v) (p := pvl o) (w := w) hM.R hw (P_q P) 2000 0 0 (by omega) (by omega)
  have e2 := m_down (τ' := mx τ (M_state τ) (M_weptBits τ) (M_weptTimes τ) (M_firstNot τ) (M_goneBy τ)) (v := i3 v) (p := pvl o) (w := w) (U := 0) (TH_256 hq) 8 2000 0 1 (by omega) (by omega)
  exact e1.trans e2
theorem fo_sum {h : Nat → Nat → Nat} {M : Nat} (hh : ∀ j b, h j b ≤ b + M) : ∀ k i a, fo h k i a ≤ a + k * M
  | 0, _, a => by simp [fo]
  | k + 1, i, a => by
    refine Nat.le_trans (fo_sum hh k (i + 1) (h i a)) ?_
    have := hh i a
    rw [Nat.succ_mul]
    omega
theorem uFo_le {P : gP} {v : Nat} {o : Option Nat} (hv : v ≤ 10) (j b : Nat) : uFo P v o j b ≤ b + 500000000 := by
  have hW := WY_b (P := P) (over := j) hv
  have h5 := pc5_5 (gG5 P j)
  cases hc : cnd P j
  · rw [uFo_no hc]; omega
  · rw [uFo_yes hc]
    refine Nat.add_le_add_left ?_ b
    cases o with
    | none => exact Nat.le_trans (Nat.mul_le_mul hW h5) (by decide)
    | some p =>
      show (if (gG5 P j).testBit p then WY P v j else 0) ≤ _
      split <;> omega
theorem uFo_b {P : gP} {v : Nat} {o : Option Nat} (hv : v ≤ 10) (hq : P_q P ≤ 8) : fo (uFo P v o) (2 ^ P_q P) 0 0 < 9223372036854775808 := by
  have h256 := pow8 hq
  have := fo_sum (h := uFo P v o) (M := 500000000) (uFo_le hv) (2 ^ P_q P) 0 0
  have h2 : 2 ^ P_q P * 500000000 ≤ 256 * 500000000 := Nat.mul_le_mul_right _ h256
  omega
theorem z_luck {σ : gX} {τ : gM} {x y z : Int32} (h : gRZ σ τ) : gOK σ τ (f_X0_luck σ x y z) (f_X7_luck τ x y z) := by
  obtain ⟨P, hh⟩ := h
  have h0 := hh
  obtain ⟨hw, hS, hM, -⟩ := hh
  have hn := hw.n
  have hq := hw.q
  unfold f_X0_luck f_X7_luck f_X0_luck_b27 f_X7_luck_b40
  rcases in_lit (x := x) (lo := 0) (hi := 10) (a := 0) (b := 10) rfl rfl with ⟨v, -, hv, rfl, f1, f2⟩ | ⟨f1, f2, -⟩
  · rw [f1, f2]
    simp only [g3_b]
    rw [if_neg n10, if_neg n10]
    rcases isOne2 (x := y) hn hS hM with ⟨p, h1, rfl, h3, h4⟩ | ⟨h1, h2, h3⟩
    · rw [h3, h4]
      simp only [g3_b]
      rw [if_neg n10, if_neg n10]
      rcases isPart2 (x := z) with ⟨w, w1, rfl, e1, e2⟩ | ⟨e1, e2, e3⟩
      · rw [e1, e2]
        simp only [g3_b]
        rw [if_neg n10, if_neg n10]
        obtain ⟨xi', t', c1, q1, s1⟩ := c_odds (v := v) (p := p) hS hw hv (by omega)
        obtain ⟨st', x', y', z', m1, l1⟩ := m_odds (o := some p) (w := i3 w) hM h0.pg hv (fun q hq => by cases hq; omega)
        have hb := uFo_b (P := P) (o := some p) hv hq
        have ha := AW_b P
        obtain ⟨l2, r, l3⟩ := low2 (w := i3 w) hb (show AW P < 9223372036854775808 by omega) ha.1
        have m1 : f_X7_byFails τ (i3 v) (i3 p) (i3 w) = _ := m1
        rw [c1, m1, l3]
        simp only [g3_b, sx__xi]
        have l2 : f_X0_lowest (I_goneSum xi') (I_allWays xi') (i3 w) = some (r, ()) := by rw [s1.1, s1.2.2]; exact l2.trans l3
        rw [l2]
        exact gScr.ok h0 ⟨_, _, _, _, _, _, _, _, _, rfl, rfl, q1, l1⟩
      · rw [e1, e2]
        exact gOK.rf _ h0
    · rw [h1, h2]
      exact gOK.rf _ h0
  · rw [f1, f2]
    exact gOK.rf _ h0
theorem z_mean {σ : gX} {τ : gM} {x z : Int32} (h : gRZ σ τ) : gOK σ τ (f_X0_mean σ x z) (f_X7_mean τ x z) := by
  obtain ⟨P, hh⟩ := h
  have h0 := hh
  obtain ⟨hw, hS, hM, -⟩ := hh
  have hn := hw.n
  have hq := hw.q
  unfold f_X0_mean f_X7_mean f_X0_mean_b19 f_X7_mean_b33
  rcases in_lit (x := x) (lo := 0) (hi := 10) (a := 0) (b := 10) rfl rfl with ⟨v, -, hv, rfl, f1, f2⟩ | ⟨f1, f2, -⟩
  · rw [f1, f2]
    simp only [g3_b]
    rw [if_neg n10, if_neg n10]
    rcases isPart2 (x := z) with ⟨w, w1, rfl, e1, e2⟩ | ⟨e1, e2, e3⟩
    · rw [e1, e2]
      simp only [g3_b]
      rw [if_neg n10, if_neg n10]
      obtain ⟨xi', t', c1, q1, s1⟩ := c_odds (v := v) (p := 0) hS hw hv (by decide)
      obtain ⟨st', x', y', z', m1, l1⟩ := m_odds (o := none) (w := i3 w) hM h0.pg hv (fun q hq => by cases hq)
      have hb := uFo_b (P := P) (o := none) hv hq
      have ha := AW_b P
      obtain ⟨l2, r, l3⟩ := low2 (w := i3 w) hb (show AW P < 9223372036854775808 by omega) ha.1
      have c1 : f_X0_findOdds σ (i3 v) 0 = _ := c1
      have m1 : f_X7_byFails τ (i3 v) (-4) (i3 w) = _ := m1
      rw [c1, m1, l3]
      simp only [g3_b, sx__xi]
      have l2 : f_X0_lowest (I_manySum xi') (I_allWays xi') (i3 w) = some (r, ()) := by rw [s1.2.1, s1.2.2]; exact l2.trans l3
      rw [l2]
      exact gScr.ok h0 ⟨_, _, _, _, _, _, _, _, _, rfl, rfl, q1, l1⟩
    · rw [e1, e2]
      exact gOK.rf _ h0
  · rw [f1, f2]
    exact gOK.rf _ h0
