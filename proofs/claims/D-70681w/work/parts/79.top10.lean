set_option maxRecDepth 100000
set_option maxHeartbeats 400000
/-! luck, mean -/
def gG5 (P : gP) (over : Nat) : Nat := m5 (P_g (sp_goes P over).1)
def cnd (P : gP) (over : Nat) : Bool := decide ((i3 over &&& (i3 (TH P) ^^^ (-1))) = 0)
def gFo (P : gP) (v p over A : Nat) : Nat := if cnd P over then A + (if (gG5 P over).testBit p then WY P v over else 0) else A
def mFo (P : gP) (v over B : Nat) : Nat := if cnd P over then B + WY P v over * pc5 (gG5 P over) else B
theorem cnd_no {P : gP} {over : Nat} (h1 : 2 ^ P_q P ≤ over) (h2 : over < 256) (hq : P_q P ≤ 8) : cnd P over = false := by
  unfold cnd
  apply decide_eq_false
  intro h
  obtain ⟨i, hi, hb⟩ := Nat.exists_ge_and_testBit_of_ge_two_pow h1
  have hi8 : i < 8 := by
    apply Nat.lt_of_not_le
    intro h8
    have : over.testBit i = false := Nat.testBit_lt_two_pow (Nat.lt_of_lt_of_le h2 (Nat.pow_le_pow_right (n := 2) (by decide) h8))
    rw [this] at hb
    cases hb
  have e := congrArg (fun x : Int32 => x.toBitVec.getLsbD i) h
  have e1 : (i3 over &&& (i3 (TH P) ^^^ (-1))).toBitVec = BitVec.ofNat 32 over &&& (BitVec.ofNat 32 (TH P) ^^^ BitVec.allOnes 32) := rfl
  have e2 : (0 : Int32).toBitVec = 0#32 := rfl
  simp only [e1, e2] at e
  rw [BitVec.getLsbD_and, BitVec.getLsbD_xor, BitVec.getLsbD_allOnes, BitVec.getLsbD_ofNat, BitVec.getLsbD_ofNat, hb, TH_bit, BitVec.getLsbD_zero] at e
  simp [show i < 32 by omega, show ¬ i < P_q P by omega] at e
def gsum (xi : gXI) (A B C : Nat) : Prop := I_goneSum xi = j6 A ∧ I_manySum xi = j6 B ∧ I_allWays xi = j6 C
theorem gXq.sum {xi : gXI} {a b c : Int64} : gXq xi (I_allWays_s (I_manySum_s (I_goneSum_s xi a) b) c) := ⟨rfl, rfl, rfl, rfl, rfl⟩
theorem shl_pow {q : Nat} (h : q ≤ 8) : (1 : Int32) <<< (i3 q &&& 31) = i3 (2 ^ q) := i3_shl (by omega)
theorem pow8 {q : Nat} (h : q ≤ 8) : 2 ^ q ≤ 256 := Nat.pow_le_pow_right (n := 2) (by decide) h
/-- the ways of one choice, and what goes then -/
theorem c_odds_in {σ : gX} {P : gP} {v p over : Nat} {rr : Nat → Int32} (hS : gRS (X_now σ) P) (hw : gWF P) (hv : v ≤ 10) (hp : p < 5) (ho : over < 256) {k99 : gX → Int32 → Int32 → Int32 → Int32 → Option gX} : ∀ k fuel xi t i W A B C, i + k = P_q P → k < fuel → gsum xi A B C → ∃ xi' t', f_X0_findOdds_b128 k99 fuel (sx σ xi t rr) (i3 v) (i3 p) (i3 (TH P)) (i3 over) (j6 W) (i3 i) = k99 (sx σ xi' t' rr) (i3 v) (i3 p) (i3 (TH P)) (i3 (over + 1)) ∧ gXq xi xi' ∧ gsum xi' (A + (if (gG5 P over).testBit p then fo (wyF P v over) k i W else 0)) (B + fo (wyF P v over) k i W * pc5 (gG5 P over)) C := by
  have hq := hw.q
  have hT := TH_256 hq
  intro k
  induction k with
  | zero =>
    intro fuel xi t i W A B C hi hf hs
    obtain ⟨f, rfl⟩ := gsucc hf
    obtain ⟨t2, r2, w2, z2, hK⟩ := c_run (σ := σ) (xi := xi) (t := t) (rr := rr) (over := over) (ov := i3 over) rfl rfl hS hw ho
    have hG : m5 (P_g (sp_goes P over).1) = gG5 P over := rfl
    have hG5 := m5_lt (P_g (sp_goes P over).1)
    have h230 : ∀ b : Bool, f_X0_findOdds_b230 k99 (sx σ (qxi xi (sp_goes P over)) t2 rr) (i3 v) (i3 p) (i3 (TH P)) (i3 over) (j6 W) (j6 (if b then W else 0)) (I_goneSum xi) = k99 (sx σ (I_manySum_s (I_goneSum_s (qxi xi (sp_goes P over)) (j6 (A + (if b then W else 0)))) (j6 (B + W * pc5 (gG5 P over)))) t2 rr) (i3 v) (i3 p) (i3 (TH P)) (i3 (over + 1)) := by
      intro b
      unfold f_X0_findOdds_b230 f_X0_findOdds_b257
      rw [g3_vl, hs.1, j6_add, g3_s, sx__xi, sx_x, sx__tried, c_gone r2 w2, g3_b]
      show (gs (X_tried_s (sx σ (I_goneSum_s (qxi xi (sp_goes P over)) (j6 (A + if b = true then W else 0))) t2 rr) t2) fun s24 => (f_J7_bitCount (i3 (m5 (P_g (sp_goes P over).1)))).bind fun (r25, _) => gvl (((I_manySum (X_xi (sx σ (I_goneSum_s (qxi xi (sp_goes P over)) (j6 (A + if b = true then W else 0))) t2 rr)))) + (j6 W * (r25.toInt64))) fun v27 => gs (X_xi_s s24 (I_manySum_s (X_xi s24) v27)) fun s28 => gv (i3 over + 1) fun v29 => k99 s28 (i3 v) (i3 p) (i3 (TH P)) v29) = _
      rw [g3_s, sx_t, c_bits hG5, g3_b]
      show (gvl (((I_manySum (X_xi (sx σ (I_goneSum_s (qxi xi (sp_goes P over)) (j6 (A + if b = true then W else 0))) t2 rr)))) + (j6 W * ((i3 (pc5 (m5 (P_g (sp_goes P over).1)))).toInt64))) fun v27 => gs (X_xi_s (sx σ (I_goneSum_s (qxi xi (sp_goes P over)) (j6 (A + if b = true then W else 0))) t2 rr) (I_manySum_s (X_xi (sx σ (I_goneSum_s (qxi xi (sp_goes P over)) (j6 (A + if b = true then W else 0))) t2 rr)) v27)) fun s28 => gv (i3 over + 1) fun v29 => k99 s28 (i3 v) (i3 p) (i3 (TH P)) v29) = _
      rw [g3_vl, sx__xi, j6_i3 (by have := pc5_5 (m5 (P_g (sp_goes P over).1)); omega), show I_manySum (I_goneSum_s (qxi xi (sp_goes P over)) (j6 (A + if b = true then W else 0))) = j6 B from hs.2.1, j6_mul, j6_add, g3_s, sx_x, g3_v, i3_1, i3_add, hG]
    refine ⟨I_manySum_s (I_goneSum_s (qxi xi (sp_goes P over)) (j6 (A + (if (gG5 P over).testBit p then W else 0)))) (j6 (B + W * pc5 (gG5 P over))), t2, ?_, ⟨rfl, rfl, rfl, rfl, rfl⟩, ⟨rfl, rfl, hs.2.2⟩⟩
    simp only [f_X0_findOdds_b128]
    rw [if_pos (by rw [sx__now, hS.hq, i3_le (by omega) (by omega)]; omega), hK]
    simp only [sx__tried, sx__xi]
    rw [c_gone r2 w2]
    simp only [g3_b, g3_s, sx_t]
    rw [c_has hG5 hp]
    simp only [g3_b]
    rw [hG]
    cases hb : (gG5 P over).testBit p
    · rw [if_pos (by decide)]
      exact h230 false
    · rw [if_neg (by decide)]
      exact h230 true
  | succ k ih =>
    intro fuel xi t i W A B C hi hf hs
    obtain ⟨f, rfl⟩ := gsucc hf
    obtain ⟨xi', t', e, h1, h2⟩ := ih f xi t (i + 1) (wyF P v over i W) A B C (by omega) (by omega) hs
    refine ⟨xi', t', ?_, h1, h2⟩
    rw [← e]
    have h175 : ∀ n : Nat, f_X0_findOdds_b175 k99 (f_X0_findOdds_b128 k99 f) (sx σ xi t rr) (i3 v) (i3 p) (i3 (TH P)) (i3 over) (i3 i) (j6 n) (j6 W) = f_X0_findOdds_b128 k99 f (sx σ xi t rr) (i3 v) (i3 p) (i3 (TH P)) (i3 over) (j6 (W * n)) (i3 (i + 1)) := by
      intro n
      unfold f_X0_findOdds_b175
      rw [g3_vl, j6_mul, g3_v, i3_1, i3_add]
    simp only [f_X0_findOdds_b128]
    rw [if_neg (by rw [sx__now, hS.hq, i3_le (by omega) (by omega)]; omega), c_has8 hT (by omega), c_has8 ho (by omega)]
    simp only [g3_b]
    unfold wyF
    cases (TH P).testBit i
    · rw [if_pos (by decide)]
      exact h175 1
    · rw [if_neg (by decide)]
      cases over.testBit i
      · rw [if_pos (by decide), i3_10, i3_sub (by omega), j6_i3 (by omega)]
        exact h175 (10 - v)
      · rw [if_neg (by decide), j6_i3 (by omega)]
        exact h175 v
theorem c_odds_out {σ : gX} {P : gP} {v p C : Nat} {rr : Nat → Int32} (hS : gRS (X_now σ) P) (hw : gWF P) (hv : v ≤ 10) (hp : p < 5) : ∀ c fuel xi t over A B, over + c = 2 ^ P_q P → c < fuel → gsum xi A B C → ∃ xi' t', f_X0_findOdds_b99 fuel (sx σ xi t rr) (i3 v) (i3 p) (i3 (TH P)) (i3 over) = some (sx σ xi' t' rr) ∧ gXq xi xi' ∧ gsum xi' (fo (gFo P v p) c over A) (fo (mFo P v) c over B) C := by
  have hq := hw.q
  have h256 := pow8 hq
  intro c
  induction c with
  | zero =>
    intro fuel xi t over A B ho hf hs
    obtain ⟨f, rfl⟩ := gsucc hf
    refine ⟨xi, t, ?_, gXq.rf, hs⟩
    simp only [f_X0_findOdds_b99]
    rw [if_pos (by rw [sx__now, hS.hq, shl_pow hq, i3_le (by omega) (by omega)]; omega)]
  | succ c ih =>
    intro fuel xi t over A B ho hf hs
    obtain ⟨f, rfl⟩ := gsucc hf
    have hne : ¬ ((1 : Int32) <<< (S_planned (X_now (sx σ xi t rr)) &&& 31)) ≤ i3 over := by rw [sx__now, hS.hq, shl_pow hq, i3_le (by omega) (by omega)]; omega
    simp only [f_X0_findOdds_b99]
    rw [if_neg hne]
    cases hc : cnd P over
    · have hc' : ¬ (i3 over &&& (i3 (TH P) ^^^ (-1))) = 0 := by unfold cnd at hc; exact of_decide_eq_false hc
      obtain ⟨xi', t', e, h1, h2⟩ := ih f xi t (over + 1) A B (by omega) (by omega) hs
      refine ⟨xi', t', ?_, h1, ?_⟩
      · rw [if_neg hc']
        unfold f_X0_findOdds_b257
        rw [g3_v, i3_1, i3_add]
        exact e
      · show gsum xi' (fo (gFo P v p) c (over + 1) (gFo P v p over A)) (fo (mFo P v) c (over + 1) (mFo P v over B)) C
        unfold gFo mFo
        rw [hc]
        exact h2
    · have hc' : (i3 over &&& (i3 (TH P) ^^^ (-1))) = 0 := by unfold cnd at hc; exact of_decide_eq_true hc
      obtain ⟨xi1, t1, e1, h1, s1⟩ := c_odds_in (rr := rr) (k99 := f_X0_findOdds_b99 f) hS hw hv hp (show over < 256 by omega) (P_q P) 2000 xi t 0 1 A B C (by omega) (by omega) hs
      rw [WY_q hq] at s1
      obtain ⟨xi', t', e, h2, s2⟩ := ih f xi1 t1 (over + 1) _ _ (by omega) (by omega) s1
      refine ⟨xi', t', ?_, h1.tr h2, ?_⟩
      · rw [if_pos hc']
        exact e1.trans e
      · show gsum xi' (fo (gFo P v p) c (over + 1) (gFo P v p over A)) (fo (mFo P v) c (over + 1) (mFo P v over B)) C
        unfold gFo mFo
        rw [hc]
        exact s2
theorem i3_or (a b : Nat) : i3 a ||| i3 b = i3 (a ||| b) := by
  apply Int32.toBitVec.inj
  show BitVec.ofNat 32 a ||| BitVec.ofNat 32 b = BitVec.ofNat 32 (a ||| b)
  apply BitVec.eq_of_getLsbD_eq
  intro i hi
  rw [BitVec.getLsbD_or, BitVec.getLsbD_ofNat, BitVec.getLsbD_ofNat, BitVec.getLsbD_ofNat, Nat.testBit_or]
  simp [hi]
theorem c_odds_th {σ : gX} {P : gP} {rr : Nat → Int32} {v p : Int32} (hS : gRS (X_now σ) P) (hw : gWF P) : ∀ c fuel xi t i acc A B C, i + c = P_q P → c < fuel → gsum xi A B C → (∀ b, i ≤ b → b < P_q P → (TH P).testBit b = decide (P_p P b < 5)) → ∃ xi', f_X0_findOdds_b20 fuel (sx σ xi t rr) v p (i3 acc) (i3 i) = f_X0_findOdds_b99 2000 (sx σ xi' t rr) v p (i3 (fo (thF P) c i acc)) 0 ∧ gXq xi xi' ∧ gsum xi' A B (fo (awF P) c i C) := by
  have hq := hw.q
  intro c
  induction c with
  | zero =>
    intro fuel xi t i acc A B C hi hf hs hb
    obtain ⟨f, rfl⟩ := gsucc hf
    refine ⟨xi, ?_, gXq.rf, hs⟩
    simp only [f_X0_findOdds_b20]
    rw [if_pos (by rw [sx__now, hS.hq, i3_le (by omega) (by omega)]; omega)]
    rfl
  | succ c ih =>
    intro fuel xi t i acc A B C hi hf hs hb
    obtain ⟨f, rfl⟩ := gsucc hf
    have hp6 := hw.p6 i
    have h86 : ∀ (n : Nat) (m : Int32), f_X0_findOdds_b86 (f_X0_findOdds_b20 f) (sx σ xi t rr) v p m (i3 i) (j6 n) (I_allWays xi) = f_X0_findOdds_b20 f (sx σ (I_allWays_s xi (j6 (C * n))) t rr) v p m (i3 (i + 1)) := by
      intro n m
      unfold f_X0_findOdds_b86
      rw [g3_vl, hs.2.2, j6_mul, g3_s, sx__xi, sx_x, g3_v, i3_1, i3_add]
    have hbi := hb i (by omega) (by omega)
    simp only [f_X0_findOdds_b20]
    rw [if_neg (by rw [sx__now, hS.hq, i3_le (by omega) (by omega)]; omega), sx__now, g3_ld (by omega) (by decide), hS.hp (by omega), i3_5, if3_le (by decide) (by omega)]
    by_cases e5 : P_p P i < 5
    · rw [if_neg (by omega)]
      unfold f_X0_findOdds_b51
      rw [if_neg (by decide)]
      unfold f_X0_findOdds_b67
      rw [g3_v, if_neg (by decide), i3_shl (by omega), i3_or, sx__xi]
      obtain ⟨xi', e, h1, s1⟩ := ih f (I_allWays_s xi (j6 (C * 10))) t (i + 1) (acc ||| 2 ^ i) A B (C * 10) (by omega) (by omega) ⟨hs.1, hs.2.1, rfl⟩ (fun b h1 h2 => hb b (by omega) h2)
      refine ⟨xi', ?_, (show gXq xi (I_allWays_s xi (j6 (C * 10))) from ⟨rfl, rfl, rfl, rfl, rfl⟩).tr h1, ?_⟩
      · refine (h86 10 _).trans (e.trans ?_)
        show _ = f_X0_findOdds_b99 2000 (sx σ xi' t rr) v p (i3 (fo (thF P) c (i + 1) (thF P i acc))) 0
        unfold thF
        rw [if_pos e5]
      · show gsum xi' A B (fo (awF P) c (i + 1) (awF P i C))
        unfold awF
        rw [hbi, decide_eq_true e5]
        exact s1
    · rw [if_pos (by omega)]
      unfold f_X0_findOdds_b51
      rw [if_pos rfl]
      unfold f_X0_findOdds_b67
      rw [g3_v, if_pos rfl, i3_0, i3_or, Nat.or_zero, sx__xi]
      obtain ⟨xi', e, h1, s1⟩ := ih f (I_allWays_s xi (j6 (C * 1))) t (i + 1) acc A B (C * 1) (by omega) (by omega) ⟨hs.1, hs.2.1, rfl⟩ (fun b h1 h2 => hb b (by omega) h2)
      refine ⟨xi', ?_, (show gXq xi (I_allWays_s xi (j6 (C * 1))) from ⟨rfl, rfl, rfl, rfl, rfl⟩).tr h1, ?_⟩
      · refine (h86 1 _).trans (e.trans ?_)
        show _ = f_X0_findOdds_b99 2000 (sx σ xi' t rr) v p (i3 (fo (thF P) c (i + 1) (thF P i acc))) 0
        unfold thF
        rw [if_neg e5]
      · show gsum xi' A B (fo (awF P) c (i + 1) (awF P i C))
        unfold awF
        rw [hbi, decide_eq_false e5]
        exact s1
theorem c_odds {σ : gX} {P : gP} {v p : Nat} (hS : gRS (X_now σ) P) (hw : gWF P) (hv : v ≤ 10) (hp : p < 5) : ∃ xi' t', f_X0_findOdds σ (i3 v) (i3 p) = some (sx σ xi' t' (X_row σ)) ∧ gXq (X_xi σ) xi' ∧ gsum xi' (fo (gFo P v p) (2 ^ P_q P) 0 0) (fo (mFo P v) (2 ^ P_q P) 0 0) (AW P) := by
  have hq := hw.q
  have h256 := pow8 hq
  obtain ⟨xi1, e1, h1, s1⟩ := c_odds_th (v := i3 v) (p := i3 p) (rr := X_row σ) hS hw (P_q P) 2000 (I_allWays_s (I_manySum_s (I_goneSum_s (X_xi σ) 0) 0) 1) (X_tried σ) 0 0 0 0 1 (by omega) (by omega) ⟨rfl, rfl, rfl⟩ (fun b _ hb => by rw [TH_bit]; simp [hb])
  rw [AW_q hq] at s1
  obtain ⟨xi2, t2, e2, h2, s2⟩ := c_odds_out (v := v) (p := p) (rr := X_row σ) hS hw hv hp (2 ^ P_q P) 2000 xi1 (X_tried σ) 0 0 0 (by omega) (by omega) s1
  refine ⟨xi2, t2, ?_, (gXq.sum.tr h1).tr h2, s2⟩
  unfold f_X0_findOdds
  rw [g3_s, g3_s, g3_s]
  exact e1.trans e2
