set_option maxRecDepth 100000
/-! the first ones of the queue -/
def wS1 (P : gP) (T : Nat) : Nat → Bool := fun p => !P_g P p && !T.testBit p
def ones1 (P : gP) (T : Nat) : Nat := match sp_first P (wS1 P T) with
  | none => T
  | some q => T ||| 2 ^ q
def ones (P : gP) : Nat → Nat → Nat
  | 0, T => T
  | c + 1, T => ones P c (ones1 P T)
/-- T holds none but who wait -/
def sub5 (P : gP) (T : Nat) : Prop := T < 32 ∧ ∀ p, T.testBit p = true → p < P_n P ∧ P_g P p = false
theorem sub5_0 {P : gP} : sub5 P 0 := ⟨by decide, fun p h => by rw [Nat.zero_testBit] at h; cases h⟩
theorem sub5_1 {P : gP} {T : Nat} (hn : P_n P ≤ 5) (h : sub5 P T) : sub5 P (ones1 P T) := by
  unfold ones1
  split
  · exact h
  · rename_i q hq
    obtain ⟨h1, h2⟩ := sp_first_some hq
    refine ⟨or5_lt h.1 (pow5_lt (by omega)), fun p hp => ?_⟩
    rw [Nat.testBit_or, Bool.or_eq_true] at hp
    rcases hp with hp | hp
    · exact h.2 p hp
    · have : q = p := by
        rw [Nat.testBit_two_pow] at hp
        exact of_decide_eq_true hp
      subst this
      refine ⟨h1, ?_⟩
      unfold wS1 at h2
      cases hg : P_g P q
      · rfl
      · rw [hg] at h2; simp at h2
theorem sub5_ones {P : gP} (hn : P_n P ≤ 5) : ∀ c T, sub5 P T → sub5 P (ones P c T)
  | 0, _, h => h
  | c + 1, T, h => sub5_ones hn c _ (sub5_1 hn h)
theorem ones_none {P : gP} {T : Nat} (h : sp_first P (wS1 P T) = none) : ∀ c, ones P c T = T
  | 0 => rfl
  | c + 1 => by
    show ones P c (ones1 P T) = T
    have : ones1 P T = T := by unfold ones1; rw [h]
    rw [this]
    exact ones_none h c
theorem andn_bit {W T p : Nat} (hW : W < 32) (hT : T < 32) (hp : p < 5) : (W &&& (31 - T)).testBit p = (W.testBit p && !T.testBit p) :=
  (by decide +kernel : ∀ W, W < 32 → ∀ T, T < 32 → ∀ p, p < 5 → (W &&& (31 - T)).testBit p = (W.testBit p && !T.testBit p)) W hW T hT p hp
theorem andn_lt {W T : Nat} (hW : W < 32) : (W &&& (31 - T)) < 32 := Nat.lt_of_le_of_lt Nat.and_le_left hW
theorem c_left {P : gP} {T : Nat} (hn : P_n P ≤ 5) (hT : T < 32) : sp_first P (fun p => (sp_waiting P &&& (31 - T)).testBit p) = sp_first P (wS1 P T) :=
  sp_first_congr (fun p hp => by
    show (sp_waiting P &&& (31 - T)).testBit p = _
    rw [andn_bit (waiting_lt hn) hT (by omega), waiting_bit hn (by omega)]
    unfold wS1
    simp [hp])
theorem c_back {P : gP} {T : Nat} (hn : P_n P ≤ 5) (h : sub5 P T) : i3 (sp_waiting P) &&& (i3 (sp_waiting P &&& (31 - T)) ^^^ (-1)) = i3 T := by
  have hW := waiting_lt hn
  have e : sp_waiting P &&& (31 - (sp_waiting P &&& (31 - T))) = T := by
    refine bits5 (Nat.lt_of_le_of_lt Nat.and_le_left hW) h.1 (fun p hp => ?_)
    rw [andn_bit hW (andn_lt hW) hp, andn_bit hW h.1 hp, waiting_bit hn hp]
    cases hb : T.testBit p
    · cases decide (p < P_n P) <;> cases P_g P p <;> rfl
    · obtain ⟨h1, h2⟩ := h.2 p hb
      rw [h2]; simp [h1]
  rw [i3_1, i3_andn5 hW (andn_lt hW), e]
theorem c_ones_b {σ : gS} {P : gP} {N : Nat} (h : gRS σ P) (hw : gWF P) (hN : N ≤ 5) : ∀ c fuel T, c ≤ N → c < fuel → sub5 P T → f_X5_firstOnes_b7 fuel σ (i3 N) (i3 (sp_waiting P &&& (31 - T))) (i3 (N - c)) = some (i3 (ones P c T), σ) := by
  have hn := hw.n
  have hend : ∀ T, sub5 P T → f_X5_firstOnes_b34 σ (i3 (sp_waiting P &&& (31 - T))) = some (i3 T, σ) := by
    intro T hT
    unfold f_X5_firstOnes_b34
    rw [c_waiting h hn]
    show some (i3 (sp_waiting P) &&& (i3 (sp_waiting P &&& (31 - T)) ^^^ (-1)), σ) = _
    rw [c_back hn hT]
  intro c
  induction c with
  | zero =>
    intro fuel T hc hf hT
    obtain ⟨f, rfl⟩ := gsucc hf
    simp only [f_X5_firstOnes_b7]
    rw [if_pos (by rw [i3_le (by omega) (by omega)]; omega), hend T hT]
    rfl
  | succ c ih =>
    intro fuel T hc hf hT
    obtain ⟨f, rfl⟩ := gsucc hf
    simp only [f_X5_firstOnes_b7]
    have hL := andn_lt (T := T) (waiting_lt hn)
    rw [if_neg (by rw [i3_le (by omega) (by omega)]; omega), i3_0, if3_eq (by omega) (by decide)]
    by_cases e0 : sp_waiting P &&& (31 - T) = 0
    · rw [if_pos e0, hend T hT]
      have hnone : sp_first P (wS1 P T) = none := by
        cases hs : sp_first P (wS1 P T) with
        | none => rfl
        | some q =>
          rw [← c_left hn hT.1, e0] at hs
          have := (sp_first_some hs).2
          simp at this
      rw [ones_none hnone]
    · rw [if_neg e0, c_first h hw hL]
      have hsome : ∃ q, sp_first P (wS1 P T) = some q := by
        cases hs : sp_first P (wS1 P T) with
        | some q => exact ⟨q, rfl⟩
        | none =>
          exfalso
          apply e0
          rw [← c_left hn hT.1] at hs
          refine bits5 hL (by decide) (fun p hp => ?_)
          rw [Nat.zero_testBit]
          by_cases hpn : p < P_n P
          · exact sp_first_none hs p hpn
          · rw [andn_bit (waiting_lt hn) hT.1 hp, waiting_bit hn hp]
            simp [hpn]
      obtain ⟨q, hq⟩ := hsome
      obtain ⟨hq1, hq2⟩ := sp_first_some hq
      show ((some (ovl (sp_first P (fun p => (sp_waiting P &&& (31 - T)).testBit p)), σ)).bind fun (r3, u4) => gv (i3 (sp_waiting P &&& (31 - T)) &&& (((1 : Int32) <<< (r3 &&& 31)) ^^^ (-1))) fun v5 => gv (i3 (N - (c + 1)) + 1) fun v6 => (f_X5_firstOnes_b7 f) u4 (i3 N) v5 v6) = _
      rw [c_left hn hT.1, hq]
      show f_X5_firstOnes_b7 f σ (i3 N) (i3 (sp_waiting P &&& (31 - T)) &&& (((1 : Int32) <<< (i3 q &&& 31)) ^^^ (-1))) (i3 (N - (c + 1)) + 1) = some (i3 (ones P c (ones1 P T)), σ)
      have e1 : ones1 P T = T ||| 2 ^ q := by unfold ones1; rw [hq]
      have e2 : i3 (sp_waiting P &&& (31 - T)) &&& (((1 : Int32) <<< (i3 q &&& 31)) ^^^ (-1)) = i3 (sp_waiting P &&& (31 - ones1 P T)) := by
        rw [i3_shl (by omega), i3_1, i3_andn5 hL (pow5_lt (by omega)), e1]
        congr 1
        refine bits5 (andn_lt hL) (andn_lt (waiting_lt hn)) (fun p hp => ?_)
        rw [andn_bit hL (pow5_lt (by omega)) hp, andn_bit (waiting_lt hn) hT.1 hp, andn_bit (waiting_lt hn) (or5_lt hT.1 (pow5_lt (by omega))) hp, Nat.testBit_or]
        cases (sp_waiting P).testBit p <;> cases T.testBit p <;> cases (2 ^ q).testBit p <;> rfl
      rw [e2, i3_1, i3_add, show N - (c + 1) + 1 = N - c by omega]
      exact ih f _ (by omega) (by omega) (sub5_1 hn hT)
theorem c_ones {σ : gS} {P : gP} {N : Nat} (h : gRS σ P) (hw : gWF P) (hN : N ≤ 5) : f_X5_firstOnes σ (i3 N) = some (i3 (ones P N 0), σ) := by
  unfold f_X5_firstOnes
  rw [c_waiting h hw.n]
  have := c_ones_b h hw hN N 20 0 (by omega) (by omega) sub5_0
  rw [Nat.sub_self, Nat.sub_zero] at this
  have e : sp_waiting P &&& 31 = sp_waiting P := bits5 (Nat.lt_of_le_of_lt Nat.and_le_left (waiting_lt hw.n)) (waiting_lt hw.n) (fun p hp => by
    have := andn_bit (T := 0) (waiting_lt hw.n) (by decide) hp
    rw [Nat.sub_zero] at this
    rw [this, Nat.zero_testBit]; simp)
  rw [e] at this
  exact this
/-! a tram -/
def sp_tramT (P : gP) : Nat := ones P (P_r P) 0
def sp_tram (P : gP) : gP := P_g_s P (fun p => (sp_tramT P).testBit p || P_g P p)
theorem sp_tram_sub {P : gP} (hn : P_n P ≤ 5) : sub5 P (sp_tramT P) := sub5_ones hn _ _ sub5_0
theorem sp_tram_wf {P : gP} (h : gWF P) : gWF (sp_tram P) := by
  have hs := sp_tram_sub h.n
  obtain ⟨h1, h2, h3, h4, h5, h6, h7, h8, h9, h10⟩ := h
  refine ⟨h1, h2, h3, h4, h5, h6, h7, h8, fun p hp => ?_, h10⟩
  show ((sp_tramT P).testBit p || P_g P p) = false
  rw [h9 p hp, Bool.or_false]
  cases hb : (sp_tramT P).testBit p
  · rfl
  · have := (hs.2 p hb).1
    exact absurd hp (by show ¬ P_n P ≤ p; omega)
def tg1 (T i : Nat) (P : gP) : gP := P_g_s P (gu (P_g P) i (T.testBit i || P_g P i))
theorem c_tram_b {T : Nat} (hT : T < 32) : ∀ k fuel i σ P, gRS σ P → P_n P ≤ 5 → i + k = P_n P → k < fuel → ∃ σ', f_X5_tramComes_b11 fuel σ (i3 T) (i3 i) = some (i3 T, σ') ∧ gRS σ' (fo (tg1 T) k i P) := by
  intro k
  induction k with
  | zero =>
    intro fuel i σ P h hn hi hf
    obtain ⟨f, rfl⟩ := gsucc hf
    refine ⟨σ, ?_, h⟩
    simp only [f_X5_tramComes_b11]
    rw [h.hn, if_pos (by rw [i3_le (by omega) (by omega)]; omega)]
  | succ k ih =>
    intro fuel i σ P h hn hi hf
    obtain ⟨f, rfl⟩ := gsucc hf
    have e : f_X5_tramComes_b11 (f + 1) σ (i3 T) (i3 i) = f_X5_tramComes_b11 f (S_one_s σ (upd (S_one σ) (3 * i + 2) (i3 (if (T.testBit i || P_g P i) then 1 else 0)))) (i3 T) (i3 (i + 1)) := by
      simp only [f_X5_tramComes_b11]
      rw [h.hn, if_neg (by rw [i3_le (by omega) (by omega)]; omega), c_has hT (by omega)]
      cases T.testBit i
      · show ((f_X5_of σ (i3 i) 2).bind fun (r5, u6) => f_X5_tramComes_b40 (f_X5_tramComes_b11 f) u6 (i3 T) (i3 i) r5 2 (i3 i)) = f_X5_tramComes_b11 f (S_one_s σ (upd (S_one σ) (3 * i + 2) (i3 (if (P_g P i) then 1 else 0)))) (i3 T) (i3 (i + 1))
        rw [i3_2, c_of (by omega) (by decide), h.hg (by omega)]
        show f_X5_tramComes_b40 (f_X5_tramComes_b11 f) σ (i3 T) (i3 i) (i3 (if (P_g P i) then 1 else 0)) (i3 2) (i3 i) = _
        unfold f_X5_tramComes_b40
        rw [c_becomes (by omega) (by decide) (by split <;> decide), i3_1, i3_add]
        rfl
      · show f_X5_tramComes_b40 (f_X5_tramComes_b11 f) σ (i3 T) (i3 i) 1 2 (i3 i) = f_X5_tramComes_b11 f (S_one_s σ (upd (S_one σ) (3 * i + 2) (i3 1))) (i3 T) (i3 (i + 1))
        unfold f_X5_tramComes_b40
        rw [i3_1, i3_2, c_becomes (by omega) (by decide) (by decide), i3_add]
        rfl
    obtain ⟨σ', e', r'⟩ := ih f (i + 1) _ (tg1 T i P) (gRS.g h (by omega)) hn (show i + 1 + k = P_n P by omega) (by omega)
    exact ⟨σ', e.trans e', r'⟩
theorem fo_tg (T : Nat) : ∀ k i P, ∃ g', fo (tg1 T) k i P = P_g_s P g' ∧ ∀ p, g' p = if i ≤ p ∧ p < i + k then (T.testBit p || P_g P p) else P_g P p
  | 0, i, P => ⟨P_g P, rfl, fun p => by rw [if_neg (by omega)]⟩
  | k + 1, i, P => by
    obtain ⟨g', e, hg⟩ := fo_tg T k (i + 1) (tg1 T i P)
    refine ⟨g', e, fun p => ?_⟩
    rw [hg p]
    show (if i + 1 ≤ p ∧ p < i + 1 + k then (T.testBit p || gu (P_g P) i (T.testBit i || P_g P i) p) else gu (P_g P) i (T.testBit i || P_g P i) p) = _
    by_cases e1 : p = i
    · subst e1
      rw [if_neg (by omega), if_pos (by omega), gu_same]
    · rw [gu_ne e1]
      by_cases e2 : i ≤ p ∧ p < i + (k + 1)
      · rw [if_pos (by omega), if_pos e2]
      · rw [if_neg (by omega), if_neg e2]
theorem gRS.gx {σ : gS} {P : gP} {g g' : Nat → Bool} (h : gRS σ (P_g_s P g)) (e : ∀ p, p < 5 → g p = g' p) : gRS σ (P_g_s P g') := by
  obtain ⟨h1, h2, h3, h4, h5, h6, h7, h8, h9, h10⟩ := h
  refine ⟨h1, h2, h3, h4, h5, h6, h7, fun p hp => ?_, h9, h10⟩
  show S_one σ (3 * p + 2) = i3 (if g' p then 1 else 0)
  rw [← e p hp]
  exact h8 p hp
theorem c_tram {σ : gS} {P : gP} (h : gRS σ P) (hw : gWF P) : ∃ σ', f_X5_tramComes σ = some (i3 (sp_tramT P), σ') ∧ gRS σ' (sp_tram P) := by
  have hn := hw.n
  have hs := sp_tram_sub hn
  obtain ⟨σ', e, r⟩ := c_tram_b hs.1 (P_n P) 20 0 σ P h hn (by omega) (by omega)
  refine ⟨σ', ?_, ?_⟩
  · unfold f_X5_tramComes
    rw [h.hr, c_ones h hw hw.r.2]
    exact e
  · obtain ⟨g', e', hg⟩ := fo_tg (sp_tramT P) (P_n P) 0 P
    rw [e'] at r
    refine r.gx (fun p hp => ?_)
    rw [hg p]
    by_cases e : p < P_n P
    · rw [if_pos (by omega)]
    · rw [if_neg (by omega)]
      cases hb : (sp_tramT P).testBit p
      · rfl
      · exact absurd (hs.2 p hb).1 e
theorem m5_or {T : Nat} {g : Nat → Bool} (hT : T < 32) : (m5 g ||| T) = m5 (fun p => T.testBit p || g p) :=
  bits5 (or5_lt (m5_lt _) hT) (m5_lt _) (fun p hp => by rw [Nat.testBit_or, m5_bit hp, m5_bit hp, Bool.or_comm])
theorem m_tram_b {b : Nat} {P : gP} {τ : gM} (h : gMO b P τ) (hw : gWF P) : ∀ c fuel T, c ≤ P_r P → c < fuel → sub5 P T → f_X7_tramOn_b4 fuel τ (i3 b) (i3 T) (i3 (P_r P - c)) = some (i3 (ones P c T), M_state_s τ (upd (M_state τ) (b + 15) (i3 (m5 (P_g P) ||| ones P c T)))) := by
  have hn := hw.n
  have hb := h.hb
  have hr := hw.r
  have hroom : ∀ (k : Int32), (i3 (P_r P) - i3 2) + 2 = i3 (P_r P) := fun _ => by
    rw [i3_2]; exact Int32.sub_add_cancel _ _
  intro c
  induction c with
  | zero =>
    intro fuel T hc hf hT
    obtain ⟨f, rfl⟩ := gsucc hf
    simp only [f_X7_tramOn_b4]
    rw [i3_17, i3_add, g3_ld (by omega) (by decide), h.R.hr, hroom 0, if_pos (by rw [i3_le (by omega) (by omega)]; omega), i3_15, i3_add]
    show (gld 168 (M_state τ) (i3 (b + 15)) fun v3 => gst 168 (M_state τ) (i3 (b + 15)) (v3 ||| i3 T) fun g4 => gs (M_state_s τ g4) fun s5 => some (i3 T, s5)) = _
    rw [g3_ld (by omega) (by decide), h.R.hg, i3_or5 (m5_lt _) hT.1, g3_st (by omega) (by decide)]
    rfl
  | succ c ih =>
    intro fuel T hc hf hT
    obtain ⟨f, rfl⟩ := gsucc hf
    simp only [f_X7_tramOn_b4]
    rw [i3_17, i3_add, g3_ld (by omega) (by decide), h.R.hr, hroom 0, if_neg (by rw [i3_le (by omega) (by omega)]; omega), m_first h hw hT.1]
    have hs1 := sub5_1 hn hT
    have ih' := ih f (ones1 P T) (by omega) (by omega) hs1
    rw [show P_r P - c = P_r P - (c + 1) + 1 by omega] at ih'
    show ((some (ovl (sp_first P (wS1 P T)), τ)).bind fun (r6, u7) => if r6 = (-4) then (f_X7_tramOn_b43 (f_X7_tramOn_b4 f) u7 (i3 b) (i3 (P_r P - (c + 1))) 0 (i3 T)) else (f_X7_tramOn_b43 (f_X7_tramOn_b4 f) u7 (i3 b) (i3 (P_r P - (c + 1))) ((1 : Int32) <<< (r6 &&& 31)) (i3 T))) = some (i3 (ones P c (ones1 P T)), M_state_s τ (upd (M_state τ) (b + 15) (i3 (m5 (P_g P) ||| ones P c (ones1 P T)))))
    cases hq : sp_first P (wS1 P T) with
    | none =>
      show f_X7_tramOn_b43 (f_X7_tramOn_b4 f) τ (i3 b) (i3 (P_r P - (c + 1))) 0 (i3 T) = _
      unfold f_X7_tramOn_b43
      rw [i3_0, i3_or5 hT.1 (by decide), Nat.or_zero, i3_1, i3_add]
      have e : ones1 P T = T := by unfold ones1; rw [hq]
      rw [e] at ih' ⊢
      exact ih'
    | some q =>
      obtain ⟨hq1, hq2⟩ := sp_first_some hq
      show (if i3 q = (-4) then _ else (f_X7_tramOn_b43 (f_X7_tramOn_b4 f) τ (i3 b) (i3 (P_r P - (c + 1))) ((1 : Int32) <<< (i3 q &&& 31)) (i3 T))) = _
      rw [if_neg (by rw [i3_4, i3_ng (by omega) (by decide) (by decide)]; exact id)]
      unfold f_X7_tramOn_b43
      rw [i3_shl (by omega), i3_or5 hT.1 (pow5_lt (by omega)), i3_1, i3_add]
      have e : ones1 P T = T ||| 2 ^ q := by unfold ones1; rw [hq]
      rw [e] at ih' ⊢
      exact ih'
theorem m_tram {b : Nat} {P : gP} {τ : gM} (h : gMO b P τ) (hw : gWF P) : ∃ st, f_X7_tramOn τ (i3 b) = some (i3 (sp_tramT P), M_state_s τ st) ∧ gRM b st (sp_tram P) ∧ gFr b (M_state τ) st := by
  have hr := hw.r
  have := m_tram_b h hw (P_r P) 2000 0 (by omega) (by omega) sub5_0
  rw [Nat.sub_self] at this
  refine ⟨_, this, ?_, gFr.up (by omega) (by omega)⟩
  rw [show ones P (P_r P) 0 = sp_tramT P from rfl, m5_or (sp_tram_sub hw.n).1]
  exact gRM.g h.R
