set_option maxRecDepth 100000
/-! THE PLAIN LAW: what each small method does to a page, on both sides -/
theorem c_of {σ : gS} {p c : Nat} (hp : p < 5) (hc : c < 3) : f_X5_of σ (i3 p) (i3 c) = some (S_one σ (3 * p + c), σ) := by
  unfold f_X5_of
  simp (disch := omega) only [i3_0, i3_1, i3_2, i3_3, i3_4, i3_5, i3_6, i3_7, i3_8, i3_9, i3_10, i3_12, i3_13, i3_14, i3_15, i3_16, i3_17, i3_18, i3_19, i3_20, i3_27, i3_28, i3_29, i3_31, i3_40, i3_60, i3_84, i3_112, i3_117, i3_122, i3_127, i3_140, i3_157, i3_159, i3_160, i3_168, i3_256, i3_999, i3_mul, i3_add, g3_ld]
theorem c_becomes {σ : gS} {p c v : Nat} (hp : p < 5) (hc : c < 3) (hv : v < 128) : f_X5_becomes σ (i3 p) (i3 c) (i3 v) = some (S_one_s σ (upd (S_one σ) (3 * p + c) (i3 v))) := by
  unfold f_X5_becomes
  simp (disch := omega) only [i3_0, i3_1, i3_2, i3_3, i3_4, i3_5, i3_6, i3_7, i3_8, i3_9, i3_10, i3_12, i3_13, i3_14, i3_15, i3_16, i3_17, i3_18, i3_19, i3_20, i3_27, i3_28, i3_29, i3_31, i3_40, i3_60, i3_84, i3_112, i3_117, i3_122, i3_127, i3_140, i3_157, i3_159, i3_160, i3_168, i3_256, i3_999, i3_mul, i3_add, g3_st, i3_byte, g3_s]
theorem c_waits {σ : gS} {P : gP} {p : Nat} (h : gRS σ P) (hp : p < 5) : f_X5_waits σ (i3 p) = some (i3 (if P_g P p then 0 else 1), σ) := by
  unfold f_X5_waits
  rw [i3_2, c_of hp (by decide), h.hg hp]
  cases P_g P p <;> rfl
theorem m_waits {b : Nat} {P : gP} {τ : gM} {p : Nat} (h : gMO b P τ) (hp : p < 5) : f_X7_waits τ (i3 b) (i3 p) = some (i3 (if P_g P p then 0 else 1), τ) := by
  unfold f_X7_waits
  have hb := h.hb
  rw [i3_15, i3_add, g3_ld (by omega) (by decide), h.R.hg, i3_31, i3_1, i3_bit5 (m5_lt _) hp, m5_bit hp]
  cases P_g P p <;> rfl
/-! who waits -/
def sp_waiting (P : gP) : Nat := (2 ^ P_n P - 1) &&& (31 - m5 (P_g P))
theorem waiting_fo {n : Nat} (hn : n ≤ 5) (g : Nat → Bool) : fo (fun i acc => if g i then acc else acc ||| 2 ^ i) n 0 0 = (2 ^ n - 1) &&& (31 - m5 g) := by
  rcases le5 hn with rfl | rfl | rfl | rfl | rfl | rfl <;> simp only [fo, m5] <;> cases g 0 <;> cases g 1 <;> cases g 2 <;> cases g 3 <;> cases g 4 <;> rfl
theorem waiting_lt {P : gP} (hn : P_n P ≤ 5) : sp_waiting P < 32 := by
  unfold sp_waiting
  exact Nat.lt_of_le_of_lt Nat.and_le_left (Nat.lt_of_le_of_lt (Nat.sub_le_sub_right (Nat.pow_le_pow_right (by decide) hn) 1) (by decide))
theorem waiting_bit {P : gP} (hn : P_n P ≤ 5) {p : Nat} (hp : p < 5) : (sp_waiting P).testBit p = (decide (p < P_n P) && !P_g P p) := by
  unfold sp_waiting
  generalize P_n P = n at *
  generalize P_g P = g
  unfold m5
  rcases le5 hn with rfl | rfl | rfl | rfl | rfl | rfl <;> rcases lt5 hp with rfl | rfl | rfl | rfl | rfl <;> cases g 0 <;> cases g 1 <;> cases g 2 <;> cases g 3 <;> cases g 4 <;> rfl
theorem c_waiting_b {σ : gS} {P : gP} (h : gRS σ P) (hn : P_n P ≤ 5) : ∀ k fuel i acc, i + k = P_n P → k < fuel → acc < 32 → f_X5_waiting_b4 fuel σ (i3 acc) (i3 i) = some (i3 (fo (fun i acc => if P_g P i then acc else acc ||| 2 ^ i) k i acc), σ) := by
  intro k
  induction k with
  | zero =>
    intro fuel i acc hi hf ha
    obtain ⟨f, rfl⟩ := gsucc hf
    simp only [f_X5_waiting_b4]
    rw [h.hn, if_pos (by rw [i3_le (by omega) (by omega)]; omega)]
    rfl
  | succ k ih =>
    intro fuel i acc hi hf ha
    obtain ⟨f, rfl⟩ := gsucc hf
    have e : f_X5_waiting_b4 (f + 1) σ (i3 acc) (i3 i) = f_X5_waiting_b4 f σ (i3 (if P_g P i then acc else acc ||| 2 ^ i)) (i3 (i + 1)) := by
      simp only [f_X5_waiting_b4]
      rw [h.hn, if_neg (by rw [i3_le (by omega) (by omega)]; omega), c_waits h (by omega)]
      cases P_g P i
      · show f_X5_waiting_b28 (f_X5_waiting_b4 f) σ (i3 i) ((1 : Int32) <<< (i3 i &&& 31)) (i3 acc) = f_X5_waiting_b4 f σ (i3 (acc ||| 2 ^ i)) (i3 (i + 1))
        unfold f_X5_waiting_b28
        rw [i3_shl (by omega), i3_or5 ha (pow5_lt (by omega)), i3_1, i3_add]
        rfl
      · show f_X5_waiting_b28 (f_X5_waiting_b4 f) σ (i3 i) 0 (i3 acc) = f_X5_waiting_b4 f σ (i3 acc) (i3 (i + 1))
        unfold f_X5_waiting_b28
        rw [i3_0, i3_or5 ha (by decide), i3_1, i3_add, Nat.or_zero]
        rfl
    rw [e, ih f (i + 1) _ (by omega) (by omega) (by split; exact ha; exact or5_lt ha (pow5_lt (by omega)))]
    rfl
theorem c_waiting {σ : gS} {P : gP} (h : gRS σ P) (hn : P_n P ≤ 5) : f_X5_waiting σ = some (i3 (sp_waiting P), σ) := by
  unfold f_X5_waiting sp_waiting
  rw [← waiting_fo hn]
  exact c_waiting_b h hn _ 20 0 0 (by omega) (by omega) (by decide)
theorem m_mask {n : Nat} (hn : n ≤ 5) : (((1 : Int32) <<< (i3 n &&& 31)) - 1) = i3 (2 ^ n - 1) := by
  rcases le5 hn with rfl | rfl | rfl | rfl | rfl | rfl <;> decide
theorem m_waiting {b : Nat} {P : gP} {τ : gM} (h : gMO b P τ) (hn : P_n P ≤ 5) : f_X7_waitingOn τ (i3 b) = some (i3 (sp_waiting P), τ) := by
  unfold f_X7_waitingOn sp_waiting
  have hb := h.hb
  rw [i3_15, i3_add, g3_ld (by omega) (by decide), h.R.hg, h.hn, m_mask hn, i3_1, i3_andn5 (by
    refine Nat.lt_of_le_of_lt (Nat.sub_le_sub_right (Nat.pow_le_pow_right (n := 2) (by decide) hn) 1) (by decide)) (m5_lt _)]
/-! who is gone -/
theorem gone_fact {n : Nat} (hn : n ≤ 5) {g : Nat → Bool} (hg : ∀ p, n ≤ p → g p = false) : i3 (2 ^ n - 1) &&& (i3 ((2 ^ n - 1) &&& (31 - m5 g)) ^^^ (-1)) = i3 (m5 g) := by
  unfold m5
  rcases le5 hn with rfl | rfl | rfl | rfl | rfl | rfl
  · rw [hg 0 (by decide), hg 1 (by decide), hg 2 (by decide), hg 3 (by decide), hg 4 (by decide)]; decide
  · rw [hg 1 (by decide), hg 2 (by decide), hg 3 (by decide), hg 4 (by decide)]; cases g 0 <;> decide
  · rw [hg 2 (by decide), hg 3 (by decide), hg 4 (by decide)]; cases g 0 <;> cases g 1 <;> decide
  · rw [hg 3 (by decide), hg 4 (by decide)]; cases g 0 <;> cases g 1 <;> cases g 2 <;> decide
  · rw [hg 4 (by decide)]; cases g 0 <;> cases g 1 <;> cases g 2 <;> cases g 3 <;> decide
  · cases g 0 <;> cases g 1 <;> cases g 2 <;> cases g 3 <;> cases g 4 <;> decide
theorem c_gone {σ : gS} {P : gP} (h : gRS σ P) (hw : gWF P) : f_X5_gone σ = some (i3 (m5 (P_g P)), σ) := by
  unfold f_X5_gone
  rw [c_waiting h hw.n]
  show some (((1 : Int32) <<< ((S_people σ) &&& 31)) - 1 &&& (i3 (sp_waiting P) ^^^ (-1)), σ) = _
  rw [h.hn, m_mask hw.n]
  unfold sp_waiting
  rw [gone_fact hw.n (fun p hp => hw.g hp)]
/-! the sum of sorrows -/
def sp_sorrow (P : gP) : Nat := fo (fun i acc => if P_g P i then acc else acc + P_s P i) (P_n P) 0 0
theorem c_sorrow_b {σ : gS} {P : gP} (h : gRS σ P) (hw : gWF P) : ∀ k fuel i acc, i + k = P_n P → k < fuel → acc ≤ 40 * i → f_X5_sorrow_b4 fuel σ (i3 acc) (i3 i) = some (i3 (fo (fun i acc => if P_g P i then acc else acc + P_s P i) k i acc), σ) := by
  intro k
  have hn := hw.n
  induction k with
  | zero =>
    intro fuel i acc hi hf ha
    obtain ⟨f, rfl⟩ := gsucc hf
    simp only [f_X5_sorrow_b4]
    rw [h.hn, if_pos (by rw [i3_le (by omega) (by omega)]; omega)]
    rfl
  | succ k ih =>
    intro fuel i acc hi hf ha
    obtain ⟨f, rfl⟩ := gsucc hf
    have e : f_X5_sorrow_b4 (f + 1) σ (i3 acc) (i3 i) = f_X5_sorrow_b4 f σ (i3 (if P_g P i then acc else acc + P_s P i)) (i3 (i + 1)) := by
      simp only [f_X5_sorrow_b4]
      rw [h.hn, if_neg (by rw [i3_le (by omega) (by omega)]; omega), c_waits h (by omega)]
      cases P_g P i
      · show ((f_X5_of σ (i3 i) 1).bind fun (r3, u4) => f_X5_sorrow_b31 (f_X5_sorrow_b4 f) u4 (i3 i) r3 (i3 acc)) = f_X5_sorrow_b4 f σ (i3 (acc + P_s P i)) (i3 (i + 1))
        rw [i3_1, c_of (by omega) (by decide), h.hs (by omega)]
        show f_X5_sorrow_b31 (f_X5_sorrow_b4 f) σ (i3 i) (i3 (P_s P i)) (i3 acc) = _
        unfold f_X5_sorrow_b31
        rw [i3_add, i3_1, i3_add]
        rfl
      · show f_X5_sorrow_b31 (f_X5_sorrow_b4 f) σ (i3 i) 0 (i3 acc) = f_X5_sorrow_b4 f σ (i3 acc) (i3 (i + 1))
        unfold f_X5_sorrow_b31
        rw [i3_0, i3_add, i3_1, i3_add]
        rfl
    rw [e, ih f (i + 1) _ (by omega) (by omega) (by have := hw.s i; split <;> omega)]
    rfl
theorem c_sorrow {σ : gS} {P : gP} (h : gRS σ P) (hw : gWF P) : f_X5_sorrow σ = some (i3 (sp_sorrow P), σ) := by
  unfold f_X5_sorrow sp_sorrow
  have hn := hw.n
  exact c_sorrow_b h hw _ 20 0 0 (by omega) (by omega) (by decide)
theorem m_sorrow_b {b : Nat} {P : gP} {τ : gM} (h : gMO b P τ) (hw : gWF P) : ∀ k fuel i acc, i + k = P_n P → k < fuel → acc ≤ 40 * i → f_X7_sorrowOn_b4 fuel τ (i3 b) (i3 acc) (i3 i) = some (i3 (fo (fun i acc => if P_g P i then acc else acc + P_s P i) k i acc), τ) := by
  intro k
  have hn := hw.n
  have hb := h.hb
  induction k with
  | zero =>
    intro fuel i acc hi hf ha
    obtain ⟨f, rfl⟩ := gsucc hf
    simp only [f_X7_sorrowOn_b4]
    rw [h.hn, if_pos (by rw [i3_le (by omega) (by omega)]; omega)]
    rfl
  | succ k ih =>
    intro fuel i acc hi hf ha
    obtain ⟨f, rfl⟩ := gsucc hf
    have e : f_X7_sorrowOn_b4 (f + 1) τ (i3 b) (i3 acc) (i3 i) = f_X7_sorrowOn_b4 f τ (i3 b) (i3 (if P_g P i then acc else acc + P_s P i)) (i3 (i + 1)) := by
      simp only [f_X7_sorrowOn_b4]
      rw [h.hn, if_neg (by rw [i3_le (by omega) (by omega)]; omega), m_waits h (by omega)]
      cases P_g P i
      · show (gld 168 (M_state τ) ((i3 b + 5) + i3 i) fun v3 => f_X7_sorrowOn_b36 (f_X7_sorrowOn_b4 f) τ (i3 b) (i3 i) v3 (i3 acc)) = f_X7_sorrowOn_b4 f τ (i3 b) (i3 (acc + P_s P i)) (i3 (i + 1))
        rw [i3_5, i3_add, i3_add, g3_ld (by omega) (by decide), h.R.hs (by omega)]
        unfold f_X7_sorrowOn_b36
        rw [i3_add, i3_1, i3_add]
        rfl
      · show f_X7_sorrowOn_b36 (f_X7_sorrowOn_b4 f) τ (i3 b) (i3 i) 0 (i3 acc) = f_X7_sorrowOn_b4 f τ (i3 b) (i3 acc) (i3 (i + 1))
        unfold f_X7_sorrowOn_b36
        rw [i3_0, i3_add, i3_1, i3_add]
        rfl
    rw [e, ih f (i + 1) _ (by omega) (by omega) (by have := hw.s i; split <;> omega)]
    rfl
theorem m_sorrow {b : Nat} {P : gP} {τ : gM} (h : gMO b P τ) (hw : gWF P) : f_X7_sorrowOn τ (i3 b) = some (i3 (sp_sorrow P), τ) := by
  unfold f_X7_sorrowOn sp_sorrow
  have hn := hw.n
  exact m_sorrow_b h hw _ 2000 0 0 (by omega) (by omega) (by decide)
/-! one saddens -/
def sp_sad (P : gP) (p d : Nat) : gP := P_s_s P (gu (P_s P) p (min 40 (P_s P p + d)))
theorem sp_sad_wf {P : gP} {p d : Nat} (h : gWF P) : gWF (sp_sad P p d) := by
  obtain ⟨h1, h2, h3, h4, h5, h6, h7, h8, h9, h10⟩ := h
  refine ⟨h1, h2, h3, h4, h5, h6, fun q => ?_, h8, h9, h10⟩
  show gu (P_s P) p (min 40 (P_s P p + d)) q ≤ 40
  unfold gu
  split
  · omega
  · exact h7 q
theorem c_sad {σ : gS} {P : gP} {p d : Nat} (h : gRS σ P) (hw : gWF P) (hp : p < 5) (hd : d ≤ 9) : ∃ σ', f_X5_saddens σ (i3 p) (i3 d) = some σ' ∧ gRS σ' (sp_sad P p d) := by
  refine ⟨_, ?_, gRS.s h hp⟩
  have hs := hw.s p
  unfold f_X5_saddens
  rw [i3_1, c_of hp (by decide), h.hs hp]
  show (f_X5_becomes σ (i3 p) (i3 1) (if (i3 (P_s P p) + i3 d) < 40 then i3 (P_s P p) + i3 d else 40)).bind _ = _
  have e : (if (i3 (P_s P p) + i3 d) < 40 then i3 (P_s P p) + i3 d else 40) = i3 (min 40 (P_s P p + d)) := by
    rw [i3_add, i3_40, if3_lt (by omega) (by decide)]
    split
    · rw [Nat.min_eq_right (by omega)]
    · rw [Nat.min_eq_left (by omega)]
  rw [e, c_becomes hp (by decide) (by omega)]
  rfl
theorem m_sad {b : Nat} {P : gP} {τ : gM} {p d : Nat} (h : gMO b P τ) (hw : gWF P) (hp : p < 5) (hd : d ≤ 9) : ∃ st, f_X7_grieves τ (i3 b) (i3 p) (i3 d) = some (M_state_s τ st) ∧ gRM b st (sp_sad P p d) ∧ gFr b (M_state τ) st := by
  refine ⟨_, ?_, gRM.s h.R hp, gFr.up (by omega) (by omega)⟩
  have hs := hw.s p
  have hb := h.hb
  unfold f_X7_grieves
  rw [i3_5, i3_add, i3_add, g3_ld (by omega) (by decide), h.R.hs hp, i3_add]
  show (if i3 (P_s P p + d) ≤ 40 then f_X7_grieves_b37 τ (i3 (P_s P p + d)) (i3 (b + 5 + p)) else f_X7_grieves_b37 τ 40 (i3 (b + 5 + p))) = _
  unfold f_X7_grieves_b37
  rw [i3_40, if3_le (by omega) (by decide), g3_st (by omega) (by decide), g3_st (by omega) (by decide)]
  split
  · rw [Nat.min_eq_right (by omega)]; rfl
  · rw [Nat.min_eq_left (by omega)]; rfl
