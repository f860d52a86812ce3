set_option maxRecDepth 100000
set_option maxHeartbeats 400000
/-! text: the next word -/
def gTp (n : Nat) (ch : Nat → Nat) (tp : Nat → Int32) (τ : gM) : Prop := n ≤ 160 ∧ M_taped τ = i3 n ∧ ∀ j, j < n → ch j < 128 ∧ tp j = i3 (ch j) ∧ M_tape τ j = i3 (ch j)
def tst (n : Nat) (ch : Nat → Nat) (a lo hi : Nat) : Bool := decide (a < n ∧ lo ≤ ch a ∧ ch a ≤ hi)
def bt (n : Nat) (ch : Nat → Nat) (a : Nat) : Int32 := if a < n then i3 (ch a) else -4
theorem b10 : ¬ bI true = 0 := by decide
theorem b00 : bI false = 0 := by decide
theorem c_isIn {n a lo hi : Nat} {x1 x2 li hg f so va : Int32} {md : gS} {xi : gXI} {tp : Nat → Int32} {ch : Nat → Nat} {τ : gM} (h : gTp n ch tp τ) (ha : a ≤ n) (e1 : x1 = i3 lo) (e2 : x2 = i3 hi) (hlo : lo < 128) (hhi : hi < 128) : f_X8_isIn (rd (i3 n) li hg (i3 a) f so va md xi tp) x1 x2 = some (bI (tst n ch a lo hi), rd (i3 n) li hg (i3 a) f so va md xi tp) := by
  obtain ⟨hn, -, ht⟩ := h
  subst e1 e2
  unfold f_X8_isIn
  rw [rd__size, rd__at, rd__tape, if3_le (by omega) (by omega)]
  unfold tst
  by_cases e : a < n
  · obtain ⟨t1, t2, -⟩ := ht a e
    rw [if_neg (by omega), g3_ld (by omega) (by decide), t2, if3_lt (by omega) (by omega), g3_ld (by omega) (by decide), t2, if3_lt (by omega) (by omega)]
    by_cases e3 : ch a < lo
    · rw [if_pos e3, decide_eq_false (by omega)]; rfl
    · rw [if_neg e3]
      by_cases e4 : hi < ch a
      · rw [if_pos e4, decide_eq_false (by omega)]; rfl
      · rw [if_neg e4, decide_eq_true (by omega)]; rfl
  · rw [if_pos (by omega), decide_eq_false (by omega)]; rfl
theorem m_byteAt {n a : Nat} {br ba sp he tk va ro tl hi : Int32} {pg : Nat → Int32} {tp : Nat → Int32} {ch : Nat → Nat} {τ : gM} (h : gTp n ch tp τ) (ha : a ≤ n) : f_X7_byteAt (tx τ br ba sp he tk va ro tl hi pg) (i3 a) = some (bt n ch a, tx τ br ba sp he tk va ro tl hi pg) := by
  obtain ⟨hn, hm, ht⟩ := h
  unfold f_X7_byteAt bt
  rw [tx__taped, tx__tape, hm, if3_le (by omega) (by omega)]
  by_cases e : a < n
  · obtain ⟨t1, -, t2⟩ := ht a e
    rw [if_neg (by omega), g3_ld (by omega) (by decide), t2, if_pos e]
  · rw [if_pos (by omega), if_neg e]
theorem bt_in {n a lo hi : Nat} {x1 x2 : Int64} {tp : Nat → Int32} {ch : Nat → Nat} {τ : gM} (h : gTp n ch tp τ) (h1 : x1.toInt = (lo : Int)) (h2 : x2.toInt = (hi : Int)) : f_X7_in (bt n ch a).toInt64 x1 x2 = some (bI (tst n ch a lo hi), ()) := by
  rw [g3_inX7, h1, h2]
  unfold bt tst
  by_cases e : a < n
  · have := (h.2.2 a e).1
    rw [if_pos e, i3_int (by omega)]
    by_cases k : lo ≤ ch a ∧ ch a ≤ hi
    · rw [if_pos (by omega), decide_eq_true (by omega)]; rfl
    · rw [if_neg (by omega), decide_eq_false (by omega)]; rfl
  · rw [if_neg e, if_neg (by rw [show (-4 : Int32).toInt = -4 from rfl]; omega), decide_eq_false (by omega)]; rfl
theorem bt_eq {n a k : Nat} {x : Int32} {tp : Nat → Int32} {ch : Nat → Nat} {τ : gM} (h : gTp n ch tp τ) (hx : x = i3 k) (hk : k < 128) : (bt n ch a = x) = (tst n ch a k k = true) := by
  subst hx
  unfold bt tst
  rw [decide_eq_true_eq]
  apply propext
  by_cases e : a < n
  · have := (h.2.2 a e).1
    rw [if_pos e, i3_eq (by omega) (by omega)]
    omega
  · rw [if_neg e, show (-4 : Int32) = -(i3 4) from rfl, i3_ng' (by omega) (by omega) (by omega)]
    omega
theorem bt_m4 {n a : Nat} {tp : Nat → Int32} {ch : Nat → Nat} {τ : gM} (h : gTp n ch tp τ) : (bt n ch a = -4) = ¬ a < n := by
  unfold bt
  apply propext
  by_cases e : a < n
  · have := (h.2.2 a e).1
    rw [if_pos e, show (-4 : Int32) = -(i3 4) from rfl, i3_ng (by omega) (by omega) (by omega)]
    simp [e]
  · rw [if_neg e]; simp [e]
theorem tst_n {n a lo hi : Nat} {ch : Nat → Nat} (h : n ≤ a) : tst n ch a lo hi = false := by unfold tst; rw [decide_eq_false (by omega)]
theorem tst_lt {n a lo hi : Nat} {ch : Nat → Nat} (h : tst n ch a lo hi = true) : a < n := by unfold tst at h; rw [decide_eq_true_eq] at h; exact h.1
theorem nx_let {n : Nat} {li hg f so va : Int32} {md : gS} {xi : gXI} {tp : Nat → Int32} {ch : Nat → Nat} {τ : gM} {br ba he tk vb ro tl hi : Int32} {pg : Nat → Int32} (h : gTp n ch tp τ) : ∀ k f1 f2 a, a + k = n → k < f1 → k < f2 → ∃ a', a ≤ a' ∧ a' ≤ n ∧ (tst n ch a 97 122 = true → a + 1 ≤ a') ∧ f_X8_next_b67 f1 (rd (i3 n) li hg (i3 a) f so va md xi tp) = some (.inl (0, rd (i3 n) li hg (i3 a') f so va md xi tp)) ∧ f_X7_step_b84 f2 (tx τ br ba (i3 a) he tk vb ro tl hi pg) = some (tx τ br ba (i3 a') he 1 vb ro tl hi pg) := by
  intro k
  induction k with
  | zero =>
    intro f1 f2 a hk h1 h2
    obtain ⟨f1, rfl⟩ := gsucc h1
    obtain ⟨f2, rfl⟩ := gsucc h2
    have ht : tst n ch a 97 122 = false := tst_n (by omega)
    refine ⟨a, Nat.le_refl _, by omega, fun e => by rw [ht] at e; cases e, ?_, ?_⟩
    · simp only [f_X8_next_b67]
      rw [c_isIn (lo := 97) (hi := 122) h (by omega) rfl rfl (by decide) (by decide), ht]
      rfl
    · simp only [f_X7_step_b84]
      rw [tx__spot, m_byteAt h (by omega)]
      simp only [g3_b]
      rw [bt_in (lo := 97) (hi := 122) h rfl rfl, ht]
      rfl
  | succ k ih =>
    intro f1 f2 a hk h1 h2
    obtain ⟨f1, rfl⟩ := gsucc h1
    obtain ⟨f2, rfl⟩ := gsucc h2
    cases ht : tst n ch a 97 122
    · refine ⟨a, Nat.le_refl _, by omega, fun e => by cases e, ?_, ?_⟩
      · simp only [f_X8_next_b67]
        rw [c_isIn (lo := 97) (hi := 122) h (by omega) rfl rfl (by decide) (by decide), ht]
        rfl
      · simp only [f_X7_step_b84]
        rw [tx__spot, m_byteAt h (by omega)]
        simp only [g3_b]
        rw [bt_in (lo := 97) (hi := 122) h rfl rfl, ht]
        rfl
    · obtain ⟨a', l1, l2, -, e1, e2⟩ := ih f1 f2 (a + 1) (by omega) (by omega) (by omega)
      refine ⟨a', by omega, l2, fun _ => l1, ?_, ?_⟩
      · simp only [f_X8_next_b67]
        rw [c_isIn (lo := 97) (hi := 122) h (by omega) rfl rfl (by decide) (by decide), ht]
        simp only [g3_b]
        rw [if_neg b10, g3_v, g3_s, rd__at, rd_at, i3_1, i3_add]
        exact e1
      · simp only [f_X7_step_b84]
        rw [tx__spot, m_byteAt h (by omega)]
        simp only [g3_b]
        rw [bt_in (lo := 97) (hi := 122) h rfl rfl, ht]
        simp only [g3_b]
        rw [if_neg b10, g3_v, g3_s, tx__spot, tx_spot, i3_1, i3_add]
        exact e2
theorem need1 {σ : gRd} {c : Int32} : f_X8_need σ 1 c = some (.inl (0, σ)) := rfl
theorem need0 {σ : gRd} {c : Int32} : f_X8_need σ 0 c = some (.inr (c, R_from σ, σ)) := rfl
theorem fails0 {τ : gM} {ba sp he tk va ro tl hi c : Int32} {pg : Nat → Int32} : f_X7_fails (tx τ 0 ba sp he tk va ro tl hi pg) c = some (tx τ c he sp he tk va ro tl hi pg) := rfl
theorem nx_dend {n a f0 f1 f2 : Nat} {li hg so v : Int32} {md : gS} {xi : gXI} {tp : Nat → Int32} {ch : Nat → Nat} {τ : gM} {ba tk ro tl hi : Int32} {pg : Nat → Int32} (h : gTp n ch tp τ) (ha : a ≤ n) (hf : f0 ≤ a) (ht : tst n ch a 48 57 = false) :
    (a - f0 ≤ 2 ∧ f_X8_next_b112 (f1 + 1) (rd (i3 n) li hg (i3 a) (i3 f0) so v md xi tp) = some (.inl (0, rd (i3 n) li hg (i3 a) (i3 f0) so v md xi tp)) ∧ f_X7_step_b140 (f2 + 1) (tx τ 0 ba (i3 a) (i3 f0) tk v ro tl hi pg) = some (tx τ 0 ba (i3 a) (i3 f0) 2 v ro tl hi pg)) ∨
    (f_X8_next_b112 (f1 + 1) (rd (i3 n) li hg (i3 a) (i3 f0) so v md xi tp) = some (.inr (1, i3 f0, rd (i3 n) li hg (i3 a) (i3 f0) so v md xi tp)) ∧ f_X7_step_b140 (f2 + 1) (tx τ 0 ba (i3 a) (i3 f0) tk v ro tl hi pg) = some (tx τ 1 (i3 f0) (i3 a) (i3 f0) 2 v ro tl hi pg)) := by
  have hn := h.1
  have hc : f_X8_next_b112 (f1 + 1) (rd (i3 n) li hg (i3 a) (i3 f0) so v md xi tp) = if 3 ≤ a - f0 then f_X8_next_b202 (rd (i3 n) li hg (i3 a) (i3 f0) so v md xi tp) 0 else f_X8_next_b202 (rd (i3 n) li hg (i3 a) (i3 f0) so v md xi tp) 1 := by
    simp only [f_X8_next_b112]
    rw [c_isIn (lo := 48) (hi := 57) h ha rfl rfl (by decide) (by decide), ht]
    simp only [g3_b]
    rw [if_pos b00, rd__at, rd__from, i3_sub hf, i3_3, if3_le (by omega) (by omega)]
  have hm : f_X7_step_b140 (f2 + 1) (tx τ 0 ba (i3 a) (i3 f0) tk v ro tl hi pg) = if a - f0 ≤ 2 then some (tx τ 0 ba (i3 a) (i3 f0) 2 v ro tl hi pg) else some (tx τ 1 (i3 f0) (i3 a) (i3 f0) 2 v ro tl hi pg) := by
    simp only [f_X7_step_b140]
    rw [tx__spot, m_byteAt h ha]
    simp only [g3_b]
    rw [bt_in (lo := 48) (hi := 57) h rfl rfl, ht]
    simp only [g3_b]
    rw [if_pos b00, g3_s, tx_token, tx__spot, tx__here, i3_sub hf, i3_2, if3_le (by omega) (by omega)]
    rfl
  by_cases e : a - f0 ≤ 2
  · left
    refine ⟨e, ?_, ?_⟩
    · rw [hc, if_neg (by omega)]; rfl
    · rw [hm, if_pos e]
  · right
    refine ⟨?_, ?_⟩
    · rw [hc, if_pos (by omega)]; rfl
    · rw [hm, if_neg e]
theorem nx_dig {n f0 : Nat} {li hg so : Int32} {md : gS} {xi : gXI} {tp : Nat → Int32} {ch : Nat → Nat} {τ : gM} {ba tk ro tl hi : Int32} {pg : Nat → Int32} (h : gTp n ch tp τ) : ∀ k f1 f2 a v, a + k = n → k < f1 → k < f2 → f0 ≤ a →
    (∃ a' v', a ≤ a' ∧ a' ≤ n ∧ (tst n ch a 48 57 = true → a + 1 ≤ a') ∧ f_X8_next_b112 f1 (rd (i3 n) li hg (i3 a) (i3 f0) so v md xi tp) = some (.inl (0, rd (i3 n) li hg (i3 a') (i3 f0) so v' md xi tp)) ∧ f_X7_step_b140 f2 (tx τ 0 ba (i3 a) (i3 f0) tk v ro tl hi pg) = some (tx τ 0 ba (i3 a') (i3 f0) 2 v' ro tl hi pg)) ∨
    (∃ a' v', f_X8_next_b112 f1 (rd (i3 n) li hg (i3 a) (i3 f0) so v md xi tp) = some (.inr (1, i3 f0, rd (i3 n) li hg (i3 a') (i3 f0) so v' md xi tp)) ∧ f_X7_step_b140 f2 (tx τ 0 ba (i3 a) (i3 f0) tk v ro tl hi pg) = some (tx τ 1 (i3 f0) (i3 a') (i3 f0) 2 v' ro tl hi pg)) := by
  have hn := h.1
  intro k
  induction k with
  | zero =>
    intro f1 f2 a v hk h1 h2 hf
    obtain ⟨f1, rfl⟩ := gsucc h1
    obtain ⟨f2, rfl⟩ := gsucc h2
    have ht : tst n ch a 48 57 = false := tst_n (by omega)
    rcases nx_dend (f1 := f1) (f2 := f2) (li := li) (hg := hg) (so := so) (v := v) (md := md) (xi := xi) (ba := ba) (tk := tk) (ro := ro) (tl := tl) (hi := hi) (pg := pg) h (by omega) hf ht with ⟨-, e1, e2⟩ | ⟨e1, e2⟩
    · exact .inl ⟨a, v, Nat.le_refl _, by omega, fun e => (by rw [ht] at e; cases e), e1, e2⟩
    · exact .inr ⟨a, v, e1, e2⟩
  | succ k ih =>
    intro f1 f2 a v hk h1 h2 hf
    obtain ⟨f1, rfl⟩ := gsucc h1
    obtain ⟨f2, rfl⟩ := gsucc h2
    cases ht : tst n ch a 48 57
    · rcases nx_dend (f1 := f1) (f2 := f2) (li := li) (hg := hg) (so := so) (v := v) (md := md) (xi := xi) (ba := ba) (tk := tk) (ro := ro) (tl := tl) (hi := hi) (pg := pg) h (by omega) hf ht with ⟨-, e1, e2⟩ | ⟨e1, e2⟩
      · exact .inl ⟨a, v, Nat.le_refl _, by omega, fun e => (by cases e), e1, e2⟩
      · exact .inr ⟨a, v, e1, e2⟩
    · obtain ⟨t1, t2, t3⟩ := h.2.2 a (tst_lt ht)
      have hv : ∃ v2, f_X8_next_b112 (f1 + 1) (rd (i3 n) li hg (i3 a) (i3 f0) so v md xi tp) = f_X8_next_b112 f1 (rd (i3 n) li hg (i3 (a + 1)) (i3 f0) so v2 md xi tp) ∧ f_X7_step_b140 (f2 + 1) (tx τ 0 ba (i3 a) (i3 f0) tk v ro tl hi pg) = f_X7_step_b140 f2 (tx τ 0 ba (i3 (a + 1)) (i3 f0) tk v2 ro tl hi pg) := by
        refine ⟨if 2 ≤ a - f0 then v else ((((10 : Int32) * v) + i3 (ch a)) - 48), ?_, ?_⟩
        · simp only [f_X8_next_b112]
          rw [c_isIn (lo := 48) (hi := 57) h (by omega) rfl rfl (by decide) (by decide), ht]
          simp only [g3_b]
          rw [if_neg b10, rd__at, rd__from, i3_sub hf, i3_2, if3_le (by omega) (by omega), rd__tape, g3_ld (by omega) (by decide), t2, rd__value]
          unfold f_X8_next_b167
          simp only [g3_s, g3_v, rd_value, rd__at, rd_at]
          rw [i3_1, i3_add]
          split <;> rfl
        · simp only [f_X7_step_b140]
          rw [tx__spot, m_byteAt h (by omega)]
          simp only [g3_b]
          rw [bt_in (lo := 48) (hi := 57) h rfl rfl, ht]
          simp only [g3_b]
          rw [if_neg b10, tx__spot, tx__here, i3_sub hf, i3_2, if3_le (by omega) (by omega), m_byteAt h (by omega)]
          simp only [g3_b]
          rw [show bt n ch a = i3 (ch a) from if_pos (tst_lt ht), tx__value]
          unfold f_X7_step_b201
          simp only [g3_s, g3_v, tx_value, tx__spot, tx_spot]
          rw [i3_1, i3_add]
          split <;> rfl
      obtain ⟨v2, hc, hm⟩ := hv
      rw [hc, hm]
      rcases ih f1 f2 (a + 1) v2 (by omega) (by omega) (by omega) (by omega) with ⟨a', v', l1, l2, -, e1, e2⟩ | ⟨a', v', e1, e2⟩
      · exact .inl ⟨a', v', by omega, l2, fun _ => l1, e1, e2⟩
      · exact .inr ⟨a', v', e1, e2⟩
/-- both have read one more word, or both found the same fault -/
def nxOK (n a : Nat) (ba : Int32) (R : Int32 → Int32 → Int32 → Int32 → gRd) (T : Int32 → Int32 → Int32 → Int32 → Int32 → Int32 → gM) (x : Option (gR gRd)) (y : Option gM) : Prop :=
  (∃ a' f' so va vb, a ≤ f' ∧ f' ≤ a' ∧ a' ≤ n ∧ so ≤ 3 ∧ (so ≠ 0 → a + 1 ≤ a') ∧ (so = 2 → va = vb) ∧ x = some (.inl (0, R (i3 a') (i3 f') (i3 so) va)) ∧ y = some (T 0 ba (i3 a') (i3 f') (i3 so) vb)) ∨
  (∃ pl a' f' so va sp he tk vb, x = some (.inr (1, pl, R a' f' so va)) ∧ y = some (T 1 pl sp he tk vb))
theorem nx_b {n : Nat} {li hg va0 : Int32} {md : gS} {xi : gXI} {tp : Nat → Int32} {ch : Nat → Nat} {τ : gM} {ba vb0 ro tl hi : Int32} {pg : Nat → Int32} (h : gTp n ch tp τ) : ∀ k f1 f2 a f so he tk, a + k = n → k < f1 → k < f2 → nxOK n a ba (fun a f so va => rd (i3 n) li hg a f so va md xi tp) (fun br ba sp he tk va => tx τ br ba sp he tk va ro tl hi pg) (f_X8_next_b0 f1 (rd (i3 n) li hg (i3 a) f so va0 md xi tp)) (f_X7_step_b8 f2 (tx τ 0 ba (i3 a) he tk vb0 ro tl hi pg)) := by
  have hn := h.1
  intro k
  induction k with
  | zero =>
    intro f1 f2 a f so he tk hk h1 h2
    obtain ⟨f1, rfl⟩ := gsucc h1
    obtain ⟨f2, rfl⟩ := gsucc h2
    refine .inl ⟨a, a, 0, va0, 0, Nat.le_refl _, Nat.le_refl _, by omega, by decide, fun e => (e rfl).elim, fun e => by cases e, ?_, ?_⟩
    · simp only [f_X8_next_b0]
      rw [c_isIn (lo := 32) (hi := 32) h (by omega) rfl rfl (by decide) (by decide), tst_n (by omega)]
      simp only [g3_b]
      rw [if_pos b00, g3_s, rd__at, rd_from, rd__at, rd__size, if_pos (show i3 a = i3 n by rw [show a = n by omega])]
      rfl
    · simp only [f_X7_step_b8]
      rw [tx__spot, m_byteAt h (by omega)]
      simp only [g3_b]
      rw [if_neg (show ¬ bt n ch a = 32 by rw [bt_eq (k := 32) h rfl (by decide), tst_n (by omega)]; decide), g3_s, tx__spot, tx_here, tx__spot, m_byteAt h (by omega)]
      simp only [g3_b]
      rw [g3_s, tx_value, if_pos (show bt n ch a = -4 by rw [bt_m4 h]; omega)]
      rfl
  | succ k ih =>
    intro f1 f2 a f so he tk hk h1 h2
    obtain ⟨f1, rfl⟩ := gsucc h1
    obtain ⟨f2, rfl⟩ := gsucc h2
    cases hs : tst n ch a 32 32
    · -- a word begins
      have hm0 : f_X7_step_b8 (f2 + 1) (tx τ 0 ba (i3 a) he tk vb0 ro tl hi pg) = (if tst n ch a 97 122 = true then f_X7_step_b84 2000 (tx τ 0 ba (i3 a) (i3 a) tk 0 ro tl hi pg) else if tst n ch a 48 57 = true then f_X7_step_b140 2000 (tx τ 0 ba (i3 a) (i3 a) tk 0 ro tl hi pg) else if tst n ch a 59 59 = true then some (tx τ 0 ba (i3 (a + 1)) (i3 a) 3 0 ro tl hi pg) else some (tx τ 1 (i3 a) (i3 (a + 1)) (i3 a) 3 0 ro tl hi pg)) := by
        simp only [f_X7_step_b8]
        rw [tx__spot, m_byteAt h (by omega)]
        simp only [g3_b]
        rw [if_neg (show ¬ bt n ch a = 32 by rw [bt_eq (k := 32) h rfl (by decide), hs]; decide), g3_s, tx__spot, tx_here, tx__spot, m_byteAt h (by omega)]
        simp only [g3_b]
        rw [g3_s, tx_value, if_neg (show ¬ bt n ch a = -4 by rw [bt_m4 h]; omega), bt_in (lo := 97) (hi := 122) h rfl rfl]
        simp only [g3_b]
        cases tst n ch a 97 122
        · rw [if_pos b00, bt_in (lo := 48) (hi := 57) h rfl rfl, if_neg (by decide)]
          simp only [g3_b]
          cases tst n ch a 48 57
          · rw [if_pos b00, if_neg (by decide), g3_s, tx_token, tx__spot, g3_v, g3_s, tx_spot, i3_1, i3_add]
            have e59 := bt_eq (a := a) (x := 59) (k := 59) h rfl (by decide)
            by_cases k : bt n ch a = 59
            · rw [if_pos k, if_pos (e59 ▸ k)]
            · rw [if_neg k, if_neg (e59 ▸ k)]
              rfl
          · rw [if_neg b10, if_pos rfl]
        · rw [if_neg b10, if_pos rfl]
      have hc0 : f_X8_next_b0 (f1 + 1) (rd (i3 n) li hg (i3 a) f so va0 md xi tp) = (if tst n ch a 97 122 = true then f_X8_next_b67 300 (rd (i3 n) li hg (i3 a) (i3 a) 1 va0 md xi tp) else if tst n ch a 48 57 = true then f_X8_next_b112 300 (rd (i3 n) li hg (i3 a) (i3 a) 2 0 md xi tp) else if tst n ch a 59 59 = true then some (.inl (0, rd (i3 n) li hg (i3 (a + 1)) (i3 a) 3 va0 md xi tp)) else some (.inr (1, i3 a, rd (i3 n) li hg (i3 a) (i3 a) 3 va0 md xi tp))) := by
        simp only [f_X8_next_b0]
        rw [c_isIn (lo := 32) (hi := 32) h (by omega) rfl rfl (by decide) (by decide), hs]
        simp only [g3_b]
        rw [if_pos b00, g3_s, rd__at, rd_from, rd__at, rd__size, if_neg (show ¬ i3 a = i3 n by rw [i3_eq (by omega) (by omega)]; omega), c_isIn (lo := 97) (hi := 122) h (by omega) rfl rfl (by decide) (by decide)]
        simp only [g3_b]
        cases tst n ch a 97 122
        · rw [if_pos b00, if_neg (by decide), c_isIn (lo := 48) (hi := 57) h (by omega) rfl rfl (by decide) (by decide)]
          simp only [g3_b]
          cases tst n ch a 48 57
          · rw [if_pos b00, if_neg (by decide), g3_s, rd_sort, c_isIn (lo := 59) (hi := 59) h (by omega) rfl rfl (by decide) (by decide)]
            simp only [g3_b]
            cases tst n ch a 59 59
            · rfl
            · rw [show bI true = 1 from rfl, need1, gcx_l, rd__at, g3_v, g3_s, rd_at, i3_1, i3_add]
              rfl
          · rw [if_neg b10, if_pos rfl, g3_s, rd_sort, g3_s, rd_value]
        · rw [if_neg b10, if_pos rfl, g3_s, rd_sort]
      rw [hc0, hm0]
      cases ht : tst n ch a 97 122
      · rw [if_neg (by decide), if_neg (by decide)]
        cases hd : tst n ch a 48 57
        · rw [if_neg (by decide), if_neg (by decide)]
          cases tst n ch a 59 59
          · exact .inr ⟨i3 a, _, _, _, _, _, _, _, _, rfl, rfl⟩
          · exact .inl ⟨a + 1, a, 3, _, _, Nat.le_refl _, by omega, by omega, by decide, fun _ => Nat.le_refl _, fun e => by cases e, rfl, rfl⟩
        · rw [if_pos rfl, if_pos rfl]
          rcases nx_dig (f0 := a) (li := li) (hg := hg) (so := 2) (md := md) (xi := xi) (ba := ba) (tk := tk) (ro := ro) (tl := tl) (hi := hi) (pg := pg) h (k + 1) 300 2000 a 0 (by omega) (by omega) (by omega) (Nat.le_refl _) with ⟨a', v', l1, l2, l3, e1, e2⟩ | ⟨a', v', e1, e2⟩
          · exact .inl ⟨a', a, 2, v', v', Nat.le_refl _, l1, l2, by decide, fun _ => l3 hd, fun _ => rfl, e1, e2⟩
          · exact .inr ⟨i3 a, _, _, _, _, _, _, _, _, e1, e2⟩
      · rw [if_pos rfl, if_pos rfl]
        obtain ⟨a', l1, l2, l3, e1, e2⟩ := nx_let (f := i3 a) (li := li) (hg := hg) (so := 1) (va := va0) (md := md) (xi := xi) (br := 0) (ba := ba) (he := i3 a) (tk := tk) (vb := 0) (ro := ro) (tl := tl) (hi := hi) (pg := pg) h (k + 1) 300 2000 a (by omega) (by omega) (by omega)
        exact .inl ⟨a', a, 1, _, _, Nat.le_refl _, l1, l2, by decide, fun _ => l3 ht, fun e => by cases e, e1, e2⟩
    · have hc : f_X8_next_b0 (f1 + 1) (rd (i3 n) li hg (i3 a) f so va0 md xi tp) = f_X8_next_b0 f1 (rd (i3 n) li hg (i3 (a + 1)) f so va0 md xi tp) := by
        simp only [f_X8_next_b0]
        rw [c_isIn (lo := 32) (hi := 32) h (by omega) rfl rfl (by decide) (by decide), hs]
        simp only [g3_b]
        rw [if_neg b10, g3_v, g3_s, rd__at, rd_at, i3_1, i3_add]
      have hm : f_X7_step_b8 (f2 + 1) (tx τ 0 ba (i3 a) he tk vb0 ro tl hi pg) = f_X7_step_b8 f2 (tx τ 0 ba (i3 (a + 1)) he tk vb0 ro tl hi pg) := by
        simp only [f_X7_step_b8]
        rw [tx__spot, m_byteAt h (by omega)]
        simp only [g3_b]
        rw [if_pos (show bt n ch a = 32 by rw [bt_eq (k := 32) h rfl (by decide)]; exact hs), g3_v, g3_s, tx__spot, tx_spot, i3_1, i3_add]
      rw [hc, hm]
      rcases ih f1 f2 (a + 1) f so he tk (by omega) (by omega) (by omega) with ⟨a', f', s', va, vb, l1, l2, l3, l4, l5, l6, e1, e2⟩ | hr
      · exact .inl ⟨a', f', s', va, vb, by omega, l2, l3, l4, fun e => by have := l5 e; omega, l6, e1, e2⟩
      · exact .inr hr
theorem next2 {n a : Nat} {li hg f so va0 : Int32} {md : gS} {xi : gXI} {tp : Nat → Int32} {ch : Nat → Nat} {τ : gM} {ba he tk vb0 ro tl hi : Int32} {pg : Nat → Int32} (h : gTp n ch tp τ) (ha : a ≤ n) : nxOK n a ba (fun a f so va => rd (i3 n) li hg a f so va md xi tp) (fun br ba sp he tk va => tx τ br ba sp he tk va ro tl hi pg) (f_X8_next (rd (i3 n) li hg (i3 a) f so va0 md xi tp)) (f_X7_step (tx τ 0 ba (i3 a) he tk vb0 ro tl hi pg)) := by
  have hn := h.1
  unfold f_X8_next f_X7_step
  rw [tx__broken, if_pos (by decide)]
  exact nx_b h (n - a) 300 2000 a f so he tk (by omega) (by omega) (by omega)
/-- the model stands still when it has found a fault -/
theorem step_f {τ : gM} {c : Nat} {ba sp he tk va ro tl hi : Int32} {pg : Nat → Int32} (h1 : 1 ≤ c) (h2 : c ≤ 6) : f_X7_step (tx τ (i3 c) ba sp he tk va ro tl hi pg) = some (tx τ (i3 c) ba sp he tk va ro tl hi pg) := by
  unfold f_X7_step
  rw [tx__broken, if_neg (by rw [i3_0, i3_le (by omega) (by omega)]; omega)]
