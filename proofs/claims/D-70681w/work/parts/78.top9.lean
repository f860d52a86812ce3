set_option maxRecDepth 100000
set_option maxHeartbeats 400000
/-! longs: lowest terms -/
def j6 (n : Nat) : Int64 := Int64.ofNat n
theorem j6_add (a b : Nat) : j6 a + j6 b = j6 (a + b) := (Int64.ofNat_add a b).symm
theorem j6_mul (a b : Nat) : j6 a * j6 b = j6 (a * b) := (Int64.ofNat_mul a b).symm
theorem j6_sub {a b : Nat} (h : b ≤ a) : j6 a - j6 b = j6 (a - b) := (Int64.ofNat_sub a b h).symm
theorem j6_div {a b : Nat} (ha : a < 9223372036854775808) (hb : b < 9223372036854775808) : j6 a / j6 b = j6 (a / b) := (Int64.ofNat_div ha hb).symm
theorem j6_int {a : Nat} (h : a < 9223372036854775808) : (j6 a).toInt = (a : Int) := Int64.toInt_ofNat_of_lt h
theorem j6_eq0 {a : Nat} (ha : a < 9223372036854775808) : (j6 a = 0) ↔ a = 0 := ⟨fun h => by
  have := congrArg Int64.toInt h
  rw [j6_int ha] at this
  have h0 : (0 : Int64).toInt = 0 := rfl
  omega, fun h => by rw [h]; rfl⟩
theorem j6_i3 {a : Nat} (h : a < 2147483648) : (i3 a).toInt64 = j6 a := Int32.toInt64_ofNat' (by rw [show Int32.maxValue.toInt = 2147483647 from rfl]; omega)
theorem j6_mod {m k : Nat} (hm : m < 9223372036854775808) (hk : k < 9223372036854775808) : j6 m - j6 m / j6 k * j6 k = j6 (m % k) := by
  rw [j6_div hm hk, j6_mul, j6_sub (Nat.div_mul_le_self m k), Nat.mod_eq_sub_div_mul]
theorem j6_dl {a : Nat} (ha : a < 9223372036854775808) (h0 : 0 < a) {α : Type} {K : Option α} : gdl (j6 a) K = K := by
  unfold gdl
  rw [if_neg]
  rw [j6_eq0 ha]; omega
def lowA (X Y : Int64) (w : Int32) (g : Nat) : Option (Int64 × Unit) := if w = 0 then some (X / j6 g, ()) else some (Y / j6 g, ())
theorem gcd_step {a b : Nat} : Nat.gcd a b = Nat.gcd b (a % b) := by rw [Nat.gcd_comm a b, Nat.gcd_rec b a, Nat.gcd_comm]
theorem c_low {X Y : Int64} {w : Int32} : ∀ k fuel a b, b < 2 ^ k → 2 * k < fuel → a < 9223372036854775808 → b < 9223372036854775808 → 0 < a + b → f_X0_lowest_b6 fuel () X Y w (j6 a) (j6 b) = lowA X Y w (Nat.gcd a b) := by
  have base : ∀ fuel a, 0 < fuel → a < 9223372036854775808 → 0 < a → f_X0_lowest_b6 fuel () X Y w (j6 a) (j6 0) = lowA X Y w (Nat.gcd a 0) := by
    intro fuel a hf ha h0
    obtain ⟨f, rfl⟩ := gsucc hf
    simp only [f_X0_lowest_b6]
    rw [if_pos (by decide), j6_dl ha h0, j6_dl ha h0, Nat.gcd_zero_right]
    rfl
  have step : ∀ fuel a b, 0 < fuel → a < 9223372036854775808 → b < 9223372036854775808 → 0 < b → f_X0_lowest_b6 fuel () X Y w (j6 a) (j6 b) = f_X0_lowest_b6 (fuel - 1) () X Y w (j6 b) (j6 (a % b)) := by
    intro fuel a b hf ha hb h0
    obtain ⟨f, rfl⟩ := gsucc hf
    simp only [f_X0_lowest_b6]
    rw [if_neg (by rw [lg_cmp_eq, j6_eq0 hb]; omega), j6_dl hb h0, g3_vl, j6_mod ha hb]
    rfl
  intro k
  induction k with
  | zero =>
    intro fuel a b hb hf ha hb2 h0
    have : b = 0 := by simpa using hb
    subst this
    exact base fuel a (by omega) ha (by omega)
  | succ k ih =>
    intro fuel a b hb hf ha hb2 h0
    by_cases e : b = 0
    · subst e
      exact base fuel a (by omega) ha (by omega)
    · have hr := Nat.mod_lt a (show b > 0 by omega)
      rw [step fuel a b (by omega) ha hb2 (by omega), gcd_step]
      by_cases e2 : a % b = 0
      · rw [e2]
        exact base _ b (by omega) hb2 (by omega)
      · have hr2 := Nat.mod_lt b (show a % b > 0 by omega)
        have hd := Nat.div_add_mod b (a % b)
        have hq : 1 ≤ b / (a % b) := Nat.div_pos (by omega) (by omega)
        have hm : a % b ≤ a % b * (b / (a % b)) := Nat.le_mul_of_pos_right _ (by omega)
        have hh : b % (a % b) < 2 ^ k := by
          rw [Nat.pow_succ] at hb
          omega
        rw [step _ b (a % b) (by omega) hb2 (by omega) (by omega), gcd_step]
        exact ih _ (a % b) (b % (a % b)) hh (by omega) (by omega) (by omega) (by omega)
theorem m_low {X Y : Int64} {w : Int32} : ∀ k fuel a b, b < 2 ^ k → 2 * k < fuel → a < 9223372036854775808 → b < 9223372036854775808 → 0 < a + b → f_X7_lowest_b6 fuel () X Y w (j6 a) (j6 b) = lowA X Y w (Nat.gcd a b) := by
  have base : ∀ fuel a, 0 < fuel → a < 9223372036854775808 → 0 < a → f_X7_lowest_b6 fuel () X Y w (j6 a) (j6 0) = lowA X Y w (Nat.gcd a 0) := by
    intro fuel a hf ha h0
    obtain ⟨f, rfl⟩ := gsucc hf
    simp only [f_X7_lowest_b6]
    unfold f_X7_lowest_b41
    rw [if_pos (by decide), j6_dl ha h0, j6_dl ha h0, Nat.gcd_zero_right]
    rfl
  have step : ∀ fuel a b, 0 < fuel → a < 9223372036854775808 → b < 9223372036854775808 → 0 < b → f_X7_lowest_b6 fuel () X Y w (j6 a) (j6 b) = f_X7_lowest_b6 (fuel - 1) () X Y w (j6 b) (j6 (a % b)) := by
    intro fuel a b hf ha hb h0
    obtain ⟨f, rfl⟩ := gsucc hf
    simp only [f_X7_lowest_b6]
    rw [if_neg (by rw [lg_cmp_eq, j6_eq0 hb]; omega), j6_dl hb h0, g3_vl, j6_mod ha hb]
    rfl
  intro k
  induction k with
  | zero =>
    intro fuel a b hb hf ha hb2 h0
    have : b = 0 := by simpa using hb
    subst this
    exact base fuel a (by omega) ha (by omega)
  | succ k ih =>
    intro fuel a b hb hf ha hb2 h0
    by_cases e : b = 0
    · subst e
      exact base fuel a (by omega) ha (by omega)
    · have hr := Nat.mod_lt a (show b > 0 by omega)
      rw [step fuel a b (by omega) ha hb2 (by omega), gcd_step]
      by_cases e2 : a % b = 0
      · rw [e2]
        exact base _ b (by omega) hb2 (by omega)
      · have hr2 := Nat.mod_lt b (show a % b > 0 by omega)
        have hd := Nat.div_add_mod b (a % b)
        have hq : 1 ≤ b / (a % b) := Nat.div_pos (by omega) (by omega)
        have hm : a % b ≤ a % b * (b / (a % b)) := Nat.le_mul_of_pos_right _ (by omega)
        have hh : b % (a % b) < 2 ^ k := by
          rw [Nat.pow_succ] at hb
          omega
        rw [step _ b (a % b) (by omega) hb2 (by omega) (by omega), gcd_step]
        exact ih _ (a % b) (b % (a % b)) hh (by omega) (by omega) (by omega) (by omega)
theorem low2 {up down : Nat} {w : Int32} (hu : up < 9223372036854775808) (hd : down < 9223372036854775808) (h0 : 0 < down) : f_X0_lowest (j6 up) (j6 down) w = f_X7_lowest (j6 up) (j6 down) w ∧ ∃ r, f_X7_lowest (j6 up) (j6 down) w = some (r, ()) := by
  have e1 : f_X0_lowest (j6 up) (j6 down) w = lowA (j6 up) (j6 down) w (Nat.gcd down up) := c_low 63 2000 down up hu (by decide) hd hu (by omega)
  have e2 : f_X7_lowest (j6 up) (j6 down) w = lowA (j6 up) (j6 down) w (Nat.gcd up down) := m_low 63 2000 up down hd (by decide) hu hd (by omega)
  rw [e1, e2, Nat.gcd_comm]
  refine ⟨rfl, ?_⟩
  unfold lowA
  split <;> exact ⟨_, rfl⟩
/-! thoughts that fail -/
def thF (P : gP) (i acc : Nat) : Nat := if P_p P i < 5 then acc ||| 2 ^ i else acc
def TH (P : gP) : Nat := fo (thF P) (P_q P) 0 0
theorem fo_th (P : gP) : ∀ k i acc, acc < 2 ^ i → fo (thF P) k i acc < 2 ^ (i + k) ∧ ∀ b, (fo (thF P) k i acc).testBit b = (acc.testBit b || (decide (i ≤ b ∧ b < i + k) && decide (P_p P b < 5)))
  | 0, i, acc, h => ⟨h, fun b => by
    have : ¬ (i ≤ b ∧ b < i + 0) := by omega
    rw [decide_eq_false this]
    simp [fo]⟩
  | k + 1, i, acc, h => by
    have h2 : thF P i acc < 2 ^ (i + 1) := by
      unfold thF
      have : acc < 2 ^ (i + 1) := Nat.lt_of_lt_of_le h (Nat.pow_le_pow_right (by decide) (by omega))
      split
      · exact Nat.or_lt_two_pow this (Nat.pow_lt_pow_right (by decide) (by omega))
      · exact this
    obtain ⟨h3, h4⟩ := fo_th P k (i + 1) (thF P i acc) h2
    refine ⟨?_, fun b => ?_⟩
    · rw [show i + (k + 1) = i + 1 + k by omega]; exact h3
    · show (fo (thF P) k (i + 1) (thF P i acc)).testBit b = _
      rw [h4 b]
      unfold thF
      by_cases e : b = i
      · subst e
        have n1 : ¬ (b + 1 ≤ b ∧ b < b + 1 + k) := by omega
        have n2 : b ≤ b ∧ b < b + (k + 1) := by omega
        by_cases e5 : P_p P b < 5
        · simp [e5, Nat.testBit_two_pow_self]
        · simp [e5]
      · have n3 : (i + 1 ≤ b ∧ b < i + 1 + k) ↔ (i ≤ b ∧ b < i + (k + 1)) := by omega
        simp only [n3]
        by_cases e5 : P_p P i < 5
        · rw [if_pos e5, Nat.testBit_or, Nat.testBit_two_pow_of_ne (by omega), Bool.or_false]
        · rw [if_neg e5]
theorem TH_lt (P : gP) : TH P < 2 ^ P_q P := by
  have := (fo_th P (P_q P) 0 0 (by decide)).1
  rwa [Nat.zero_add] at this
theorem TH_bit (P : gP) (b : Nat) : (TH P).testBit b = (decide (b < P_q P) && decide (P_p P b < 5)) := by
  have := (fo_th P (P_q P) 0 0 (by decide)).2 b
  rw [show TH P = fo (thF P) (P_q P) 0 0 from rfl, this]
  simp
theorem TH_256 {P : gP} (h : P_q P ≤ 8) : TH P < 256 := Nat.lt_of_lt_of_le (TH_lt P) (Nat.pow_le_pow_right (n := 2) (by decide) h)
def awF (P : gP) (i acc : Nat) : Nat := acc * (if (TH P).testBit i then 10 else 1)
def wyF (P : gP) (v over i acc : Nat) : Nat := acc * (if (TH P).testBit i then (if over.testBit i then v else 10 - v) else 1)
def AW (P : gP) : Nat := fo (awF P) 8 0 1
def WY (P : gP) (v over : Nat) : Nat := fo (wyF P v over) 8 0 1
theorem fo_add {α : Type} {h : Nat → α → α} : ∀ m k i a, fo h (m + k) i a = fo h k (i + m) (fo h m i a)
  | 0, k, i, a => by rw [Nat.zero_add]; rfl
  | m + 1, k, i, a => by
    rw [show m + 1 + k = (m + k) + 1 by omega]
    show fo h (m + k) (i + 1) (h i a) = _
    rw [fo_add m k (i + 1) (h i a), show i + 1 + m = i + (m + 1) by omega]
    rfl
theorem fo_id {α : Type} {h : Nat → α → α} : ∀ k i a, (∀ j b, i ≤ j → j < i + k → h j b = b) → fo h k i a = a
  | 0, _, _, _ => rfl
  | k + 1, i, a, hh => by
    show fo h k (i + 1) (h i a) = a
    rw [hh i a (by omega) (by omega)]
    exact fo_id k (i + 1) a (fun j b h1 h2 => hh j b (by omega) (by omega))
theorem AW_q {P : gP} (hq : P_q P ≤ 8) : fo (awF P) (P_q P) 0 1 = AW P := by
  unfold AW
  rw [show 8 = P_q P + (8 - P_q P) by omega, fo_add]
  refine (fo_id _ _ _ (fun j b h1 h2 => ?_)).symm
  unfold awF
  rw [TH_bit]
  simp [show ¬ j < P_q P by omega]
theorem WY_q {P : gP} {v over : Nat} (hq : P_q P ≤ 8) : fo (wyF P v over) (P_q P) 0 1 = WY P v over := by
  unfold WY
  rw [show 8 = P_q P + (8 - P_q P) by omega, fo_add]
  refine (fo_id _ _ _ (fun j b h1 h2 => ?_)).symm
  unfold wyF
  rw [TH_bit]
  simp [show ¬ j < P_q P by omega]
theorem fo_le {h : Nat → Nat → Nat} (hh : ∀ j b, h j b ≤ b * 10) : ∀ k i a, fo h k i a ≤ a * 10 ^ k
  | 0, _, a => by simp [fo]
  | k + 1, i, a => by
    refine Nat.le_trans (fo_le hh k (i + 1) (h i a)) ?_
    rw [Nat.pow_succ, Nat.mul_comm (10 ^ k) 10, ← Nat.mul_assoc]
    exact Nat.mul_le_mul_right _ (hh i a)
theorem fo_pos {h : Nat → Nat → Nat} (hh : ∀ j b, 0 < b → 0 < h j b) : ∀ k i a, 0 < a → 0 < fo h k i a
  | 0, _, a, h0 => h0
  | k + 1, i, a, h0 => fo_pos hh k (i + 1) (h i a) (hh i a h0)
theorem AW_b (P : gP) : 0 < AW P ∧ AW P ≤ 100000000 := by
  refine ⟨fo_pos (fun j b hb => ?_) 8 0 1 (by decide), ?_⟩
  · unfold awF; split <;> omega
  · have := fo_le (h := awF P) (fun j b => by unfold awF; split <;> omega) 8 0 1
    exact Nat.le_trans this (by decide)
theorem WY_b {P : gP} {v over : Nat} (hv : v ≤ 10) : WY P v over ≤ 100000000 := by
  have := fo_le (h := wyF P v over) (fun j b => by
    unfold wyF
    split
    · split
      · exact Nat.mul_le_mul_left _ hv
      · exact Nat.mul_le_mul_left _ (by omega)
    · omega) 8 0 1
  exact Nat.le_trans this (by decide)
