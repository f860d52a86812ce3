set_option maxRecDepth 100000
set_option maxHeartbeats 400000
/-! rows of acts by numbers to a base -/
def dig (B N c i : Nat) : Nat := c / B ^ (N - 1 - i) % B
/-- valid figures: one of n, or (mi) the figure five; how many are below d -/
def vdg (n : Nat) (mi : Bool) (d : Nat) : Bool := decide (d < n) || (mi && decide (d = 5))
def cvd (n : Nat) (mi : Bool) (d : Nat) : Nat := min d n + (if mi && decide (5 < d) then 1 else 0)
def bas (n : Nat) (mi : Bool) : Nat := n + (if mi then 1 else 0)
/-- the base of the model -/
def bmo (mi : Bool) : Nat := if mi then 6 else 5
def rk (n : Nat) (mi : Bool) : Nat → Nat → Nat
  | 0, c => c
  | k + 1, c => cvd n mi (c / bmo mi ^ k) * bas n mi ^ k + (if vdg n mi (c / bmo mi ^ k) then rk n mi k (c % bmo mi ^ k) else 0)
def vld (n : Nat) (mi : Bool) : Nat → Nat → Bool
  | 0, _ => true
  | k + 1, c => vdg n mi (c / bmo mi ^ k) && vld n mi k (c % bmo mi ^ k)
def actC (n d : Nat) : Nat := if d = n then 5 else d
theorem rk_60 : ∀ n, n < 6 → ∀ N, N < 5 → rk n true N 0 = 0 := by decide +kernel
theorem rk_61 : ∀ n, n < 6 → ∀ N, N < 5 → rk n true N (6 ^ N) = (n + 1) ^ N := by decide +kernel
theorem rk_62 : ∀ n, n < 6 → ∀ N, N < 5 → ∀ c, c < 6 ^ N → rk n true N (c + 1) = rk n true N c + (if vld n true N c then 1 else 0) := by decide +kernel
theorem rk_63 : ∀ n, n < 6 → ∀ N, N < 5 → ∀ c, c < 6 ^ N → rk n true N c ≤ (n + 1) ^ N := by decide +kernel
theorem rk_64 : ∀ n, n < 6 → ∀ N, N < 5 → ∀ c, c < 6 ^ N → vld n true N c = true → rk n true N c < (n + 1) ^ N := by decide +kernel
theorem rk_65 : ∀ n, n < 6 → ∀ N, N < 5 → ∀ c, c < 6 ^ N → vld n true N c = true → ∀ i, i < N → actC n (dig (n + 1) N (rk n true N c) i) = dig 6 N c i := by decide +kernel
theorem vld_6 : ∀ n, n < 6 → ∀ N, N < 5 → ∀ c, c < 6 ^ N → vld n true N c = (List.range N).all (fun i => vdg n true (dig 6 N c i)) := by decide +kernel
theorem rk_50 : ∀ n, n < 6 → ∀ N, N < 4 → rk n false N 0 = 0 := by decide +kernel
theorem rk_51 : ∀ n, n < 6 → ∀ N, N < 4 → rk n false N (5 ^ N) = n ^ N := by decide +kernel
theorem rk_52 : ∀ n, n < 6 → ∀ N, N < 4 → ∀ c, c < 5 ^ N → rk n false N (c + 1) = rk n false N c + (if vld n false N c then 1 else 0) := by decide +kernel
theorem rk_53 : ∀ n, n < 6 → ∀ N, N < 4 → ∀ c, c < 5 ^ N → rk n false N c ≤ n ^ N := by decide +kernel
theorem rk_54 : ∀ n, n < 6 → ∀ N, N < 4 → ∀ c, c < 5 ^ N → vld n false N c = true → rk n false N c < n ^ N := by decide +kernel
theorem rk_55 : ∀ n, n < 6 → ∀ N, N < 4 → ∀ c, c < 5 ^ N → vld n false N c = true → ∀ i, i < N → dig n N (rk n false N c) i = dig 5 N c i := by decide +kernel
theorem vld_5 : ∀ n, n < 6 → ∀ N, N < 4 → ∀ c, c < 5 ^ N → vld n false N c = (List.range N).all (fun i => vdg n false (dig 5 N c i)) := by decide +kernel
theorem c_pow : ∀ b, b < 7 → ∀ k, k < 5 → f_X0_power (i3 b) (i3 k) = some (i3 (b ^ k), ()) := by decide +kernel
theorem m_pow : ∀ b, b < 7 → ∀ k, k < 5 → f_X7_powerOf (i3 b) (i3 k) = some (i3 (b ^ k), ()) := by decide +kernel
theorem pow_b : ∀ b, b < 7 → ∀ k, k < 5 → b ^ k ≤ 1296 := by decide +kernel
theorem m_fig {B N c i : Nat} (hB : 0 < B) (hB6 : B < 7) (hN : N < 5) (hi : i < N) (hc : c < 2147483648) : f_X7_figureOf (i3 c) (i3 B) (i3 N) (i3 i) = some (i3 (dig B N c i), ()) := by
  unfold f_X7_figureOf dig
  have hp := pow_b B hB6 (N - 1 - i) (by omega)
  have hp0 : 0 < B ^ (N - 1 - i) := Nat.pow_pos hB
  rw [i3_1, i3_sub (by omega), i3_sub (by omega), m_pow B hB6 (N - 1 - i) (by omega), g3_b]
  show gdv (i3 (B ^ (N - 1 - i))) (gdv (i3 B) (some ((i3 c / i3 (B ^ (N - 1 - i))) - (i3 c / i3 (B ^ (N - 1 - i))) / i3 B * i3 B, ()))) = _
  rw [i3_dv (by omega) hp0, i3_dv (by omega) hB, i3_div hc (by omega), i3_mod (Nat.lt_of_le_of_lt (Nat.div_le_self _ _) hc) (by omega)]
theorem c_row_b {σ : gX} {xi : gXI} {t : gS} {B : Nat} (hB : 0 < B) (hB6 : B < 7) : ∀ k fuel left rr, k ≤ 4 → k < fuel → left < 2147483648 → f_X0_readRow_b8 fuel (sx σ xi t rr) (i3 B) (i3 left) (i3 k + -(i3 1)) = some (sx σ xi t (fun j => if j < k then i3 (left / B ^ (k - 1 - j) % B) else rr j)) := by
  intro k
  induction k with
  | zero =>
    intro fuel left rr hk hf hl
    obtain ⟨f, rfl⟩ := gsucc hf
    simp only [f_X0_readRow_b8]
    rw [if_pos i3_dlt]
    rfl
  | succ k ih =>
    intro fuel left rr hk hf hl
    obtain ⟨f, rfl⟩ := gsucc hf
    have hm := Nat.mod_lt left hB
    simp only [f_X0_readRow_b8]
    rw [i3_decu, if_neg (i3_nlt (by omega)), i3_dv (by omega) hB, sx__row, i3_mod hl (by omega), i3_byte (by omega), g3_st (by omega) (by decide), g3_s, sx_r, i3_dv (by omega) hB, g3_v, g3_v, i3_div hl (by omega)]
    have := ih f (left / B) (upd rr k (i3 (left % B))) (by omega) (by omega) (Nat.lt_of_le_of_lt (Nat.div_le_self _ _) hl)
    rw [show f_X0_readRow_b8 f (sx σ xi t (upd rr k (i3 (left % B)))) (i3 B) (i3 (left / B)) (i3 k + -1) = _ from this]
    have e : (fun j => if j < k then i3 (left / B / B ^ (k - 1 - j) % B) else upd rr k (i3 (left % B)) j) = (fun j => if j < k + 1 then i3 (left / B ^ (k + 1 - 1 - j) % B) else rr j) := by
      funext j
      by_cases e1 : j < k
      · rw [if_pos e1, if_pos (by omega), Nat.div_div_eq_div_mul, show k + 1 - 1 - j = (k - 1 - j) + 1 by omega, Nat.pow_succ, Nat.mul_comm]
      · rw [if_neg e1]
        by_cases e2 : j = k
        · rw [e2, upd_same, if_pos (by omega), show k + 1 - 1 - k = 0 by omega, Nat.pow_zero, Nat.div_one]
        · rw [upd_ne e2, if_neg (by omega)]
    rw [e]
def rowF (B N c : Nat) (rr : Nat → Int32) : Nat → Int32 := fun j => if j < N then i3 (dig B N c j) else rr j
theorem c_row {σ : gX} {xi : gXI} {t : gS} {rr : Nat → Int32} {B N c : Nat} (hB : 0 < B) (hB6 : B < 7) (hN : N < 5) (hc : c < 2147483648) : f_X0_readRow (sx σ xi t rr) (i3 c) (i3 N) (i3 B) = some (sx σ xi t (rowF B N c rr)) := by
  unfold f_X0_readRow
  rw [g3_v, i3_1, i3_subdec]
  exact c_row_b hB hB6 N 2000 c rr (by omega) (by omega) hc
