set_option maxRecDepth 100000
/-! the queue -/
def cold (P : gP) (p : Nat) : Bool := decide (P_k P p = 2) && decide (P_s P p = 0)
def part (P : gP) (p : Nat) : Nat := if cold P p then 2 else if P_w P p = 0 then 1 else 0
def place (P : gP) (p : Nat) : Nat := if cold P p then 0 else P_w P p + 1
def ovl (o : Option Nat) : Int32 := match o with
  | none => -(i3 4)
  | some q => i3 q
theorem ovn : ovl none = -4 := rfl
theorem wpt_none {w : Nat} (hw : w ≤ 1000) : (wpt w = -(i3 4)) = (w = 0) := by
  unfold wpt
  split
  · rename_i h; rw [h]; simp
  · rename_i h
    rw [i3_ng (by omega) (by decide) (by decide)]
    simp [h]
theorem c_part {σ : gS} {P : gP} {p : Nat} (h : gRS σ P) (hw : gWF P) (hp : p < 5) : f_X5_part σ (i3 p) = some (i3 (part P p), σ) := by
  have hk := hw.k p
  have hs := hw.s p
  have hb : f_X5_part_b23 σ (i3 p) = some (i3 (if P_w P p = 0 then 1 else 0), σ) := by
    unfold f_X5_part_b23
    rw [g3_ld hp (by decide), h.hw hp, i3_4]
    simp only [wpt_none (hw.w p)]
    by_cases e : P_w P p = 0
    · rw [if_pos e, if_pos e]; rfl
    · rw [if_neg e, if_neg e]; rfl
  unfold f_X5_part
  rw [i3_0, i3_1, c_of hp (by decide), Nat.add_zero, h.hk hp]
  show (if i3 (P_k P p) = 2 then ((f_X5_of σ (i3 p) (i3 1)).bind fun (r3, u4) => if r3 = i3 0 then (some (2, u4)) else (f_X5_part_b23 u4 (i3 p))) else f_X5_part_b23 σ (i3 p)) = _
  rw [i3_2, if3_eq (by omega) (by decide), c_of hp (by decide), h.hs hp, hb]
  show (if P_k P p = 2 then (if i3 (P_s P p) = i3 0 then (some (i3 2, σ)) else (f_X5_part_b23 σ (i3 p))) else _) = _
  rw [if3_eq (by omega) (by decide), hb]
  unfold part cold
  by_cases e1 : P_k P p = 2 <;> by_cases e2 : P_s P p = 0 <;> simp [e1, e2]
theorem part_place (P : gP) (p : Nat) : part P p = 2 ∧ place P p = 0 ∨ part P p = 1 ∧ place P p = 1 ∨ part P p = 0 ∧ place P p = P_w P p + 1 ∧ P_w P p ≠ 0 := by
  unfold part place
  cases cold P p
  · by_cases e : P_w P p = 0
    · right; left; simp [e]
    · right; right; simp [e]
  · left; simp
theorem c_isAhead {σ : gS} {P : gP} {p q : Nat} (h : gRS σ P) (hw : gWF P) (hp : p < 5) (hq : q < p) : f_X5_isAhead σ (i3 p) (i3 q) = some (i3 (if place P q < place P p then 1 else 0), σ) := by
  have hb : f_X5_isAhead_b80 σ (i3 p) (i3 q) = some (i3 0, σ) := by
    unfold f_X5_isAhead_b80
    rw [if_pos (by rw [i3_le (by omega) (by omega)]; omega)]
    rfl
  have hwp := hw.w p
  have hwq := hw.w q
  unfold f_X5_isAhead
  simp only [c_part h hw hp, c_part h hw (show q < 5 by omega), g3_b, hb]
  rcases part_place P p with ⟨a, b⟩ | ⟨a, b⟩ | ⟨a, b, c⟩ <;> rcases part_place P q with ⟨a', b'⟩ | ⟨a', b'⟩ | ⟨a', b', c'⟩ <;> rw [a, a', b, b']
  · rfl
  · rfl
  · rw [if_neg (by omega : ¬ P_w P q + 1 < 0)]; rfl
  · rfl
  · rfl
  · rw [if_neg (by omega : ¬ P_w P q + 1 < 1)]; rfl
  · rw [if_pos (by omega : 0 < P_w P p + 1)]; rfl
  · rw [if_pos (by omega : 1 < P_w P p + 1)]; rfl
  · show (gld 5 (S_wept σ) (i3 p) fun v7 => gld 5 (S_wept σ) (i3 q) fun v8 => if v7 = v8 then some (i3 0, σ) else (gld 5 (S_wept σ) (i3 p) fun v9 => gld 5 (S_wept σ) (i3 q) fun v10 => if v9 ≤ v10 then (gzr 0 σ) else (gzr 1 σ))) = _
    rw [g3_ld hp (by decide), g3_ld (by omega) (by decide), g3_ld hp (by decide), g3_ld (by omega) (by decide), h.hw hp, h.hw (by omega)]
    unfold wpt
    rw [if_neg c, if_neg c', if3_eq (by omega) (by omega), if3_le (by omega) (by omega)]
    by_cases e : P_w P p - 1 = P_w P q - 1
    · rw [if_pos e, if_neg (by omega)]
    · rw [if_neg e]
      by_cases e2 : P_w P p - 1 ≤ P_w P q - 1
      · rw [if_pos e2, if_neg (by omega)]; rfl
      · rw [if_neg e2, if_pos (by omega)]; rfl
theorem c_has {M p : Nat} (hM : M < 32) (hp : p < 5) : f_X0_has (i3 M) (i3 p) = some (i3 (if M.testBit p then 1 else 0), ()) := by
  unfold f_X0_has
  rw [i3_31, i3_1, i3_bit5 hM hp]
  cases M.testBit p <;> rfl
theorem c_has8 {M p : Nat} (hM : M < 256) (hp : p < 8) : f_X0_has (i3 M) (i3 p) = some (i3 (if M.testBit p then 1 else 0), ()) := by
  unfold f_X0_has
  rw [i3_31, i3_1, i3_bit8 hM hp]
  cases M.testBit p <;> rfl
def ahd (P : gP) (best : Option Nat) (p : Nat) : Bool := match best with
  | none => true
  | some q => decide (place P q < place P p)
def fst1 (P : gP) (S : Nat → Bool) (p : Nat) (best : Option Nat) : Option Nat := if S p && ahd P best p then some p else best
theorem fst1_no {P : gP} {S : Nat → Bool} {p : Nat} {best : Option Nat} (h : S p = false) : fst1 P S p best = best := by unfold fst1; rw [h]; rfl
theorem fst1_n {P : gP} {S : Nat → Bool} {p : Nat} (h : S p = true) : fst1 P S p none = some p := by unfold fst1; rw [h]; rfl
theorem fst1_gt {P : gP} {S : Nat → Bool} {p q : Nat} (h : S p = true) (e : place P q < place P p) : fst1 P S p (some q) = some p := by unfold fst1 ahd; rw [h]; simp [e]
theorem fst1_le {P : gP} {S : Nat → Bool} {p q : Nat} (e : ¬ place P q < place P p) : fst1 P S p (some q) = some q := by unfold fst1 ahd; simp [e]
def sp_first (P : gP) (S : Nat → Bool) : Option Nat := fo (fst1 P S) (P_n P) 0 none
theorem fst1_is (P : gP) (S : Nat → Bool) (p : Nat) (best : Option Nat) : (fst1 P S p best = some p ∧ S p = true) ∨ (fst1 P S p best = best ∧ (S p = false ∨ best ≠ none)) := by
  cases hS : S p
  · right; exact ⟨fst1_no hS, .inl rfl⟩
  · cases best with
    | none => left; exact ⟨fst1_n hS, rfl⟩
    | some q =>
      by_cases e : place P q < place P p
      · left; exact ⟨fst1_gt hS e, rfl⟩
      · right; exact ⟨fst1_le e, .inr (by simp)⟩
theorem fst1_lt {P : gP} {S : Nat → Bool} {p : Nat} {best : Option Nat} (h : ∀ q, best = some q → q < p) : ∀ q, fst1 P S p best = some q → q < p + 1 := by
  intro q hq
  rcases fst1_is P S p best with ⟨e, -⟩ | ⟨e, -⟩
  · rw [e] at hq; cases hq; omega
  · rw [e] at hq; have := h q hq; omega
theorem c_first_b {σ : gS} {P : gP} {M : Nat} (h : gRS σ P) (hw : gWF P) (hM : M < 32) : ∀ k fuel i best, i + k = P_n P → k < fuel → (∀ q, best = some q → q < i) → f_X5_firstOf_b5 fuel σ (i3 M) (ovl best) (i3 i) = some (ovl (fo (fst1 P (fun p => M.testBit p)) k i best), σ) := by
  have hn := hw.n
  intro k
  induction k with
  | zero =>
    intro fuel i best hi hf hb
    obtain ⟨f, rfl⟩ := gsucc hf
    simp only [f_X5_firstOf_b5]
    rw [h.hn, if_pos (by rw [i3_le (by omega) (by omega)]; omega)]
    rfl
  | succ k ih =>
    intro fuel i best hi hf hb
    obtain ⟨f, rfl⟩ := gsucc hf
    have e : f_X5_firstOf_b5 (f + 1) σ (i3 M) (ovl best) (i3 i) = f_X5_firstOf_b5 f σ (i3 M) (ovl (fst1 P (fun p => M.testBit p) i best)) (i3 (i + 1)) := by
      simp only [f_X5_firstOf_b5]
      rw [h.hn, if_neg (by rw [i3_le (by omega) (by omega)]; omega), c_has hM (by omega)]
      cases hMb : M.testBit i
      · rw [fst1_no (show (fun p => M.testBit p) i = false from hMb)]
        show f_X5_firstOf_b40 (f_X5_firstOf_b5 f) σ (i3 M) (ovl best) (i3 i) = f_X5_firstOf_b5 f σ (i3 M) (ovl best) (i3 (i + 1))
        unfold f_X5_firstOf_b40 f_X5_firstOf_b41
        rw [i3_1, i3_add]
        rfl
      · have hMs : (fun p => M.testBit p) i = true := hMb
        have h36 : f_X5_firstOf_b36 (f_X5_firstOf_b5 f) σ (i3 M) (i3 i) = f_X5_firstOf_b5 f σ (i3 M) (i3 i) (i3 (i + 1)) := by
          unfold f_X5_firstOf_b36 f_X5_firstOf_b41
          rw [i3_1, i3_add]
          rfl
        have h40 : f_X5_firstOf_b40 (f_X5_firstOf_b5 f) σ (i3 M) (ovl best) (i3 i) = f_X5_firstOf_b5 f σ (i3 M) (ovl best) (i3 (i + 1)) := by
          unfold f_X5_firstOf_b40 f_X5_firstOf_b41
          rw [i3_1, i3_add]
          rfl
        show (if ovl best = (-4) then (f_X5_firstOf_b36 (f_X5_firstOf_b5 f) σ (i3 M) (i3 i)) else ((f_X5_isAhead σ (i3 i) (ovl best)).bind fun (r3, u4) => if r3 = 0 then (f_X5_firstOf_b40 (f_X5_firstOf_b5 f) u4 (i3 M) (ovl best) (i3 i)) else (f_X5_firstOf_b36 (f_X5_firstOf_b5 f) u4 (i3 M) (i3 i)))) = _
        cases best with
        | none =>
          rw [if_pos ovn, h36, fst1_n hMs]
          rfl
        | some q =>
          have hq := hb q rfl
          rw [if_neg (by
            show ¬ i3 q = -(i3 4)
            rw [i3_ng (by omega) (by decide) (by decide)]; exact id)]
          show ((f_X5_isAhead σ (i3 i) (i3 q)).bind fun (r3, u4) => if r3 = 0 then (f_X5_firstOf_b40 (f_X5_firstOf_b5 f) u4 (i3 M) (ovl (some q)) (i3 i)) else (f_X5_firstOf_b36 (f_X5_firstOf_b5 f) u4 (i3 M) (i3 i))) = _
          rw [c_isAhead h hw (by omega) hq]
          by_cases e : place P q < place P i
          · rw [if_pos e, fst1_gt hMs e]
            show f_X5_firstOf_b36 (f_X5_firstOf_b5 f) σ (i3 M) (i3 i) = _
            rw [h36]
            rfl
          · rw [if_neg e, fst1_le e]
            show f_X5_firstOf_b40 (f_X5_firstOf_b5 f) σ (i3 M) (ovl (some q)) (i3 i) = _
            rw [h40]
    rw [e, ih f (i + 1) _ (by omega) (by omega) (fst1_lt hb)]
    rfl
theorem c_first {σ : gS} {P : gP} {M : Nat} (h : gRS σ P) (hw : gWF P) (hM : M < 32) : f_X5_firstOf σ (i3 M) = some (ovl (sp_first P (fun p => M.testBit p)), σ) := by
  have hn := hw.n
  exact c_first_b h hw hM (P_n P) 20 0 none (by omega) (by omega) (fun q hq => by cases hq)
theorem m_place {b : Nat} {P : gP} {τ : gM} {p : Nat} (h : gMO b P τ) (hw : gWF P) (hp : p < 5) : f_X7_placeOn τ (i3 b) (i3 p) = some ((if cold P p then -(i3 1) else i3 (P_w P p)), τ) := by
  have hb := h.hb
  have hk := hw.k p
  have hs := hw.s p
  unfold f_X7_placeOn
  rw [i3_5, i3_add, i3_add, i3_add, g3_ld (by omega) (by decide), h.R.hk hp, i3_2, if3_eq (by omega) (by decide), g3_ld (by omega) (by decide), h.R.hs hp, i3_0, if3_eq (by omega) (by decide)]
  unfold f_X7_placeOn_b29 f_X7_placeOn_b30 cold
  rw [if_pos (rfl : (0 : Int32) = 0), if_neg (by decide : ¬ (1 : Int32) = 0), i3_10, i3_add, i3_add, g3_ld (by omega) (by decide), h.R.hw hp]
  by_cases e1 : P_k P p = 2 <;> by_cases e2 : P_s P p = 0 <;> simp [e1, e2, i3_1]
theorem m_first_b {b : Nat} {P : gP} {τ : gM} {T : Nat} (h : gMO b P τ) (hw : gWF P) (hT : T < 32) : ∀ k fuel i best, i + k = P_n P → k < fuel → (∀ q, best = some q → q < i) → f_X7_nextOn_b6 fuel τ (i3 b) (i3 T) (ovl best) (i3 i) = some (ovl (fo (fst1 P (fun p => !P_g P p && !T.testBit p)) k i best), τ) := by
  have hn := hw.n
  have hb := h.hb
  intro k
  induction k with
  | zero =>
    intro fuel i best hi hf hb
    obtain ⟨f, rfl⟩ := gsucc hf
    simp only [f_X7_nextOn_b6]
    rw [h.hn, if_pos (by rw [i3_le (by omega) (by omega)]; omega)]
    rfl
  | succ k ih =>
    intro fuel i best hi hf hb
    obtain ⟨f, rfl⟩ := gsucc hf
    have h68 : f_X7_nextOn_b68 (f_X7_nextOn_b6 f) τ (i3 b) (i3 T) (i3 i) = f_X7_nextOn_b6 f τ (i3 b) (i3 T) (i3 i) (i3 (i + 1)) := by
      unfold f_X7_nextOn_b68 f_X7_nextOn_b74
      rw [i3_1, i3_add]
      rfl
    have h73 : f_X7_nextOn_b73 (f_X7_nextOn_b6 f) τ (i3 b) (i3 T) (ovl best) (i3 i) = f_X7_nextOn_b6 f τ (i3 b) (i3 T) (ovl best) (i3 (i + 1)) := by
      unfold f_X7_nextOn_b73 f_X7_nextOn_b74
      rw [i3_1, i3_add]
      rfl
    have e : f_X7_nextOn_b6 (f + 1) τ (i3 b) (i3 T) (ovl best) (i3 i) = f_X7_nextOn_b6 f τ (i3 b) (i3 T) (ovl (fst1 P (fun p => !P_g P p && !T.testBit p) i best)) (i3 (i + 1)) := by
      simp only [f_X7_nextOn_b6]
      rw [h.hn, if_neg (by rw [i3_le (by omega) (by omega)]; omega), m_waits h (by omega), i3_31, i3_1, i3_bit5 hT (by omega)]
      have h38 : f_X7_nextOn_b38 (f_X7_nextOn_b6 f) τ (i3 b) (i3 T) (ovl best) (i3 i) = f_X7_nextOn_b6 f τ (i3 b) (i3 T) (ovl best) (i3 (i + 1)) := by
        unfold f_X7_nextOn_b38 f_X7_nextOn_b39
        rw [if_pos (rfl : (0 : Int32) = 0), h73]
      cases hg : P_g P i
      · cases hTb : T.testBit i
        · have hSs : (fun p => !P_g P p && !T.testBit p) i = true := by show (!P_g P i && !T.testBit i) = true; rw [hg, hTb]; rfl
          show f_X7_nextOn_b39 (f_X7_nextOn_b6 f) τ (i3 b) (i3 T) (ovl best) (i3 i) (i3 1) = _
          unfold f_X7_nextOn_b39
          rw [if_neg (by decide : ¬ i3 1 = 0), h68]
          cases best with
          | none =>
            rw [if_pos ovn, fst1_n hSs]
            rfl
          | some q =>
            have hq := hb q rfl
            rw [if_neg (by
              show ¬ i3 q = -(i3 4)
              rw [i3_ng (by omega) (by decide) (by decide)]; exact id)]
            show ((f_X7_placeOn τ (i3 b) (i3 i)).bind fun (r3, u4) => (f_X7_placeOn u4 (i3 b) (i3 q)).bind fun (r5, u6) => if r3 ≤ r5 then (f_X7_nextOn_b73 (f_X7_nextOn_b6 f) u6 (i3 b) (i3 T) (ovl (some q)) (i3 i)) else (f_X7_nextOn_b68 (f_X7_nextOn_b6 f) u6 (i3 b) (i3 T) (i3 i))) = _
            rw [m_place h hw (by omega)]
            show ((f_X7_placeOn τ (i3 b) (i3 q)).bind fun (r5, u6) => if (if cold P i then -(i3 1) else i3 (P_w P i)) ≤ r5 then (f_X7_nextOn_b73 (f_X7_nextOn_b6 f) u6 (i3 b) (i3 T) (ovl (some q)) (i3 i)) else (f_X7_nextOn_b68 (f_X7_nextOn_b6 f) u6 (i3 b) (i3 T) (i3 i))) = _
            rw [m_place h hw (by omega)]
            show (if (if cold P i then -(i3 1) else i3 (P_w P i)) ≤ (if cold P q then -(i3 1) else i3 (P_w P q)) then (f_X7_nextOn_b73 (f_X7_nextOn_b6 f) τ (i3 b) (i3 T) (ovl (some q)) (i3 i)) else (f_X7_nextOn_b68 (f_X7_nextOn_b6 f) τ (i3 b) (i3 T) (i3 i))) = _
            rw [h73, h68]
            have hwi := hw.w i
            have hwq := hw.w q
            have hc : ((if cold P i then -(i3 1) else i3 (P_w P i)) ≤ (if cold P q then -(i3 1) else i3 (P_w P q))) ↔ ¬ place P q < place P i := by
              unfold place
              cases cold P i <;> cases cold P q
              · show i3 (P_w P i) ≤ i3 (P_w P q) ↔ ¬ P_w P q + 1 < P_w P i + 1
                rw [i3_le (by omega) (by omega)]; omega
              · show i3 (P_w P i) ≤ -(i3 1) ↔ ¬ 0 < P_w P i + 1
                rw [Int32.le_iff_toInt_le, i3_int (by omega), i3_negint (by decide)]; omega
              · show -(i3 1) ≤ i3 (P_w P q) ↔ ¬ P_w P q + 1 < 0
                rw [Int32.le_iff_toInt_le, i3_int (by omega), i3_negint (by decide)]; omega
              · show -(i3 1) ≤ -(i3 1) ↔ ¬ 0 < 0
                simp
            by_cases e : place P q < place P i
            · rw [if_neg (fun z => hc.mp z e), fst1_gt hSs e]
              rfl
            · rw [if_pos (hc.mpr e), fst1_le e]
        · rw [fst1_no (show (fun p => !P_g P p && !T.testBit p) i = false by show (!P_g P i && !T.testBit i) = false; rw [hg, hTb]; rfl)]
          exact h38
      · rw [fst1_no (show (fun p => !P_g P p && !T.testBit p) i = false by show (!P_g P i && !T.testBit i) = false; rw [hg]; rfl)]
        exact h38
    rw [e, ih f (i + 1) _ (by omega) (by omega) (fst1_lt hb)]
    rfl
theorem m_first {b : Nat} {P : gP} {τ : gM} {T : Nat} (h : gMO b P τ) (hw : gWF P) (hT : T < 32) : f_X7_nextOn τ (i3 b) (i3 T) = some (ovl (sp_first P (fun p => !P_g P p && !T.testBit p)), τ) := by
  have hn := hw.n
  exact m_first_b h hw hT (P_n P) 2000 0 none (by omega) (by omega) (fun q hq => by cases hq)
/-! what the first is -/
theorem fo_first {P : gP} {S : Nat → Bool} : ∀ k i best, (∀ q, best = some q → q < i ∧ S q = true) → (∀ q, fo (fst1 P S) k i best = some q → q < i + k ∧ S q = true) ∧ (fo (fst1 P S) k i best = none → best = none ∧ ∀ p, i ≤ p → p < i + k → S p = false) := by
  intro k
  induction k with
  | zero => exact fun i best hb => ⟨fun q hq => hb q hq, fun hq => ⟨hq, fun p h1 h2 => by omega⟩⟩
  | succ k ih =>
    intro i best hb
    have hb1 : ∀ q, fst1 P S i best = some q → q < i + 1 ∧ S q = true := by
      intro q hq
      rcases fst1_is P S i best with ⟨e, hs⟩ | ⟨e, -⟩
      · rw [e] at hq; cases hq; exact ⟨by omega, hs⟩
      · rw [e] at hq; have := hb q hq; exact ⟨by omega, this.2⟩
    obtain ⟨h1, h2⟩ := ih (i + 1) (fst1 P S i best) hb1
    refine ⟨fun q hq => ?_, fun hq => ?_⟩
    · have := h1 q hq; exact ⟨by omega, this.2⟩
    · obtain ⟨h3, h4⟩ := h2 hq
      have hS : S i = false ∧ best = none := by
        rcases fst1_is P S i best with ⟨e, hs⟩ | ⟨e, hs⟩
        · rw [e] at h3; cases h3
        · rw [e] at h3
          rcases hs with hs | hs
          · exact ⟨hs, h3⟩
          · exact absurd h3 hs
      refine ⟨hS.2, fun p hp1 hp2 => ?_⟩
      by_cases e : p = i
      · rw [e]; exact hS.1
      · exact h4 p (by omega) (by omega)
theorem sp_first_some {P : gP} {S : Nat → Bool} {q : Nat} (h : sp_first P S = some q) : q < P_n P ∧ S q = true := by
  have := (fo_first (P := P) (S := S) (P_n P) 0 none (fun q hq => by cases hq)).1 q h
  exact ⟨by omega, this.2⟩
theorem sp_first_none {P : gP} {S : Nat → Bool} (h : sp_first P S = none) : ∀ p, p < P_n P → S p = false := fun p hp => ((fo_first (P := P) (S := S) (P_n P) 0 none (fun q hq => by cases hq)).2 h).2 p (by omega) (by omega)
theorem fo_congr {α : Type} {f g : Nat → α → α} : ∀ k i a, (∀ p, i ≤ p → p < i + k → f p = g p) → fo f k i a = fo g k i a
  | 0, _, _, _ => rfl
  | k + 1, i, a, h => by
    show fo f k (i + 1) (f i a) = fo g k (i + 1) (g i a)
    rw [h i (by omega) (by omega)]
    exact fo_congr k (i + 1) _ (fun p h1 h2 => h p (by omega) (by omega))
theorem sp_first_congr {P : gP} {S S' : Nat → Bool} (h : ∀ p, p < P_n P → S p = S' p) : sp_first P S = sp_first P S' :=
  fo_congr _ _ _ (fun p _ hp => funext fun best => by unfold fst1; rw [h p (by omega)])
