set_option maxRecDepth 100000
/-! THE PLAIN LAW, the abstract page: people, minute, room, think, planned; kind, sorrow, wept (minute and 1, or 0), gone, plan -/
abbrev gP : Type := (Nat) × (Nat) × (Nat) × (Nat) × (Nat) × (Nat → Nat) × (Nat → Nat) × (Nat → Nat) × (Nat → Bool) × (Nat → Nat)
def P_n (P : gP) : Nat := P.1
def P_m (P : gP) : Nat := P.2.1
def P_r (P : gP) : Nat := P.2.2.1
def P_t (P : gP) : Nat := P.2.2.2.1
def P_q (P : gP) : Nat := P.2.2.2.2.1
def P_k (P : gP) : Nat → Nat := P.2.2.2.2.2.1
def P_s (P : gP) : Nat → Nat := P.2.2.2.2.2.2.1
def P_w (P : gP) : Nat → Nat := P.2.2.2.2.2.2.2.1
def P_g (P : gP) : Nat → Bool := P.2.2.2.2.2.2.2.2.1
def P_p (P : gP) : Nat → Nat := P.2.2.2.2.2.2.2.2.2
def P_n_s (P : gP) (v : Nat) : gP := (v, P_m P, P_r P, P_t P, P_q P, P_k P, P_s P, P_w P, P_g P, P_p P)
def P_m_s (P : gP) (v : Nat) : gP := (P_n P, v, P_r P, P_t P, P_q P, P_k P, P_s P, P_w P, P_g P, P_p P)
def P_r_s (P : gP) (v : Nat) : gP := (P_n P, P_m P, v, P_t P, P_q P, P_k P, P_s P, P_w P, P_g P, P_p P)
def P_t_s (P : gP) (v : Nat) : gP := (P_n P, P_m P, P_r P, v, P_q P, P_k P, P_s P, P_w P, P_g P, P_p P)
def P_q_s (P : gP) (v : Nat) : gP := (P_n P, P_m P, P_r P, P_t P, v, P_k P, P_s P, P_w P, P_g P, P_p P)
def P_k_s (P : gP) (v : Nat → Nat) : gP := (P_n P, P_m P, P_r P, P_t P, P_q P, v, P_s P, P_w P, P_g P, P_p P)
def P_s_s (P : gP) (v : Nat → Nat) : gP := (P_n P, P_m P, P_r P, P_t P, P_q P, P_k P, v, P_w P, P_g P, P_p P)
def P_w_s (P : gP) (v : Nat → Nat) : gP := (P_n P, P_m P, P_r P, P_t P, P_q P, P_k P, P_s P, v, P_g P, P_p P)
def P_g_s (P : gP) (v : Nat → Bool) : gP := (P_n P, P_m P, P_r P, P_t P, P_q P, P_k P, P_s P, P_w P, v, P_p P)
def P_p_s (P : gP) (v : Nat → Nat) : gP := (P_n P, P_m P, P_r P, P_t P, P_q P, P_k P, P_s P, P_w P, P_g P, v)
/-- one place of a function is another -/
def gu {α : Type} (f : Nat → α) (k : Nat) (x : α) : Nat → α := fun j => if j = k then x else f j
theorem gu_same {α : Type} {f : Nat → α} {k : Nat} {x : α} : gu f k x k = x := by simp [gu]
theorem gu_ne {α : Type} {f : Nat → α} {k j : Nat} {x : α} (h : j ≠ k) : gu f k x j = f j := by simp [gu, h]
/-- a loop upward -/
def fo {α : Type} (h : Nat → α → α) : Nat → Nat → α → α
  | 0, _, a => a
  | k + 1, i, a => fo h k (i + 1) (h i a)
def m5 (g : Nat → Bool) : Nat := (if g 0 then 1 else 0) + (if g 1 then 2 else 0) + (if g 2 then 4 else 0) + (if g 3 then 8 else 0) + (if g 4 then 16 else 0)
theorem lt5 {p : Nat} (h : p < 5) : p = 0 ∨ p = 1 ∨ p = 2 ∨ p = 3 ∨ p = 4 := by omega
theorem le5 {p : Nat} (h : p ≤ 5) : p = 0 ∨ p = 1 ∨ p = 2 ∨ p = 3 ∨ p = 4 ∨ p = 5 := by omega
theorem m5_bit {g : Nat → Bool} {p : Nat} (h : p < 5) : (m5 g).testBit p = g p := by
  unfold m5
  rcases lt5 h with rfl | rfl | rfl | rfl | rfl <;> cases g 0 <;> cases g 1 <;> cases g 2 <;> cases g 3 <;> cases g 4 <;> rfl
theorem m5_lt (g : Nat → Bool) : m5 g < 32 := by
  unfold m5
  cases g 0 <;> cases g 1 <;> cases g 2 <;> cases g 3 <;> cases g 4 <;> decide
theorem m5_ext {g h : Nat → Bool} (e : ∀ p, p < 5 → g p = h p) : m5 g = m5 h := by
  unfold m5
  rw [e 0 (by decide), e 1 (by decide), e 2 (by decide), e 3 (by decide), e 4 (by decide)]
theorem bits5 {a b : Nat} (ha : a < 32) (hb : b < 32) (e : ∀ p, p < 5 → a.testBit p = b.testBit p) : a = b :=
  (by decide +kernel : ∀ a, a < 32 → ∀ b, b < 32 → (∀ p, p < 5 → a.testBit p = b.testBit p) → a = b) a ha b hb e
def brim (k : Nat) : Nat := if k = 0 then 10 else if k = 1 then 5 else if k = 2 then 4 else 20
def wpt (w : Nat) : Int32 := if w = 0 then -(i3 4) else i3 (w - 1)
/-- a Stop holds the page -/
def gRS (σ : gS) (P : gP) : Prop := S_people σ = i3 (P_n P) ∧ S_minute σ = i3 (P_m P) ∧ S_room σ = i3 (P_r P) ∧ S_think σ = i3 (P_t P) ∧ S_planned σ = i3 (P_q P) ∧
  (∀ p, p < 5 → S_one σ (3 * p) = i3 (P_k P p)) ∧ (∀ p, p < 5 → S_one σ (3 * p + 1) = i3 (P_s P p)) ∧ (∀ p, p < 5 → S_one σ (3 * p + 2) = i3 (if P_g P p then 1 else 0)) ∧
  (∀ p, p < 5 → S_wept σ p = wpt (P_w P p)) ∧ ∀ i, i < 8 → S_plan σ i = i3 (P_p P i)
/-- twenty-eight numbers from b on hold the page -/
def gRM (b : Nat) (st : Nat → Int32) (P : gP) : Prop := (∀ p, p < 5 → st (b + p) = i3 (P_k P p)) ∧ (∀ p, p < 5 → st (b + 5 + p) = i3 (P_s P p)) ∧ (∀ p, p < 5 → st (b + 10 + p) = i3 (P_w P p)) ∧
  st (b + 15) = i3 (m5 (P_g P)) ∧ st (b + 16) = i3 (P_m P) ∧ st (b + 17) = i3 (P_r P) - i3 2 ∧ st (b + 18) = i3 (P_t P) - i3 4 ∧ (∀ i, i < 8 → st (b + 19 + i) = i3 (P_p P i)) ∧ st (b + 27) = i3 (P_q P)
def gWF (P : gP) : Prop := P_n P ≤ 5 ∧ P_m P ≤ 999 ∧ (1 ≤ P_r P ∧ P_r P ≤ 5) ∧ (1 ≤ P_t P ∧ P_t P ≤ 9) ∧ P_q P ≤ 8 ∧ (∀ p, P_k P p < 4) ∧ (∀ p, P_s P p ≤ 40) ∧ (∀ p, P_w P p ≤ 1000) ∧ (∀ p, P_n P ≤ p → P_g P p = false) ∧
  ∀ i, P_p P i ≤ 6 ∧ (i < P_q P → P_p P i < P_n P ∨ P_p P i = 5 ∨ P_p P i = 6)
/-- the model stands with the page at b -/
def gMO (b : Nat) (P : gP) (τ : gM) : Prop := M_oneMany τ = i3 (P_n P) ∧ (∀ k, k < 4 → M_brims τ k = i3 (brim k)) ∧ gRM b (M_state τ) P ∧ b + 28 ≤ 168
def gFr (b : Nat) (st st' : Nat → Int32) : Prop := ∀ j, j < b ∨ b + 28 ≤ j → st' j = st j
theorem gFr.rf {b : Nat} {st : Nat → Int32} : gFr b st st := fun _ _ => rfl
theorem gFr.tr {b : Nat} {s1 s2 s3 : Nat → Int32} (h : gFr b s1 s2) (k : gFr b s2 s3) : gFr b s1 s3 := fun j hj => (k j hj).trans (h j hj)
theorem gFr.up {b j : Nat} {st : Nat → Int32} {x : Int32} (h1 : b ≤ j) (h2 : j < b + 28) : gFr b st (upd st j x) := fun i hi => upd_ne (by omega)
theorem gMO.on {b : Nat} {P P' : gP} {τ : gM} {st : Nat → Int32} (h : gMO b P τ) (hr : gRM b st P') (hn : P_n P' = P_n P) : gMO b P' (M_state_s τ st) := ⟨by rw [hn]; exact h.1, h.2.1, hr, h.2.2.2⟩
theorem M_st_st (τ : gM) (a b : Nat → Int32) : M_state_s (M_state_s τ a) b = M_state_s τ b := rfl
theorem M_st_eq (τ : gM) (a : Nat → Int32) : M_state (M_state_s τ a) = a := rfl
theorem M_st_self (τ : gM) : M_state_s τ (M_state τ) = τ := rfl
theorem M_one_st (τ : gM) (a : Nat → Int32) : M_oneMany (M_state_s τ a) = M_oneMany τ := rfl
theorem M_brims_st (τ : gM) (a : Nat → Int32) : M_brims (M_state_s τ a) = M_brims τ := rfl
/-! one place is changed -/
theorem gRS.s {σ : gS} {P : gP} {p v : Nat} (h : gRS σ P) (hp : p < 5) : gRS (S_one_s σ (upd (S_one σ) (3 * p + 1) (i3 v))) (P_s_s P (gu (P_s P) p v)) := by
  obtain ⟨h1, h2, h3, h4, h5, h6, h7, h8, h9, h10⟩ := h
  refine ⟨h1, h2, h3, h4, h5, fun q hq => ?_, fun q hq => ?_, fun q hq => ?_, h9, h10⟩
  · show upd (S_one σ) (3 * p + 1) (i3 v) (3 * q) = i3 (P_k P q)
    rw [upd_ne (by omega)]; exact h6 q hq
  · show upd (S_one σ) (3 * p + 1) (i3 v) (3 * q + 1) = i3 (gu (P_s P) p v q)
    by_cases e : q = p
    · subst e; rw [upd_same, gu_same]
    · rw [upd_ne (by omega), gu_ne e]; exact h7 q hq
  · show upd (S_one σ) (3 * p + 1) (i3 v) (3 * q + 2) = i3 (if P_g P q then 1 else 0)
    rw [upd_ne (by omega)]; exact h8 q hq
theorem gRS.k {σ : gS} {P : gP} {p v : Nat} (h : gRS σ P) (hp : p < 5) : gRS (S_one_s σ (upd (S_one σ) (3 * p) (i3 v))) (P_k_s P (gu (P_k P) p v)) := by
  obtain ⟨h1, h2, h3, h4, h5, h6, h7, h8, h9, h10⟩ := h
  refine ⟨h1, h2, h3, h4, h5, fun q hq => ?_, fun q hq => ?_, fun q hq => ?_, h9, h10⟩
  · show upd (S_one σ) (3 * p) (i3 v) (3 * q) = i3 (gu (P_k P) p v q)
    by_cases e : q = p
    · subst e; rw [upd_same, gu_same]
    · rw [upd_ne (by omega), gu_ne e]; exact h6 q hq
  · show upd (S_one σ) (3 * p) (i3 v) (3 * q + 1) = i3 (P_s P q)
    rw [upd_ne (by omega)]; exact h7 q hq
  · show upd (S_one σ) (3 * p) (i3 v) (3 * q + 2) = i3 (if P_g P q then 1 else 0)
    rw [upd_ne (by omega)]; exact h8 q hq
theorem gRS.g {σ : gS} {P : gP} {p : Nat} {v : Bool} (h : gRS σ P) (hp : p < 5) : gRS (S_one_s σ (upd (S_one σ) (3 * p + 2) (i3 (if v then 1 else 0)))) (P_g_s P (gu (P_g P) p v)) := by
  obtain ⟨h1, h2, h3, h4, h5, h6, h7, h8, h9, h10⟩ := h
  refine ⟨h1, h2, h3, h4, h5, fun q hq => ?_, fun q hq => ?_, fun q hq => ?_, h9, h10⟩
  · show upd (S_one σ) (3 * p + 2) _ (3 * q) = i3 (P_k P q)
    rw [upd_ne (by omega)]; exact h6 q hq
  · show upd (S_one σ) (3 * p + 2) _ (3 * q + 1) = i3 (P_s P q)
    rw [upd_ne (by omega)]; exact h7 q hq
  · show upd (S_one σ) (3 * p + 2) _ (3 * q + 2) = i3 (if gu (P_g P) p v q then 1 else 0)
    by_cases e : q = p
    · subst e; rw [upd_same, gu_same]
    · rw [upd_ne (by omega), gu_ne e]; exact h8 q hq
theorem gRS.w {σ : gS} {P : gP} {p v : Nat} (h : gRS σ P) (hp : p < 5) : gRS (S_wept_s σ (upd (S_wept σ) p (wpt v))) (P_w_s P (gu (P_w P) p v)) := by
  obtain ⟨h1, h2, h3, h4, h5, h6, h7, h8, h9, h10⟩ := h
  refine ⟨h1, h2, h3, h4, h5, h6, h7, h8, fun q hq => ?_, h10⟩
  show upd (S_wept σ) p (wpt v) q = wpt (gu (P_w P) p v q)
  by_cases e : q = p
  · subst e; rw [upd_same, gu_same]
  · rw [upd_ne (by omega), gu_ne e]; exact h9 q hq
theorem gRS.m {σ : gS} {P : gP} {v : Nat} (h : gRS σ P) : gRS (S_minute_s σ (i3 v)) (P_m_s P v) := by
  obtain ⟨h1, h2, h3, h4, h5, h6, h7, h8, h9, h10⟩ := h
  exact ⟨h1, rfl, h3, h4, h5, h6, h7, h8, h9, h10⟩
theorem gRS.r {σ : gS} {P : gP} {v : Nat} (h : gRS σ P) : gRS (S_room_s σ (i3 v)) (P_r_s P v) := by
  obtain ⟨h1, h2, h3, h4, h5, h6, h7, h8, h9, h10⟩ := h
  exact ⟨h1, h2, rfl, h4, h5, h6, h7, h8, h9, h10⟩
theorem gRS.t {σ : gS} {P : gP} {v : Nat} (h : gRS σ P) : gRS (S_think_s σ (i3 v)) (P_t_s P v) := by
  obtain ⟨h1, h2, h3, h4, h5, h6, h7, h8, h9, h10⟩ := h
  exact ⟨h1, h2, h3, rfl, h5, h6, h7, h8, h9, h10⟩
theorem gRS.q {σ : gS} {P : gP} {v : Nat} (h : gRS σ P) : gRS (S_planned_s σ (i3 v)) (P_q_s P v) := by
  obtain ⟨h1, h2, h3, h4, h5, h6, h7, h8, h9, h10⟩ := h
  exact ⟨h1, h2, h3, h4, rfl, h6, h7, h8, h9, h10⟩
theorem gRS.n {σ : gS} {P : gP} {v : Nat} (h : gRS σ P) : gRS (S_people_s σ (i3 v)) (P_n_s P v) := by
  obtain ⟨h1, h2, h3, h4, h5, h6, h7, h8, h9, h10⟩ := h
  exact ⟨rfl, h2, h3, h4, h5, h6, h7, h8, h9, h10⟩
theorem gRS.p {σ : gS} {P : gP} {i v : Nat} (h : gRS σ P) (hi : i < 8) : gRS (S_plan_s σ (upd (S_plan σ) i (i3 v))) (P_p_s P (gu (P_p P) i v)) := by
  obtain ⟨h1, h2, h3, h4, h5, h6, h7, h8, h9, h10⟩ := h
  refine ⟨h1, h2, h3, h4, h5, h6, h7, h8, h9, fun q hq => ?_⟩
  show upd (S_plan σ) i (i3 v) q = i3 (gu (P_p P) i v q)
  by_cases e : q = i
  · subst e; rw [upd_same, gu_same]
  · rw [upd_ne (by omega), gu_ne e]; exact h10 q hq
theorem gRM.k {b : Nat} {st : Nat → Int32} {P : gP} {p v : Nat} (h : gRM b st P) (hp : p < 5) : gRM b (upd st (b + p) (i3 v)) (P_k_s P (gu (P_k P) p v)) := by
  obtain ⟨h0, h1, h2, h3, h4, h5, h6, h7, h8⟩ := h
  refine ⟨fun q hq => ?_, fun q hq => ?_, fun q hq => ?_, ?_, ?_, ?_, ?_, fun q hq => ?_, ?_⟩
  · show upd st (b + p) (i3 v) (b + q) = i3 (gu (P_k P) p v q)
    by_cases e : q = p
    · subst e; rw [upd_same, gu_same]
    · rw [upd_ne (by omega), gu_ne e]; exact h0 q hq
  · show upd st (b + p) _ (b + 5 + q) = i3 (P_s P q)
    rw [upd_ne (by omega)]; exact h1 q hq
  · show upd st (b + p) _ (b + 10 + q) = i3 (P_w P q)
    rw [upd_ne (by omega)]; exact h2 q hq
  · show upd st (b + p) _ (b + 15) = i3 (m5 (P_g P))
    rw [upd_ne (by omega)]; exact h3
  · show upd st (b + p) _ (b + 16) = i3 (P_m P)
    rw [upd_ne (by omega)]; exact h4
  · show upd st (b + p) _ (b + 17) = i3 (P_r P) - i3 2
    rw [upd_ne (by omega)]; exact h5
  · show upd st (b + p) _ (b + 18) = i3 (P_t P) - i3 4
    rw [upd_ne (by omega)]; exact h6
  · show upd st (b + p) _ (b + 19 + q) = i3 (P_p P q)
    rw [upd_ne (by omega)]; exact h7 q hq
  · show upd st (b + p) _ (b + 27) = i3 (P_q P)
    rw [upd_ne (by omega)]; exact h8
theorem gRM.s {b : Nat} {st : Nat → Int32} {P : gP} {p v : Nat} (h : gRM b st P) (hp : p < 5) : gRM b (upd st (b + 5 + p) (i3 v)) (P_s_s P (gu (P_s P) p v)) := by
  obtain ⟨h0, h1, h2, h3, h4, h5, h6, h7, h8⟩ := h
  refine ⟨fun q hq => ?_, fun q hq => ?_, fun q hq => ?_, ?_, ?_, ?_, ?_, fun q hq => ?_, ?_⟩
  · show upd st (b + 5 + p) _ (b + q) = i3 (P_k P q)
    rw [upd_ne (by omega)]; exact h0 q hq
  · show upd st (b + 5 + p) (i3 v) (b + 5 + q) = i3 (gu (P_s P) p v q)
    by_cases e : q = p
    · subst e; rw [upd_same, gu_same]
    · rw [upd_ne (by omega), gu_ne e]; exact h1 q hq
  · show upd st (b + 5 + p) _ (b + 10 + q) = i3 (P_w P q)
    rw [upd_ne (by omega)]; exact h2 q hq
  · show upd st (b + 5 + p) _ (b + 15) = i3 (m5 (P_g P))
    rw [upd_ne (by omega)]; exact h3
  · show upd st (b + 5 + p) _ (b + 16) = i3 (P_m P)
    rw [upd_ne (by omega)]; exact h4
  · show upd st (b + 5 + p) _ (b + 17) = i3 (P_r P) - i3 2
    rw [upd_ne (by omega)]; exact h5
  · show upd st (b + 5 + p) _ (b + 18) = i3 (P_t P) - i3 4
    rw [upd_ne (by omega)]; exact h6
  · show upd st (b + 5 + p) _ (b + 19 + q) = i3 (P_p P q)
    rw [upd_ne (by omega)]; exact h7 q hq
  · show upd st (b + 5 + p) _ (b + 27) = i3 (P_q P)
    rw [upd_ne (by omega)]; exact h8
theorem gRM.w {b : Nat} {st : Nat → Int32} {P : gP} {p v : Nat} (h : gRM b st P) (hp : p < 5) : gRM b (upd st (b + 10 + p) (i3 v)) (P_w_s P (gu (P_w P) p v)) := by
  obtain ⟨h0, h1, h2, h3, h4, h5, h6, h7, h8⟩ := h
  refine ⟨fun q hq => ?_, fun q hq => ?_, fun q hq => ?_, ?_, ?_, ?_, ?_, fun q hq => ?_, ?_⟩
  · show upd st (b + 10 + p) _ (b + q) = i3 (P_k P q)
    rw [upd_ne (by omega)]; exact h0 q hq
  · show upd st (b + 10 + p) _ (b + 5 + q) = i3 (P_s P q)
    rw [upd_ne (by omega)]; exact h1 q hq
  · show upd st (b + 10 + p) (i3 v) (b + 10 + q) = i3 (gu (P_w P) p v q)
    by_cases e : q = p
    · subst e; rw [upd_same, gu_same]
    · rw [upd_ne (by omega), gu_ne e]; exact h2 q hq
  · show upd st (b + 10 + p) _ (b + 15) = i3 (m5 (P_g P))
    rw [upd_ne (by omega)]; exact h3
  · show upd st (b + 10 + p) _ (b + 16) = i3 (P_m P)
    rw [upd_ne (by omega)]; exact h4
  · show upd st (b + 10 + p) _ (b + 17) = i3 (P_r P) - i3 2
    rw [upd_ne (by omega)]; exact h5
  · show upd st (b + 10 + p) _ (b + 18) = i3 (P_t P) - i3 4
    rw [upd_ne (by omega)]; exact h6
  · show upd st (b + 10 + p) _ (b + 19 + q) = i3 (P_p P q)
    rw [upd_ne (by omega)]; exact h7 q hq
  · show upd st (b + 10 + p) _ (b + 27) = i3 (P_q P)
    rw [upd_ne (by omega)]; exact h8
theorem gRM.g {b : Nat} {st : Nat → Int32} {P : gP} {v : Nat → Bool} (h : gRM b st P) : gRM b (upd st (b + 15) (i3 (m5 v))) (P_g_s P v) := by
  obtain ⟨h0, h1, h2, h3, h4, h5, h6, h7, h8⟩ := h
  refine ⟨fun q hq => ?_, fun q hq => ?_, fun q hq => ?_, ?_, ?_, ?_, ?_, fun q hq => ?_, ?_⟩
  · show upd st (b + 15) _ (b + q) = i3 (P_k P q)
    rw [upd_ne (by omega)]; exact h0 q hq
  · show upd st (b + 15) _ (b + 5 + q) = i3 (P_s P q)
    rw [upd_ne (by omega)]; exact h1 q hq
  · show upd st (b + 15) _ (b + 10 + q) = i3 (P_w P q)
    rw [upd_ne (by omega)]; exact h2 q hq
  · exact upd_same
  · show upd st (b + 15) _ (b + 16) = i3 (P_m P)
    rw [upd_ne (by omega)]; exact h4
  · show upd st (b + 15) _ (b + 17) = i3 (P_r P) - i3 2
    rw [upd_ne (by omega)]; exact h5
  · show upd st (b + 15) _ (b + 18) = i3 (P_t P) - i3 4
    rw [upd_ne (by omega)]; exact h6
  · show upd st (b + 15) _ (b + 19 + q) = i3 (P_p P q)
    rw [upd_ne (by omega)]; exact h7 q hq
  · show upd st (b + 15) _ (b + 27) = i3 (P_q P)
    rw [upd_ne (by omega)]; exact h8
theorem gRM.m {b : Nat} {st : Nat → Int32} {P : gP} {v : Nat} (h : gRM b st P) : gRM b (upd st (b + 16) (i3 v)) (P_m_s P v) := by
  obtain ⟨h0, h1, h2, h3, h4, h5, h6, h7, h8⟩ := h
  refine ⟨fun q hq => ?_, fun q hq => ?_, fun q hq => ?_, ?_, ?_, ?_, ?_, fun q hq => ?_, ?_⟩
  · show upd st (b + 16) _ (b + q) = i3 (P_k P q)
    rw [upd_ne (by omega)]; exact h0 q hq
  · show upd st (b + 16) _ (b + 5 + q) = i3 (P_s P q)
    rw [upd_ne (by omega)]; exact h1 q hq
  · show upd st (b + 16) _ (b + 10 + q) = i3 (P_w P q)
    rw [upd_ne (by omega)]; exact h2 q hq
  · show upd st (b + 16) _ (b + 15) = i3 (m5 (P_g P))
    rw [upd_ne (by omega)]; exact h3
  · exact upd_same
  · show upd st (b + 16) _ (b + 17) = i3 (P_r P) - i3 2
    rw [upd_ne (by omega)]; exact h5
  · show upd st (b + 16) _ (b + 18) = i3 (P_t P) - i3 4
    rw [upd_ne (by omega)]; exact h6
  · show upd st (b + 16) _ (b + 19 + q) = i3 (P_p P q)
    rw [upd_ne (by omega)]; exact h7 q hq
  · show upd st (b + 16) _ (b + 27) = i3 (P_q P)
    rw [upd_ne (by omega)]; exact h8
theorem gRM.r {b : Nat} {st : Nat → Int32} {P : gP} {v : Nat} (h : gRM b st P) : gRM b (upd st (b + 17) (i3 v - i3 2)) (P_r_s P v) := by
  obtain ⟨h0, h1, h2, h3, h4, h5, h6, h7, h8⟩ := h
  refine ⟨fun q hq => ?_, fun q hq => ?_, fun q hq => ?_, ?_, ?_, ?_, ?_, fun q hq => ?_, ?_⟩
  · show upd st (b + 17) _ (b + q) = i3 (P_k P q)
    rw [upd_ne (by omega)]; exact h0 q hq
  · show upd st (b + 17) _ (b + 5 + q) = i3 (P_s P q)
    rw [upd_ne (by omega)]; exact h1 q hq
  · show upd st (b + 17) _ (b + 10 + q) = i3 (P_w P q)
    rw [upd_ne (by omega)]; exact h2 q hq
  · show upd st (b + 17) _ (b + 15) = i3 (m5 (P_g P))
    rw [upd_ne (by omega)]; exact h3
  · show upd st (b + 17) _ (b + 16) = i3 (P_m P)
    rw [upd_ne (by omega)]; exact h4
  · exact upd_same
  · show upd st (b + 17) _ (b + 18) = i3 (P_t P) - i3 4
    rw [upd_ne (by omega)]; exact h6
  · show upd st (b + 17) _ (b + 19 + q) = i3 (P_p P q)
    rw [upd_ne (by omega)]; exact h7 q hq
  · show upd st (b + 17) _ (b + 27) = i3 (P_q P)
    rw [upd_ne (by omega)]; exact h8
theorem gRM.t {b : Nat} {st : Nat → Int32} {P : gP} {v : Nat} (h : gRM b st P) : gRM b (upd st (b + 18) (i3 v - i3 4)) (P_t_s P v) := by
  obtain ⟨h0, h1, h2, h3, h4, h5, h6, h7, h8⟩ := h
  refine ⟨fun q hq => ?_, fun q hq => ?_, fun q hq => ?_, ?_, ?_, ?_, ?_, fun q hq => ?_, ?_⟩
  · show upd st (b + 18) _ (b + q) = i3 (P_k P q)
    rw [upd_ne (by omega)]; exact h0 q hq
  · show upd st (b + 18) _ (b + 5 + q) = i3 (P_s P q)
    rw [upd_ne (by omega)]; exact h1 q hq
  · show upd st (b + 18) _ (b + 10 + q) = i3 (P_w P q)
    rw [upd_ne (by omega)]; exact h2 q hq
  · show upd st (b + 18) _ (b + 15) = i3 (m5 (P_g P))
    rw [upd_ne (by omega)]; exact h3
  · show upd st (b + 18) _ (b + 16) = i3 (P_m P)
    rw [upd_ne (by omega)]; exact h4
  · show upd st (b + 18) _ (b + 17) = i3 (P_r P) - i3 2
    rw [upd_ne (by omega)]; exact h5
  · exact upd_same
  · show upd st (b + 18) _ (b + 19 + q) = i3 (P_p P q)
    rw [upd_ne (by omega)]; exact h7 q hq
  · show upd st (b + 18) _ (b + 27) = i3 (P_q P)
    rw [upd_ne (by omega)]; exact h8
theorem gRM.p {b : Nat} {st : Nat → Int32} {P : gP} {p v : Nat} (h : gRM b st P) (hp : p < 8) : gRM b (upd st (b + 19 + p) (i3 v)) (P_p_s P (gu (P_p P) p v)) := by
  obtain ⟨h0, h1, h2, h3, h4, h5, h6, h7, h8⟩ := h
  refine ⟨fun q hq => ?_, fun q hq => ?_, fun q hq => ?_, ?_, ?_, ?_, ?_, fun q hq => ?_, ?_⟩
  · show upd st (b + 19 + p) _ (b + q) = i3 (P_k P q)
    rw [upd_ne (by omega)]; exact h0 q hq
  · show upd st (b + 19 + p) _ (b + 5 + q) = i3 (P_s P q)
    rw [upd_ne (by omega)]; exact h1 q hq
  · show upd st (b + 19 + p) _ (b + 10 + q) = i3 (P_w P q)
    rw [upd_ne (by omega)]; exact h2 q hq
  · show upd st (b + 19 + p) _ (b + 15) = i3 (m5 (P_g P))
    rw [upd_ne (by omega)]; exact h3
  · show upd st (b + 19 + p) _ (b + 16) = i3 (P_m P)
    rw [upd_ne (by omega)]; exact h4
  · show upd st (b + 19 + p) _ (b + 17) = i3 (P_r P) - i3 2
    rw [upd_ne (by omega)]; exact h5
  · show upd st (b + 19 + p) _ (b + 18) = i3 (P_t P) - i3 4
    rw [upd_ne (by omega)]; exact h6
  · show upd st (b + 19 + p) (i3 v) (b + 19 + q) = i3 (gu (P_p P) p v q)
    by_cases e : q = p
    · subst e; rw [upd_same, gu_same]
    · rw [upd_ne (by omega), gu_ne e]; exact h7 q hq
  · show upd st (b + 19 + p) _ (b + 27) = i3 (P_q P)
    rw [upd_ne (by omega)]; exact h8
theorem gRM.q {b : Nat} {st : Nat → Int32} {P : gP} {v : Nat} (h : gRM b st P) : gRM b (upd st (b + 27) (i3 v)) (P_q_s P v) := by
  obtain ⟨h0, h1, h2, h3, h4, h5, h6, h7, h8⟩ := h
  refine ⟨fun q hq => ?_, fun q hq => ?_, fun q hq => ?_, ?_, ?_, ?_, ?_, fun q hq => ?_, ?_⟩
  · show upd st (b + 27) _ (b + q) = i3 (P_k P q)
    rw [upd_ne (by omega)]; exact h0 q hq
  · show upd st (b + 27) _ (b + 5 + q) = i3 (P_s P q)
    rw [upd_ne (by omega)]; exact h1 q hq
  · show upd st (b + 27) _ (b + 10 + q) = i3 (P_w P q)
    rw [upd_ne (by omega)]; exact h2 q hq
  · show upd st (b + 27) _ (b + 15) = i3 (m5 (P_g P))
    rw [upd_ne (by omega)]; exact h3
  · show upd st (b + 27) _ (b + 16) = i3 (P_m P)
    rw [upd_ne (by omega)]; exact h4
  · show upd st (b + 27) _ (b + 17) = i3 (P_r P) - i3 2
    rw [upd_ne (by omega)]; exact h5
  · show upd st (b + 27) _ (b + 18) = i3 (P_t P) - i3 4
    rw [upd_ne (by omega)]; exact h6
  · show upd st (b + 27) _ (b + 19 + q) = i3 (P_p P q)
    rw [upd_ne (by omega)]; exact h7 q hq
  · exact upd_same
theorem gRS.hn {σ : gS} {P : gP} (h : gRS σ P) : S_people σ = i3 (P_n P) := h.1
theorem gRS.hm {σ : gS} {P : gP} (h : gRS σ P) : S_minute σ = i3 (P_m P) := h.2.1
theorem gRS.hr {σ : gS} {P : gP} (h : gRS σ P) : S_room σ = i3 (P_r P) := h.2.2.1
theorem gRS.ht {σ : gS} {P : gP} (h : gRS σ P) : S_think σ = i3 (P_t P) := h.2.2.2.1
theorem gRS.hq {σ : gS} {P : gP} (h : gRS σ P) : S_planned σ = i3 (P_q P) := h.2.2.2.2.1
theorem gRS.hk {σ : gS} {P : gP} (h : gRS σ P) {p : Nat} (hp : p < 5) : S_one σ (3 * p) = i3 (P_k P p) := h.2.2.2.2.2.1 p hp
theorem gRS.hs {σ : gS} {P : gP} (h : gRS σ P) {p : Nat} (hp : p < 5) : S_one σ (3 * p + 1) = i3 (P_s P p) := h.2.2.2.2.2.2.1 p hp
theorem gRS.hg {σ : gS} {P : gP} (h : gRS σ P) {p : Nat} (hp : p < 5) : S_one σ (3 * p + 2) = i3 (if P_g P p then 1 else 0) := h.2.2.2.2.2.2.2.1 p hp
theorem gRS.hw {σ : gS} {P : gP} (h : gRS σ P) {p : Nat} (hp : p < 5) : S_wept σ p = wpt (P_w P p) := h.2.2.2.2.2.2.2.2.1 p hp
theorem gRS.hp {σ : gS} {P : gP} (h : gRS σ P) {i : Nat} (hi : i < 8) : S_plan σ i = i3 (P_p P i) := h.2.2.2.2.2.2.2.2.2 i hi
theorem gRM.hk {b : Nat} {st : Nat → Int32} {P : gP} (h : gRM b st P) {p : Nat} (hp : p < 5) : st (b + p) = i3 (P_k P p) := h.1 p hp
theorem gRM.hs {b : Nat} {st : Nat → Int32} {P : gP} (h : gRM b st P) {p : Nat} (hp : p < 5) : st (b + 5 + p) = i3 (P_s P p) := h.2.1 p hp
theorem gRM.hw {b : Nat} {st : Nat → Int32} {P : gP} (h : gRM b st P) {p : Nat} (hp : p < 5) : st (b + 10 + p) = i3 (P_w P p) := h.2.2.1 p hp
theorem gRM.hg {b : Nat} {st : Nat → Int32} {P : gP} (h : gRM b st P) : st (b + 15) = i3 (m5 (P_g P)) := h.2.2.2.1
theorem gRM.hm {b : Nat} {st : Nat → Int32} {P : gP} (h : gRM b st P) : st (b + 16) = i3 (P_m P) := h.2.2.2.2.1
theorem gRM.hr {b : Nat} {st : Nat → Int32} {P : gP} (h : gRM b st P) : st (b + 17) = i3 (P_r P) - i3 2 := h.2.2.2.2.2.1
theorem gRM.ht {b : Nat} {st : Nat → Int32} {P : gP} (h : gRM b st P) : st (b + 18) = i3 (P_t P) - i3 4 := h.2.2.2.2.2.2.1
theorem gRM.hp {b : Nat} {st : Nat → Int32} {P : gP} (h : gRM b st P) {i : Nat} (hi : i < 8) : st (b + 19 + i) = i3 (P_p P i) := h.2.2.2.2.2.2.2.1 i hi
theorem gRM.hq {b : Nat} {st : Nat → Int32} {P : gP} (h : gRM b st P) : st (b + 27) = i3 (P_q P) := h.2.2.2.2.2.2.2.2
theorem gMO.hn {b : Nat} {P : gP} {τ : gM} (h : gMO b P τ) : M_oneMany τ = i3 (P_n P) := h.1
theorem gMO.hB {b : Nat} {P : gP} {τ : gM} (h : gMO b P τ) {k : Nat} (hk : k < 4) : M_brims τ k = i3 (brim k) := h.2.1 k hk
theorem gMO.R {b : Nat} {P : gP} {τ : gM} (h : gMO b P τ) : gRM b (M_state τ) P := h.2.2.1
theorem gMO.hb {b : Nat} {P : gP} {τ : gM} (h : gMO b P τ) : b + 28 ≤ 168 := h.2.2.2
theorem gWF.n {P : gP} (h : gWF P) : P_n P ≤ 5 := h.1
theorem gWF.m {P : gP} (h : gWF P) : P_m P ≤ 999 := h.2.1
theorem gWF.r {P : gP} (h : gWF P) : 1 ≤ P_r P ∧ P_r P ≤ 5 := h.2.2.1
theorem gWF.t {P : gP} (h : gWF P) : 1 ≤ P_t P ∧ P_t P ≤ 9 := h.2.2.2.1
theorem gWF.q {P : gP} (h : gWF P) : P_q P ≤ 8 := h.2.2.2.2.1
theorem gWF.k {P : gP} (h : gWF P) (p : Nat) : P_k P p < 4 := h.2.2.2.2.2.1 p
theorem gWF.s {P : gP} (h : gWF P) (p : Nat) : P_s P p ≤ 40 := h.2.2.2.2.2.2.1 p
theorem gWF.w {P : gP} (h : gWF P) (p : Nat) : P_w P p ≤ 1000 := h.2.2.2.2.2.2.2.1 p
theorem gWF.g {P : gP} (h : gWF P) {p : Nat} (hp : P_n P ≤ p) : P_g P p = false := h.2.2.2.2.2.2.2.2.1 p hp
theorem gWF.p {P : gP} (h : gWF P) {i : Nat} (hi : i < P_q P) : P_p P i < P_n P ∨ P_p P i = 5 ∨ P_p P i = 6 := (h.2.2.2.2.2.2.2.2.2 i).2 hi
theorem gWF.p6 {P : gP} (h : gWF P) (i : Nat) : P_p P i ≤ 6 := (h.2.2.2.2.2.2.2.2.2 i).1
theorem gsucc {k fuel : Nat} (h : k < fuel) : ∃ f, fuel = f + 1 := ⟨fuel - 1, by omega⟩
