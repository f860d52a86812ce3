set_option maxRecDepth 100000
/-! who is to weep next -/
def wcond (P : gP) (T p : Nat) : Bool := !P_g P p && (!T.testBit p && decide (brim (P_k P p) ≤ P_s P p))
def nw (P : gP) (T : Nat) : Nat → Nat → Option Nat
  | 0, _ => none
  | k + 1, i => if wcond P T i then some i else nw P T k (i + 1)
theorem nw_succ {P : gP} {T k i : Nat} : nw P T (k + 1) i = if wcond P T i then some i else nw P T k (i + 1) := rfl
theorem nw_some {P : gP} {T : Nat} : ∀ {k i q : Nat}, nw P T k i = some q → q < i + k ∧ wcond P T q = true
  | 0, i, q, h => by cases h
  | k + 1, i, q, h => by
    unfold nw at h
    split at h
    · rename_i hc
      cases h
      exact ⟨by omega, hc⟩
    · have := nw_some h
      exact ⟨by omega, this.2⟩
theorem brim_le (k : Nat) : brim k ≤ 20 := by unfold brim; split <;> (try split) <;> (try split) <;> decide
theorem c_brim {xi : gXI} {σ : gS} {P : gP} {p : Nat} (h : gRS σ P) (hw : gWF P) (hp : p < 5) : f_X0_brim ((xi, σ) : gA) (i3 p) = some (i3 (brim (P_k P p)), ((xi, σ) : gA)) := by
  unfold f_X0_brim
  have hk := hw.k p
  have e : f_X5_of (A_s ((xi, σ) : gA)) (i3 p) 0 = some (i3 (P_k P p), σ) := by
    rw [i3_0, ← h.hk hp]
    exact c_of hp (by decide)
  rw [e]
  simp only [g3_b, g3_s]
  rw [g3_ix hk (by decide)]
  generalize P_k P p = k at *
  have : k = 0 ∨ k = 1 ∨ k = 2 ∨ k = 3 := by omega
  rcases this with rfl | rfl | rfl | rfl <;> rfl
theorem c_nw_b {xi : gXI} {σ : gS} {P : gP} {T : Nat} (h : gRS σ P) (hw : gWF P) (hT : T < 32) : ∀ c fuel, c ≤ P_n P → c < fuel → f_X0_nextWeeper_b11 fuel ((xi, σ) : gA) (i3 T) (ovl (nw P T (P_n P - c) c)) (i3 c + -(i3 1)) = some (ovl (nw P T (P_n P) 0), ((xi, σ) : gA)) := by
  have hn := hw.n
  intro c
  induction c with
  | zero =>
    intro fuel hc hf
    obtain ⟨f, rfl⟩ := gsucc hf
    simp only [f_X0_nextWeeper_b11]
    rw [if_pos i3_dlt]
    rfl
  | succ c ih =>
    intro fuel hc hf
    obtain ⟨f, rfl⟩ := gsucc hf
    have ih' := ih f (by omega) (by omega)
    rw [show P_n P - c = (P_n P - (c + 1)) + 1 by omega] at ih'
    have hs := hw.s c
    have hB := brim_le (P_k P c)
    have h56 : ∀ o : Option Nat, f_X0_nextWeeper_b56 (f_X0_nextWeeper_b11 f) ((xi, σ) : gA) (i3 T) (ovl o) (i3 c) = f_X0_nextWeeper_b11 f ((xi, σ) : gA) (i3 T) (ovl o) (i3 c + -(i3 1)) := fun _ => rfl
    have h57 : f_X0_nextWeeper_b57 (f_X0_nextWeeper_b11 f) ((xi, σ) : gA) (i3 T) (i3 c) (i3 c) = f_X0_nextWeeper_b11 f ((xi, σ) : gA) (i3 T) (ovl (some c)) (i3 c + -(i3 1)) := rfl
    simp only [f_X0_nextWeeper_b11]
    rw [i3_decu, if_neg (i3_nlt (by omega))]
    show ((f_X5_waits σ (i3 c)).bind fun (r2, u3) => gs (A_s_s ((xi, σ) : gA) u3) fun s4 => if r2 = 0 then (f_X0_nextWeeper_b56 (f_X0_nextWeeper_b11 f) s4 (i3 T) (ovl (nw P T (P_n P - (c + 1)) (c + 1))) (i3 c)) else ((f_X0_has (i3 T) (i3 c)).bind fun (r5, _) => if r5 = 0 then ((f_X5_of (A_s s4) (i3 c) 1).bind fun (r7, u8) => gs (A_s_s s4 u8) fun s9 => (f_X0_brim s9 (i3 c)).bind fun (r10, u11) => if r7 < r10 then (f_X0_nextWeeper_b56 (f_X0_nextWeeper_b11 f) u11 (i3 T) (ovl (nw P T (P_n P - (c + 1)) (c + 1))) (i3 c)) else (f_X0_nextWeeper_b57 (f_X0_nextWeeper_b11 f) u11 (i3 T) (i3 c) (i3 c))) else (f_X0_nextWeeper_b56 (f_X0_nextWeeper_b11 f) s4 (i3 T) (ovl (nw P T (P_n P - (c + 1)) (c + 1))) (i3 c)))) = _
    rw [c_waits h (by omega)]
    rw [nw_succ] at ih'
    cases hg : P_g P c
    · show ((f_X0_has (i3 T) (i3 c)).bind fun (r5, _) => if r5 = 0 then ((f_X5_of σ (i3 c) 1).bind fun (r7, u8) => gs ((xi, u8) : gA) fun s9 => (f_X0_brim s9 (i3 c)).bind fun (r10, u11) => if r7 < r10 then (f_X0_nextWeeper_b56 (f_X0_nextWeeper_b11 f) u11 (i3 T) (ovl (nw P T (P_n P - (c + 1)) (c + 1))) (i3 c)) else (f_X0_nextWeeper_b57 (f_X0_nextWeeper_b11 f) u11 (i3 T) (i3 c) (i3 c))) else (f_X0_nextWeeper_b56 (f_X0_nextWeeper_b11 f) ((xi, σ) : gA) (i3 T) (ovl (nw P T (P_n P - (c + 1)) (c + 1))) (i3 c))) = _
      rw [c_has hT (by omega)]
      cases hb : T.testBit c
      · show ((f_X5_of σ (i3 c) 1).bind fun (r7, u8) => gs ((xi, u8) : gA) fun s9 => (f_X0_brim s9 (i3 c)).bind fun (r10, u11) => if r7 < r10 then (f_X0_nextWeeper_b56 (f_X0_nextWeeper_b11 f) u11 (i3 T) (ovl (nw P T (P_n P - (c + 1)) (c + 1))) (i3 c)) else (f_X0_nextWeeper_b57 (f_X0_nextWeeper_b11 f) u11 (i3 T) (i3 c) (i3 c))) = _
        rw [i3_1, c_of (by omega) (by decide), h.hs (by omega)]
        show ((f_X0_brim ((xi, σ) : gA) (i3 c)).bind fun (r10, u11) => if i3 (P_s P c) < r10 then (f_X0_nextWeeper_b56 (f_X0_nextWeeper_b11 f) u11 (i3 T) (ovl (nw P T (P_n P - (c + 1)) (c + 1))) (i3 c)) else (f_X0_nextWeeper_b57 (f_X0_nextWeeper_b11 f) u11 (i3 T) (i3 c) (i3 c))) = _
        rw [c_brim h hw (by omega)]
        show (if i3 (P_s P c) < i3 (brim (P_k P c)) then (f_X0_nextWeeper_b56 (f_X0_nextWeeper_b11 f) ((xi, σ) : gA) (i3 T) (ovl (nw P T (P_n P - (c + 1)) (c + 1))) (i3 c)) else (f_X0_nextWeeper_b57 (f_X0_nextWeeper_b11 f) ((xi, σ) : gA) (i3 T) (i3 c) (i3 c))) = _
        rw [if3_lt (by omega) (by omega), h56, h57]
        by_cases e : brim (P_k P c) ≤ P_s P c
        · rw [if_neg (by omega)]
          have hwc : wcond P T c = true := by unfold wcond; simp [hg, hb, e]
          rw [if_pos hwc] at ih'
          exact ih'
        · rw [if_pos (by omega)]
          have hwc : ¬ wcond P T c = true := by unfold wcond; simp [hg, hb, e]
          rw [if_neg hwc] at ih'
          exact ih'
      · show f_X0_nextWeeper_b56 (f_X0_nextWeeper_b11 f) ((xi, σ) : gA) (i3 T) (ovl (nw P T (P_n P - (c + 1)) (c + 1))) (i3 c) = _
        rw [h56]
        have hwc : ¬ wcond P T c = true := by unfold wcond; simp [hg, hb]
        rw [if_neg hwc] at ih'
        exact ih'
    · have hwc : ¬ wcond P T c = true := by unfold wcond; simp [hg]
      rw [if_neg hwc] at ih'
      show f_X0_nextWeeper_b56 (f_X0_nextWeeper_b11 f) ((xi, σ) : gA) (i3 T) (ovl (nw P T (P_n P - (c + 1)) (c + 1))) (i3 c) = _
      rw [h56]
      exact ih'
theorem c_nw {xi : gXI} {σ : gS} {P : gP} {T : Nat} (h : gRS σ P) (hw : gWF P) (hT : T < 32) : f_X0_nextWeeper ((xi, σ) : gA) (i3 T) = some (ovl (nw P T (P_n P) 0), ((xi, σ) : gA)) := by
  have hn := hw.n
  have := c_nw_b (xi := xi) h hw hT (P_n P) 20 (by omega) (by omega)
  rw [Nat.sub_self] at this
  unfold f_X0_nextWeeper
  show f_X0_nextWeeper_b11 20 ((xi, σ) : gA) (i3 T) (-4) (S_people σ - 1) = _
  rw [h.hn, i3_1, i3_subdec]
  exact this
theorem m_nw_b {b : Nat} {P : gP} {τ : gM} {T : Nat} (h : gMO b P τ) (hw : gWF P) (hT : T < 32) : ∀ k fuel i, i + k = P_n P → k < fuel → f_X7_nextToWeep_b2 fuel τ (i3 b) (i3 T) (i3 i) = some (ovl (nw P T k i), τ) := by
  have hn := hw.n
  have hb := h.hb
  intro k
  induction k with
  | zero =>
    intro fuel i hi hf
    obtain ⟨f, rfl⟩ := gsucc hf
    simp only [f_X7_nextToWeep_b2]
    rw [h.hn, if_pos (by rw [i3_le (by omega) (by omega)]; omega)]
    rfl
  | succ k ih =>
    intro fuel i hi hf
    obtain ⟨f, rfl⟩ := gsucc hf
    have ih' := ih f (i + 1) (by omega) (by omega)
    have hs := hw.s i
    have hk := hw.k i
    have hB := brim_le (P_k P i)
    have h55 : f_X7_nextToWeep_b55 (f_X7_nextToWeep_b2 f) τ (i3 b) (i3 T) (i3 i) = f_X7_nextToWeep_b2 f τ (i3 b) (i3 T) (i3 (i + 1)) := by
      unfold f_X7_nextToWeep_b55
      rw [i3_1, i3_add]; rfl
    simp only [f_X7_nextToWeep_b2]
    rw [h.hn, if_neg (by rw [i3_le (by omega) (by omega)]; omega), m_waits h (by omega), i3_31, i3_1, i3_bit5 hT (by omega)]
    unfold nw wcond
    cases hg : P_g P i
    · cases hb2 : T.testBit i
      · show (gld 168 (M_state τ) ((i3 b + 5) + i3 i) fun v3 => gld 168 (M_state τ) (i3 b + i3 i) fun v4 => gld 4 (M_brims τ) v4 fun v5 => if v3 < v5 then (f_X7_nextToWeep_b55 (f_X7_nextToWeep_b2 f) τ (i3 b) (i3 T) (i3 i)) else (some (i3 i, τ))) = _
        rw [i3_5, i3_add, i3_add, i3_add, g3_ld (by omega) (by decide), g3_ld (by omega) (by decide), h.R.hs (by omega), h.R.hk (by omega), g3_ld hk (by decide), h.hB hk, if3_lt (by omega) (by omega), h55, ih']
        by_cases e : brim (P_k P i) ≤ P_s P i
        · rw [if_neg (by omega)]
          simp [e, ovl]
        · rw [if_pos (by omega)]
          simp [e]
      · show f_X7_nextToWeep_b55 (f_X7_nextToWeep_b2 f) τ (i3 b) (i3 T) (i3 i) = _
        rw [h55, ih']
        rfl
    · show f_X7_nextToWeep_b55 (f_X7_nextToWeep_b2 f) τ (i3 b) (i3 T) (i3 i) = _
      rw [h55, ih']
      rfl
theorem m_nw {b : Nat} {P : gP} {τ : gM} {T : Nat} (h : gMO b P τ) (hw : gWF P) (hT : T < 32) : f_X7_nextToWeep τ (i3 b) (i3 T) = some (ovl (nw P T (P_n P) 0), τ) := by
  have hn := hw.n
  exact m_nw_b h hw hT (P_n P) 2000 0 (by omega) (by omega)
/-! one weeps -/
def sp_weep0 (P : gP) (q : Nat) : gP := P_s_s (P_w_s P (gu (P_w P) q (P_m P + 1))) (gu (P_s P) q 0)
def sp_weep (P : gP) (q : Nat) : gP := sp_told (sp_told (sp_weep0 P q) (dnw (P_g P) q)) (upw (P_g P) (P_n P - (q + 1)) (q + 1))
theorem sp_weep0_wf {P : gP} {q : Nat} (h : gWF P) : gWF (sp_weep0 P q) := by
  obtain ⟨h1, h2, h3, h4, h5, h6, h7, h8, h9, h10⟩ := h
  refine ⟨h1, h2, h3, h4, h5, h6, fun p => ?_, fun p => ?_, h9, h10⟩
  · show gu (P_s P) q 0 p ≤ 40
    unfold gu
    split
    · omega
    · exact h7 p
  · show gu (P_w P) q (P_m P + 1) p ≤ 1000
    unfold gu
    split
    · omega
    · exact h8 p
theorem sp_weep_wf {P : gP} {q : Nat} (h : gWF P) : gWF (sp_weep P q) := sp_told_wf (sp_told_wf (sp_weep0_wf h))
theorem sp_weep_n (P : gP) (q : Nat) : P_n (sp_weep P q) = P_n P := by unfold sp_weep; rw [sp_told_n, sp_told_n]; rfl
def tl : Nat → gP → Nat → Nat × gP
  | 0, P, T => (T, P)
  | c + 1, P, T => match nw P T (P_n P) 0 with
    | none => (T, P)
    | some q => tl c (sp_weep P q) (T ||| 2 ^ q)
def cnt5 (T : Nat) : Nat := (if T.testBit 0 then 0 else 1) + (if T.testBit 1 then 0 else 1) + (if T.testBit 2 then 0 else 1) + (if T.testBit 3 then 0 else 1) + (if T.testBit 4 then 0 else 1)
theorem cnt5_or {T q : Nat} (hT : T < 32) (hq : q < 5) (hb : T.testBit q = false) : cnt5 (T ||| 2 ^ q) + 1 = cnt5 T :=
  (by decide +kernel : ∀ T, T < 32 → ∀ q, q < 5 → T.testBit q = false → cnt5 (T ||| 2 ^ q) + 1 = cnt5 T) T hT q hq hb
theorem wcond_bit {P : gP} {T q : Nat} (h : wcond P T q = true) : T.testBit q = false := by
  unfold wcond at h
  cases hb : T.testBit q
  · rfl
  · rw [hb] at h; simp at h
theorem A_sAs (x : gA) (v : gS) : A_s (A_s_s x v) = v := rfl
theorem A_xAs (x : gA) (v w : gS) : A_s_s (A_s_s x v) w = A_s_s x w := rfl
theorem c_weep {σ : gS} {P : gP} {q : Nat} (h : gRS σ P) (hw : gWF P) (hq : q < P_n P) : ∃ σ', (∀ xi : gXI, ∀ K : gA → Option (Int32 × gA), (gst 5 (S_wept σ) (i3 q) (vp_nar .short (((S_minute σ)).toInt16.toInt32)) fun g7 => gs (A_s_s ((xi, σ) : gA) (S_wept_s σ g7)) fun s8 => (f_X5_becomes (A_s s8) (i3 q) 1 0).bind fun u10 => gs (A_s_s s8 u10) fun s11 => (f_X5_tells (A_s s11) (i3 q) (-1)).bind fun u13 => gs (A_s_s s11 u13) fun s14 => (f_X5_tells (A_s s14) (i3 q) 1).bind fun u16 => gs (A_s_s s14 u16) fun s17 => K s17) = K ((xi, σ') : gA)) ∧ gRS σ' (sp_weep P q) := by
  have hn := hw.n
  have hm := hw.m
  have r0 : gRS (S_one_s (S_wept_s σ (upd (S_wept σ) q (i3 (P_m P)))) (upd (S_one σ) (3 * q + 1) (i3 0))) (sp_weep0 P q) := gRS.s (gRS.w (v := P_m P + 1) h (by omega)) (by omega)
  obtain ⟨σ1, e1, r1⟩ := c_tellsD r0 (sp_weep0_wf hw) (p := q) hq
  obtain ⟨σ2, e2, r2⟩ := c_tellsU r1 (sp_told_wf (sp_weep0_wf hw)) (p := q) (by rw [sp_told_n]; exact hq)
  rw [sp_told_g, sp_told_n] at r2
  refine ⟨σ2, fun xi K => ?_, r2⟩
  have e0 : f_X5_becomes (S_wept_s σ (upd (S_wept σ) q (i3 (P_m P)))) (i3 q) 1 0 = some (S_one_s (S_wept_s σ (upd (S_wept σ) q (i3 (P_m P)))) (upd (S_one σ) (3 * q + 1) (i3 0))) := by
    rw [i3_1, i3_0, c_becomes (by omega) (by decide) (by decide)]
    rfl
  rw [h.hm, i3_short (by omega), g3_st (by omega) (by decide), g3_s, A_sAs, e0, g3_b, g3_s, A_sAs, e1, g3_b, g3_s, A_sAs, e2, g3_b, g3_s]
  rfl
theorem c_tl : ∀ c fuel xi σ P T, gRS σ P → gWF P → T < 32 → cnt5 T ≤ c → c < fuel → ∃ σ', f_X0_thinking_b19 fuel ((xi, σ) : gA) (i3 T) (ovl (nw P T (P_n P) 0)) = some (i3 (tl c P T).1, ((xi, σ') : gA)) ∧ gRS σ' (tl c P T).2 ∧ gWF (tl c P T).2 ∧ (tl c P T).1 < 32 := by
  intro c
  induction c with
  | zero =>
    intro fuel xi σ P T h hw hT hc hf
    have hn := hw.n
    obtain ⟨f, rfl⟩ := gsucc hf
    refine ⟨σ, ?_, h, hw, hT⟩
    simp only [f_X0_thinking_b19]
    cases hq : nw P T (P_n P) 0 with
    | none => rw [if_pos ovn]; rfl
    | some q =>
      exfalso
      obtain ⟨h1, h2⟩ := nw_some hq
      have := cnt5_or hT (show q < 5 by omega) (wcond_bit h2)
      omega
  | succ c ih =>
    intro fuel xi σ P T h hw hT hc hf
    have hn := hw.n
    obtain ⟨f, rfl⟩ := gsucc hf
    cases hq : nw P T (P_n P) 0 with
    | none =>
      have e : tl (c + 1) P T = (T, P) := by unfold tl; rw [hq]
      rw [e]
      refine ⟨σ, ?_, h, hw, hT⟩
      simp only [f_X0_thinking_b19]
      rw [if_pos ovn]
    | some q =>
      obtain ⟨h1, h2⟩ := nw_some hq
      have hc5 := cnt5_or hT (show q < 5 by omega) (wcond_bit h2)
      have e : tl (c + 1) P T = tl c (sp_weep P q) (T ||| 2 ^ q) := by
        show (match nw P T (P_n P) 0 with | none => (T, P) | some q => tl c (sp_weep P q) (T ||| 2 ^ q)) = _
        rw [hq]
      rw [e]
      obtain ⟨σ1, e1, r1⟩ := c_weep h hw (q := q) (by omega)
      have hT1 := or5_lt hT (pow5_lt (show q < 5 by omega))
      obtain ⟨σ2, e2, r2, w2, t2⟩ := ih f xi σ1 (sp_weep P q) (T ||| 2 ^ q) r1 (sp_weep_wf hw) hT1 (by omega) (by omega)
      refine ⟨σ2, ?_, r2, w2, t2⟩
      simp only [f_X0_thinking_b19]
      rw [if_neg (by
        show ¬ i3 q = -(i3 4)
        rw [i3_ng (by omega) (by decide) (by decide)]; exact id)]
      show (gst 5 (S_wept σ) (i3 q) (vp_nar .short (((S_minute σ)).toInt16.toInt32)) fun g7 => gs (A_s_s ((xi, σ) : gA) (S_wept_s σ g7)) fun s8 => (f_X5_becomes (A_s s8) (i3 q) 1 0).bind fun u10 => gs (A_s_s s8 u10) fun s11 => (f_X5_tells (A_s s11) (i3 q) (-1)).bind fun u13 => gs (A_s_s s11 u13) fun s14 => (f_X5_tells (A_s s14) (i3 q) 1).bind fun u16 => gs (A_s_s s14 u16) fun s17 => (f_X0_nextWeeper s17 (i3 T ||| ((1 : Int32) <<< (i3 q &&& 31)))).bind fun (r18, u19) => (f_X0_thinking_b19 f) u19 (i3 T ||| ((1 : Int32) <<< (i3 q &&& 31))) r18) = _
      rw [e1 xi (fun s17 => (f_X0_nextWeeper s17 (i3 T ||| ((1 : Int32) <<< (i3 q &&& 31)))).bind fun (r18, u19) => (f_X0_thinking_b19 f) u19 (i3 T ||| ((1 : Int32) <<< (i3 q &&& 31))) r18)]
      show ((f_X0_nextWeeper ((xi, σ1) : gA) (i3 T ||| ((1 : Int32) <<< (i3 q &&& 31)))).bind fun (r18, u19) => (f_X0_thinking_b19 f) u19 (i3 T ||| ((1 : Int32) <<< (i3 q &&& 31))) r18) = _
      rw [i3_shl (by omega), i3_or5 hT (pow5_lt (by omega)), c_nw r1 (sp_weep_wf hw) hT1]
      exact e2
def sp_think (P : gP) (p : Nat) : Nat × gP := tl 5 (sp_sad P p (P_t P)) 0
theorem c_think {xi : gXI} {σ : gS} {P : gP} {p : Nat} (h : gRS σ P) (hw : gWF P) (hp : p < 5) : ∃ σ', f_X0_thinking ((xi, σ) : gA) (i3 p) = some (i3 (sp_think P p).1, ((xi, σ') : gA)) ∧ gRS σ' (sp_think P p).2 ∧ gWF (sp_think P p).2 ∧ (sp_think P p).1 < 32 := by
  have ht := hw.t
  obtain ⟨σ1, e1, r1⟩ := c_sad h hw hp (d := P_t P) ht.2
  obtain ⟨σ2, e2, r2, w2, t2⟩ := c_tl 5 20 xi σ1 _ 0 r1 (sp_sad_wf hw) (by decide) (by decide) (by decide)
  refine ⟨σ2, ?_, r2, w2, t2⟩
  unfold f_X0_thinking
  show ((f_X5_saddens σ (i3 p) (S_think σ)).bind fun u2 => gs ((xi, u2) : gA) fun s3 => (f_X0_nextWeeper s3 0).bind fun (r4, u5) => f_X0_thinking_b19 20 u5 0 r4) = _
  rw [h.ht, e1]
  show ((f_X0_nextWeeper ((xi, σ1) : gA) 0).bind fun (r4, u5) => f_X0_thinking_b19 20 u5 0 r4) = _
  rw [i3_0, c_nw r1 (sp_sad_wf hw) (by decide)]
  exact e2
theorem m_tl {b : Nat} : ∀ c fuel τ P T, gMO b P τ → gWF P → T < 32 → cnt5 T ≤ c → c < fuel → ∃ st, f_X7_thinksOn_b27 fuel τ (i3 b) (i3 T) (ovl (nw P T (P_n P) 0)) = some (i3 (tl c P T).1, M_state_s τ st) ∧ gRM b st (tl c P T).2 ∧ P_n (tl c P T).2 = P_n P ∧ gFr b (M_state τ) st := by
  intro c
  induction c with
  | zero =>
    intro fuel τ P T h hw hT hc hf
    have hn := hw.n
    obtain ⟨f, rfl⟩ := gsucc hf
    refine ⟨M_state τ, ?_, h.R, rfl, gFr.rf⟩
    simp only [f_X7_thinksOn_b27]
    cases hq : nw P T (P_n P) 0 with
    | none => rw [if_pos ovn]; rfl
    | some q =>
      exfalso
      obtain ⟨h1, h2⟩ := nw_some hq
      have := cnt5_or hT (show q < 5 by omega) (wcond_bit h2)
      omega
  | succ c ih =>
    intro fuel τ P T h hw hT hc hf
    have hn := hw.n
    have hb := h.hb
    obtain ⟨f, rfl⟩ := gsucc hf
    cases hq : nw P T (P_n P) 0 with
    | none =>
      have e : tl (c + 1) P T = (T, P) := by unfold tl; rw [hq]
      rw [e]
      refine ⟨M_state τ, ?_, h.R, rfl, gFr.rf⟩
      simp only [f_X7_thinksOn_b27]
      rw [if_pos ovn]
      rfl
    | some q =>
      obtain ⟨h1, h2⟩ := nw_some hq
      have hc5 := cnt5_or hT (show q < 5 by omega) (wcond_bit h2)
      have e : tl (c + 1) P T = tl c (sp_weep P q) (T ||| 2 ^ q) := by
        show (match nw P T (P_n P) 0 with | none => (T, P) | some q => tl c (sp_weep P q) (T ||| 2 ^ q)) = _
        rw [hq]
      rw [e]
      have r0 : gRM b (upd (upd (M_state τ) (b + 10 + q) (i3 (P_m P + 1))) (b + 5 + q) (i3 0)) (sp_weep0 P q) := gRM.s (gRM.w (v := P_m P + 1) h.R (by omega)) (by omega)
      have h0 : gMO b (sp_weep0 P q) (M_state_s τ (upd (upd (M_state τ) (b + 10 + q) (i3 (P_m P + 1))) (b + 5 + q) (i3 0))) := h.on r0 rfl
      obtain ⟨st1, e1, r1, f1⟩ := m_sets h0 (sp_weep0_wf hw) (p := q) (show q < P_n P by omega)
      have h1' : gMO b (sp_weep P q) (M_state_s τ st1) := h.on r1 (sp_weep_n P q)
      have hT1 := or5_lt hT (pow5_lt (show q < 5 by omega))
      obtain ⟨st2, e2, r2, n2, f2⟩ := ih f (M_state_s τ st1) (sp_weep P q) (T ||| 2 ^ q) h1' (sp_weep_wf hw) hT1 (by omega) (by omega)
      refine ⟨st2, ?_, r2, n2.trans (sp_weep_n P q), ?_⟩
      · simp only [f_X7_thinksOn_b27]
        rw [if_neg (by
          show ¬ i3 q = -(i3 4)
          rw [i3_ng (by omega) (by decide) (by decide)]; exact id)]
        show (gld 168 (M_state τ) (i3 b + 16) fun v7 => gst 168 (M_state τ) ((i3 b + 10) + i3 q) (v7 + 1) fun g8 => gs (M_state_s τ g8) fun s9 => gst 168 (M_state s9) ((i3 b + 5) + i3 q) 0 fun g10 => gs (M_state_s s9 g10) fun s11 => (f_X7_setsOff s11 (i3 b) (i3 q)).bind fun u13 => (f_X7_nextToWeep u13 (i3 b) (i3 T ||| ((1 : Int32) <<< (i3 q &&& 31)))).bind fun (r14, u15) => (f_X7_thinksOn_b27 f) u15 (i3 b) (i3 T ||| ((1 : Int32) <<< (i3 q &&& 31))) r14) = _
        rw [i3_16, i3_10, i3_5, i3_add, i3_add, i3_add, i3_add, i3_add, g3_ld (by omega) (by decide), h.R.hm, i3_shl (by omega), i3_or5 hT (pow5_lt (by omega)), i3_1, i3_add, g3_st (by omega) (by decide)]
        show (gst 168 (upd (M_state τ) (b + 10 + q) (i3 (P_m P + 1))) (i3 (b + 5 + q)) 0 fun g10 => gs (M_state_s τ g10) fun s11 => (f_X7_setsOff s11 (i3 b) (i3 q)).bind fun u13 => (f_X7_nextToWeep u13 (i3 b) (i3 (T ||| 2 ^ q))).bind fun (r14, u15) => (f_X7_thinksOn_b27 f) u15 (i3 b) (i3 (T ||| 2 ^ q)) r14) = _
        rw [i3_0, g3_st (by omega) (by decide)]
        show ((f_X7_setsOff (M_state_s τ (upd (upd (M_state τ) (b + 10 + q) (i3 (P_m P + 1))) (b + 5 + q) (i3 0))) (i3 b) (i3 q)).bind fun u13 => (f_X7_nextToWeep u13 (i3 b) (i3 (T ||| 2 ^ q))).bind fun (r14, u15) => (f_X7_thinksOn_b27 f) u15 (i3 b) (i3 (T ||| 2 ^ q)) r14) = _
        rw [e1]
        show ((f_X7_nextToWeep (M_state_s τ st1) (i3 b) (i3 (T ||| 2 ^ q))).bind fun (r14, u15) => (f_X7_thinksOn_b27 f) u15 (i3 b) (i3 (T ||| 2 ^ q)) r14) = _
        rw [m_nw h1' (sp_weep_wf hw) hT1]
        exact e2
      · refine gFr.tr ?_ (f1.tr f2)
        exact gFr.tr (gFr.up (by omega) (by omega)) (gFr.up (by omega) (by omega))
theorem m_think {b : Nat} {P : gP} {τ : gM} {p : Nat} (h : gMO b P τ) (hw : gWF P) (hp : p < 5) : ∃ st, f_X7_thinksOn τ (i3 b) (i3 p) = some (i3 (sp_think P p).1, M_state_s τ st) ∧ gRM b st (sp_think P p).2 ∧ P_n (sp_think P p).2 = P_n P ∧ gFr b (M_state τ) st := by
  have ht := hw.t
  have hb := h.hb
  obtain ⟨st1, e1, r1, f1⟩ := m_sad h hw hp (d := P_t P) ht.2
  have h1 : gMO b (sp_sad P p (P_t P)) (M_state_s τ st1) := h.on r1 rfl
  obtain ⟨st2, e2, r2, n2, f2⟩ := m_tl 5 2000 (M_state_s τ st1) _ 0 h1 (sp_sad_wf hw) (by decide) (by decide) (by decide)
  refine ⟨st2, ?_, r2, n2, f1.tr f2⟩
  unfold f_X7_thinksOn
  rw [i3_18, i3_add, g3_ld (by omega) (by decide), h.R.ht, show i3 (P_t P) - i3 4 + 4 = i3 (P_t P) by rw [i3_4]; exact Int32.sub_add_cancel _ _, e1]
  show ((f_X7_nextToWeep (M_state_s τ st1) (i3 b) 0).bind fun (r4, u5) => f_X7_thinksOn_b27 2000 u5 (i3 b) 0 r4) = _
  rw [i3_0, m_nw h1 (sp_sad_wf hw) (by decide)]
  exact e2
