set_option maxRecDepth 100000
set_option maxHeartbeats 400000
/-! a plan goes: the page, who wept, how often, the first passed over -/
abbrev gQ : Type := gP × Nat × Nat × Option Nat
def oor (o : Option Nat) (i : Nat) : Option Nat := match o with
  | none => some i
  | some j => some j
def q_act (a i : Nat) (Z : gQ) : gQ := (sp_act Z.1 a, Z.2.1 ||| sp_wt Z.1 a, Z.2.2.1 + pc5 (sp_wt Z.1 a), if sp_can Z.1 a then Z.2.2.2 else oor Z.2.2.2 i)
def q_step (pl : Nat → Nat) (over i : Nat) (Z : gQ) : gQ := if over.testBit i then Z else q_act (pl i) i Z
def sp_goes (P : gP) (over : Nat) : gQ := fo (q_step (P_p P) over) (P_q P) 0 (P, 0, 0, none)
/-- the fields of x that an act changes -/
def qxi (xi : gXI) (Z : gQ) : gXI := I_firstOver_s (I_often_s (I_weepers_s xi (i3 Z.2.1)) (i3 Z.2.2.1)) (ovl Z.2.2.2)
/-- the model with other weptBits, weptTimes, firstNot -/
def qm (τ : gM) (a b c : Int32) : gM := (M_oneMany τ, M_readOnes τ, M_toldOnce τ, M_high τ, M_taped τ, M_fault τ, M_broken τ, M_brokenAt τ, M_spot τ, M_here τ, M_token τ, M_value τ, a, b, c, M_seenMany τ, M_torn τ, M_state τ, M_brims τ, M_readPage τ, M_tape τ, M_cuts τ, M_letters τ, M_seen τ, M_goneBy τ, M_isKept τ, M_lanes τ, M_lengths τ, M_cells τ)
theorem qm_0 (τ : gM) (a : Int32) : M_weptBits_s τ a = qm τ a (M_weptTimes τ) (M_firstNot τ) := rfl
theorem qm_w (τ : gM) (a b c a' : Int32) : M_weptBits_s (qm τ a b c) a' = qm τ a' b c := rfl
theorem qm_t (τ : gM) (a b c b' : Int32) : M_weptTimes_s (qm τ a b c) b' = qm τ a b' c := rfl
theorem qm_f (τ : gM) (a b c c' : Int32) : M_firstNot_s (qm τ a b c) c' = qm τ a b c' := rfl
theorem qm_s (τ : gM) (a b c : Int32) (st : Nat → Int32) : M_state_s (qm τ a b c) st = qm (M_state_s τ st) a b c := rfl
theorem qm_q (τ : gM) (a b c a' b' c' : Int32) : qm (qm τ a b c) a' b' c' = qm τ a' b' c' := rfl
def qtm (τ : gM) (Z : gQ) : gM := qm τ (i3 Z.2.1) (i3 Z.2.2.1) (ovl Z.2.2.2)
theorem qtm_st (τ : gM) (Z : gQ) (st : Nat → Int32) : M_state_s (qtm τ Z) st = qtm (M_state_s τ st) Z := qm_s _ _ _ _ _
theorem qtm_ab (τ : gM) (Z Z' : gQ) (h : Z'.2.2.2 = Z.2.2.2) : M_weptTimes_s (M_weptBits_s (qtm τ Z) (i3 Z'.2.1)) (i3 Z'.2.2.1) = qtm τ Z' := by
  unfold qtm
  rw [qm_w, qm_t, h]
theorem qtm_fn (τ : gM) (Z : gQ) (o : Option Nat) : M_firstNot_s (qtm τ Z) (ovl o) = qtm τ (Z.1, Z.2.1, Z.2.2.1, o) := qm_f _ _ _ _ _
theorem qtm_zz (τ : gM) (Z Z' : gQ) : qtm (qtm τ Z) Z' = qtm τ Z' := qm_q _ _ _ _ _ _ _
theorem qxi_xi (xi : gXI) (Z Z' : gQ) : qxi (qxi xi Z) Z' = qxi xi Z' := rfl
theorem sp_told_p (P : gP) (o : Option Nat) : P_p (sp_told P o) = P_p P := by cases o <;> rfl
theorem sp_told_q (P : gP) (o : Option Nat) : P_q (sp_told P o) = P_q P := by cases o <;> rfl
theorem sp_weep_p (P : gP) (q : Nat) : P_p (sp_weep P q) = P_p P := by unfold sp_weep; rw [sp_told_p, sp_told_p]; rfl
theorem sp_weep_q (P : gP) (q : Nat) : P_q (sp_weep P q) = P_q P := by unfold sp_weep; rw [sp_told_q, sp_told_q]; rfl
theorem tl_same : ∀ c P T, P_p (tl c P T).2 = P_p P ∧ P_q (tl c P T).2 = P_q P ∧ P_n (tl c P T).2 = P_n P
  | 0, P, T => ⟨rfl, rfl, rfl⟩
  | c + 1, P, T => by
    unfold tl
    split
    · exact ⟨rfl, rfl, rfl⟩
    · rename_i q hq
      obtain ⟨h1, h2, h3⟩ := tl_same c (sp_weep P q) (T ||| 2 ^ q)
      exact ⟨h1.trans (sp_weep_p P q), h2.trans (sp_weep_q P q), h3.trans (sp_weep_n P q)⟩
theorem fo_ms_same : ∀ k i Q, P_p (fo sp_ms k i Q) = P_p Q ∧ P_q (fo sp_ms k i Q) = P_q Q ∧ P_n (fo sp_ms k i Q) = P_n Q
  | 0, _, _ => ⟨rfl, rfl, rfl⟩
  | k + 1, i, Q => fo_ms_same k (i + 1) (sp_ms i Q)
theorem sp_act_same (P : gP) (a : Nat) : P_p (sp_act P a) = P_p P ∧ P_q (sp_act P a) = P_q P ∧ P_n (sp_act P a) = P_n P := by
  unfold sp_act
  split
  · exact fo_ms_same (P_n P) 0 P
  · split
    · exact ⟨rfl, rfl, rfl⟩
    · split
      · exact ⟨rfl, rfl, rfl⟩
      · exact tl_same 5 (sp_sad P a (P_t P)) 0
theorem q_axi {xi : gXI} {Z : gQ} {a i : Nat} (hZ : Z.2.1 < 32) (hT : sp_wt Z.1 a < 32) (hi : sp_can Z.1 a = true) : axi (qxi xi Z) Z.1 a = qxi xi (q_act a i Z) := by
  unfold axi q_act
  rw [hi]
  split
  · show I_often_s (I_weepers_s (qxi xi Z) (i3 Z.2.1 ||| i3 (sp_wt Z.1 a))) (i3 Z.2.2.1 + i3 (pc5 (sp_wt Z.1 a))) = _
    rw [i3_or5 hZ hT, i3_add]
    rfl
  · rename_i h
    have : sp_wt Z.1 a = 0 := by unfold sp_wt; rw [if_neg h]
    rw [this, Nat.or_zero, show pc5 0 = 0 from rfl, Nat.add_zero]
    rfl
theorem q_atm {τ : gM} {Z : gQ} {a i : Nat} (hZ : Z.2.1 < 32) (hT : sp_wt Z.1 a < 32) (hi : sp_can Z.1 a = true) : atm (qtm τ Z) Z.1 a = qtm τ (q_act a i Z) := by
  have h4 : (q_act a i Z).2.2.2 = Z.2.2.2 := by unfold q_act; rw [hi]; rfl
  rw [← qtm_ab τ Z (q_act a i Z) h4]
  unfold atm
  have e1 : M_weptBits (qtm τ Z) = i3 Z.2.1 := rfl
  have e2 : M_weptTimes (qtm τ Z) = i3 Z.2.2.1 := rfl
  split
  · rw [e1, e2, i3_or5 hZ hT, i3_add]
    rfl
  · rename_i h
    have : sp_wt Z.1 a = 0 := by unfold sp_wt; rw [if_neg h]
    have q1 : (q_act a i Z).2.1 = Z.2.1 := by show Z.2.1 ||| sp_wt Z.1 a = Z.2.1; rw [this, Nat.or_zero]
    have q2 : (q_act a i Z).2.2.1 = Z.2.2.1 := by show Z.2.2.1 + pc5 (sp_wt Z.1 a) = Z.2.2.1; rw [this]; rfl
    rw [q1, q2]
    exact (qtm_ab τ Z Z rfl).symm
theorem isTh_can {P : gP} {a : Nat} (h : sp_can P a = false) : isTh P a = false := by
  unfold sp_can at h
  unfold isTh
  cases hg : P_g P a
  · rw [hg] at h; simp at h
  · simp
theorem can_no {P : gP} {a : Nat} (h : sp_can P a = false) : sp_act P a = P ∧ sp_wt P a = 0 := by
  have h1 := isTh_can h
  refine ⟨?_, by unfold sp_wt; rw [h1]; rfl⟩
  unfold sp_can at h
  unfold sp_act
  rw [if_neg (by intro e; subst e; simp at h), if_neg (by intro e; subst e; simp at h)]
  cases hg : P_g P a
  · rw [hg] at h; simp at h
  · rfl
theorem q_no {a i : Nat} {Z : gQ} (h : sp_can Z.1 a = false) : q_act a i Z = (Z.1, Z.2.1, Z.2.2.1, oor Z.2.2.2 i) := by
  obtain ⟨h1, h2⟩ := can_no h
  unfold q_act
  rw [h1, h2, h, Nat.or_zero]
  rfl
theorem c_goes_b {xi : gXI} {over : Nat} (ho : over < 256) : ∀ k fuel i σ Z, gRS σ Z.1 → gWF Z.1 → Z.2.1 < 32 → (∀ j, Z.2.2.2 = some j → j < 8) → i + k = P_q Z.1 → k < fuel →
    ∃ σ', f_X0_goes_b6 fuel ((qxi xi Z, σ) : gA) (i3 over) (i3 i) = some ((qxi xi (fo (q_step (P_p Z.1) over) k i Z), σ') : gA) ∧ gRS σ' (fo (q_step (P_p Z.1) over) k i Z).1 ∧ gWF (fo (q_step (P_p Z.1) over) k i Z).1 ∧ (fo (q_step (P_p Z.1) over) k i Z).2.1 < 32 := by
  intro k
  induction k with
  | zero =>
    intro fuel i σ Z h hw hZ hj hi hf
    have hq := hw.q
    obtain ⟨f, rfl⟩ := gsucc hf
    refine ⟨σ, ?_, h, hw, hZ⟩
    simp only [f_X0_goes_b6]
    rw [if_pos (by
      show S_planned σ ≤ i3 i
      rw [h.hq, i3_le (by omega) (by omega)]; omega)]
    rfl
  | succ k ih =>
    intro fuel i σ Z h hw hZ hj hi hf
    have hq := hw.q
    obtain ⟨f, rfl⟩ := gsucc hf
    have h62 : ∀ (xi' : gXI) (σ' : gS), f_X0_goes_b62 (f_X0_goes_b6 f) ((xi', σ') : gA) (i3 over) (i3 i) = f_X0_goes_b6 f ((xi', σ') : gA) (i3 over) (i3 (i + 1)) := fun xi' σ' => by
      unfold f_X0_goes_b62 f_X0_goes_b66
      rw [i3_1, i3_add]
      rfl
    have hstep : ∃ σ1, f_X0_goes_b6 (f + 1) ((qxi xi Z, σ) : gA) (i3 over) (i3 i) = f_X0_goes_b6 f ((qxi xi (q_step (P_p Z.1) over i Z), σ1) : gA) (i3 over) (i3 (i + 1)) ∧ gRS σ1 (q_step (P_p Z.1) over i Z).1 ∧ gWF (q_step (P_p Z.1) over i Z).1 ∧ (q_step (P_p Z.1) over i Z).2.1 < 32 := by
      simp only [f_X0_goes_b6]
      rw [if_neg (by
        show ¬ S_planned σ ≤ i3 i
        rw [h.hq, i3_le (by omega) (by omega)]; omega), c_has8 ho (by omega)]
      unfold q_step
      cases hb : over.testBit i
      · show ∃ σ1, (gld 8 (S_plan σ) (i3 i) fun v6 => (f_X0_acts ((qxi xi Z, σ) : gA) v6).bind fun (r7, u8) => if r7 = 0 then (f_X0_goes_b41 (f_X0_goes_b6 f) u8 (i3 over) (i3 i) 0) else (f_X0_goes_b36 (f_X0_goes_b6 f) u8 (i3 over) (i3 i))) = f_X0_goes_b6 f ((qxi xi (q_act (P_p Z.1 i) i Z), σ1) : gA) (i3 over) (i3 (i + 1)) ∧ gRS σ1 (q_act (P_p Z.1 i) i Z).1 ∧ gWF (q_act (P_p Z.1 i) i Z).1 ∧ (q_act (P_p Z.1 i) i Z).2.1 < 32
        have ha := hw.p (i := i) (by omega)
        have hT := sp_wt_lt h hw (a := P_p Z.1 i) ha
        obtain ⟨σ1, e1, r1, w1⟩ := c_acts (xi := qxi xi Z) h hw (a := P_p Z.1 i) ha
        refine ⟨σ1, ?_, r1, w1, or5_lt hZ hT⟩
        rw [g3_ld (by omega) (by decide), h.hp (by omega), e1]
        cases hc : sp_can Z.1 (P_p Z.1 i)
        · rw [q_no hc]
          have : axi (qxi xi Z) Z.1 (P_p Z.1 i) = qxi xi Z := by unfold axi; rw [isTh_can hc]; rfl
          rw [this]
          show f_X0_goes_b41 (f_X0_goes_b6 f) ((qxi xi Z, σ1) : gA) (i3 over) (i3 i) 0 = _
          unfold f_X0_goes_b41
          rw [if_pos rfl]
          show (if ovl Z.2.2.2 = (-4) then (f_X0_goes_b66 (f_X0_goes_b6 f) ((qxi xi Z, σ1) : gA) (i3 over) (i3 i) (i3 i)) else (f_X0_goes_b62 (f_X0_goes_b6 f) ((qxi xi Z, σ1) : gA) (i3 over) (i3 i))) = _
          cases hf1 : Z.2.2.2 with
          | none =>
            rw [if_pos ovn]
            unfold f_X0_goes_b66
            rw [i3_1, i3_add]
            rfl
          | some j =>
            rw [if_neg (by
              show ¬ i3 j = -(i3 4)
              rw [i3_ng (by have := hj j hf1; omega) (by decide) (by decide)]; exact id), h62]
            unfold oor qxi
            rw [hf1]
        · rw [q_axi hZ hT hc (i := i)]
          show f_X0_goes_b36 (f_X0_goes_b6 f) ((qxi xi (q_act (P_p Z.1 i) i Z), σ1) : gA) (i3 over) (i3 i) = _
          unfold f_X0_goes_b36 f_X0_goes_b41
          rw [if_neg (by decide), h62]
      · refine ⟨σ, ?_, h, hw, hZ⟩
        show f_X0_goes_b36 (f_X0_goes_b6 f) ((qxi xi Z, σ) : gA) (i3 over) (i3 i) = _
        unfold f_X0_goes_b36 f_X0_goes_b41
        rw [if_neg (by decide), h62]
        rfl
    obtain ⟨σ1, e1, r1, w1, z1⟩ := hstep
    have hs : P_p (q_step (P_p Z.1) over i Z).1 = P_p Z.1 ∧ P_q (q_step (P_p Z.1) over i Z).1 = P_q Z.1 := by
      unfold q_step
      split
      · exact ⟨rfl, rfl⟩
      · have := sp_act_same Z.1 (P_p Z.1 i)
        exact ⟨this.1, this.2.1⟩
    have hj1 : ∀ j, (q_step (P_p Z.1) over i Z).2.2.2 = some j → j < 8 := by
      intro j
      unfold q_step
      split
      · exact hj j
      · unfold q_act
        show (if sp_can Z.1 (P_p Z.1 i) then Z.2.2.2 else oor Z.2.2.2 i) = some j → j < 8
        split
        · exact hj j
        · unfold oor
          cases hz : Z.2.2.2 with
          | none => intro e; cases e; omega
          | some j' => intro e; cases e; exact hj _ hz
    obtain ⟨σ2, e2, r2, w2, z2⟩ := ih f (i + 1) σ1 (q_step (P_p Z.1) over i Z) r1 w1 z1 hj1 (by rw [hs.2]; omega) (by omega)
    rw [hs.1] at e2 r2 w2 z2
    exact ⟨σ2, e1.trans e2, r2, w2, z2⟩
theorem c_goes {xi : gXI} {σ : gS} {P : gP} {over : Nat} (h : gRS σ P) (hw : gWF P) (ho : over < 256) : ∃ σ', f_X0_goes ((xi, σ) : gA) (i3 over) = some ((qxi xi (sp_goes P over), σ') : gA) ∧ gRS σ' (sp_goes P over).1 ∧ gWF (sp_goes P over).1 ∧ (sp_goes P over).2.1 < 32 := by
  have hq := hw.q
  obtain ⟨σ', e, r, w, z⟩ := c_goes_b (xi := xi) ho (P_q P) 20 0 σ (P, 0, 0, none) h hw (show 0 < 32 by decide) (fun j hj => by cases hj) (by show 0 + P_q P = P_q P; omega) (by omega)
  refine ⟨σ', ?_, r, w, z⟩
  have hb : f_X0_begins (A_xi ((xi, σ) : gA)) = some (qxi xi (P, 0, 0, none)) := rfl
  unfold f_X0_goes
  rw [hb, g3_b, g3_s]
  exact e
theorem sp_goes_wt {P : gP} {over : Nat} (h : ∃ σ, gRS σ P) (hw : gWF P) (ho : over < 256) : (sp_goes P over).2.1 < 32 := by
  obtain ⟨σ, h⟩ := h
  obtain ⟨_, _, _, _, z⟩ := c_goes (xi := (0, 0, 0, 0, 0, 0, 0, 0, 0, 0, 0)) h hw ho
  exact z
theorem qtm_on {b : Nat} {P : gP} {τ : gM} {Z : gQ} (h : gMO b P τ) : gMO b P (qtm τ Z) := h
/-- a page that a Stop could hold -/
def isPg (P : gP) : Prop := gWF P ∧ ∃ σ, gRS σ P
theorem isPg.wt {P : gP} {a : Nat} (h : isPg P) (ha : okact P a) : sp_wt P a < 32 := by
  obtain ⟨hw, σ, hr⟩ := h
  exact sp_wt_lt hr hw ha
theorem isPg.act {P : gP} {a : Nat} (h : isPg P) (ha : okact P a) : isPg (sp_act P a) := by
  obtain ⟨hw, σ, hr⟩ := h
  obtain ⟨σ', _, r, w⟩ := c_acts (xi := (0, 0, 0, 0, 0, 0, 0, 0, 0, 0, 0)) hr hw ha
  exact ⟨w, σ', r⟩
theorem m_goes_b {b over : Nat} {P0 : gP} (ho : over < 256) (hbd : b + 28 ≤ 112 ∨ 140 ≤ b) (hb : b + 28 ≤ 168) : ∀ k fuel i τ Z, gMO 112 Z.1 τ → gRM b (M_state τ) P0 → P_p Z.1 = P_p P0 → P_q Z.1 = P_q P0 → isPg Z.1 → Z.2.1 < 32 → (∀ j, Z.2.2.2 = some j → j < 8) → i + k = P_q Z.1 → k < fuel →
    ∃ st, f_X7_planGoes_b7 fuel (qtm τ Z) (i3 b) (i3 over) (i3 i) = some (qtm (M_state_s τ st) (fo (q_step (P_p P0) over) k i Z)) ∧ gRM 112 st (fo (q_step (P_p P0) over) k i Z).1 ∧ gFr 112 (M_state τ) st := by
  intro k
  induction k with
  | zero =>
    intro fuel i τ Z h h0 hp0 hq0 hpg hZ hj hi hf
    have hq := hpg.1.q
    obtain ⟨f, rfl⟩ := gsucc hf
    refine ⟨M_state τ, ?_, h.R, gFr.rf⟩
    simp only [f_X7_planGoes_b7]
    rw [i3_27, i3_add]
    show (gld 168 (M_state τ) (i3 (b + 27)) fun v3 => if v3 ≤ i3 i then some (qtm τ Z) else _) = _
    rw [g3_ld (by omega) (by decide), h0.hq, if_pos (by rw [i3_le (by omega) (by omega)]; omega), M_st_self]
    rfl
  | succ k ih =>
    intro fuel i τ Z h h0 hp0 hq0 hpg hZ hj hi hf
    have hw := hpg.1
    have hq := hw.q
    obtain ⟨f, rfl⟩ := gsucc hf
    have h67 : ∀ (τ' : gM), f_X7_planGoes_b67 (f_X7_planGoes_b7 f) τ' (i3 b) (i3 over) (i3 i) = f_X7_planGoes_b7 f τ' (i3 b) (i3 over) (i3 (i + 1)) := fun τ' => by
      unfold f_X7_planGoes_b67
      rw [i3_1, i3_add]
      rfl
    have hstep : ∃ st, f_X7_planGoes_b7 (f + 1) (qtm τ Z) (i3 b) (i3 over) (i3 i) = f_X7_planGoes_b7 f (qtm (M_state_s τ st) (q_step (P_p P0) over i Z)) (i3 b) (i3 over) (i3 (i + 1)) ∧ gRM 112 st (q_step (P_p P0) over i Z).1 ∧ gFr 112 (M_state τ) st ∧ isPg (q_step (P_p P0) over i Z).1 ∧ (q_step (P_p P0) over i Z).2.1 < 32 := by
      simp only [f_X7_planGoes_b7]
      rw [i3_27, i3_add]
      show ∃ st, (gld 168 (M_state τ) (i3 (b + 27)) fun v3 => if v3 ≤ i3 i then some (qtm τ Z) else (if ((i3 over >>> (i3 i &&& 31)) &&& 1) = 0 then (gld 168 (M_state τ) ((i3 b + 19) + i3 i) fun v4 => (f_X7_acts (qtm τ Z) v4).bind fun (r5, u6) => if r5 = 0 then (if (M_firstNot u6) = (-4) then (f_X7_planGoes_b64 (f_X7_planGoes_b7 f) u6 (i3 b) (i3 over) (i3 i) (i3 i)) else (f_X7_planGoes_b64 (f_X7_planGoes_b7 f) u6 (i3 b) (i3 over) (i3 i) (M_firstNot u6))) else (f_X7_planGoes_b67 (f_X7_planGoes_b7 f) u6 (i3 b) (i3 over) (i3 i))) else (f_X7_planGoes_b67 (f_X7_planGoes_b7 f) (qtm τ Z) (i3 b) (i3 over) (i3 i)))) = _ ∧ _
      rw [g3_ld (by omega) (by decide), h0.hq, if_neg (by rw [i3_le (by omega) (by omega)]; omega), i3_31, i3_1, i3_bit8 ho (by omega)]
      unfold q_step
      cases hb2 : over.testBit i
      · show ∃ st, (gld 168 (M_state τ) ((i3 b + 19) + i3 i) fun v4 => (f_X7_acts (qtm τ Z) v4).bind fun (r5, u6) => if r5 = 0 then (if (M_firstNot u6) = (-4) then (f_X7_planGoes_b64 (f_X7_planGoes_b7 f) u6 (i3 b) (i3 over) (i3 i) (i3 i)) else (f_X7_planGoes_b64 (f_X7_planGoes_b7 f) u6 (i3 b) (i3 over) (i3 i) (M_firstNot u6))) else (f_X7_planGoes_b67 (f_X7_planGoes_b7 f) u6 (i3 b) (i3 over) (i3 i))) = f_X7_planGoes_b7 f (qtm (M_state_s τ st) (q_act (P_p P0 i) i Z)) (i3 b) (i3 over) (i3 (i + 1)) ∧ gRM 112 st (q_act (P_p P0 i) i Z).1 ∧ gFr 112 (M_state τ) st ∧ isPg (q_act (P_p P0 i) i Z).1 ∧ (q_act (P_p P0 i) i Z).2.1 < 32
        have ha : okact Z.1 (P_p P0 i) := by rw [← hp0]; exact hw.p (by omega)
        have hT := hpg.wt ha
        obtain ⟨st, e1, r1, n1, f1⟩ := m_acts (qtm_on (Z := Z) h) hw ha hT
        refine ⟨st, ?_, r1, f1, hpg.act ha, or5_lt hZ hT⟩
        rw [i3_19, i3_add, i3_add, g3_ld (by omega) (by decide), h0.hp (by omega), e1, qtm_st]
        cases hc : sp_can Z.1 (P_p P0 i)
        · rw [q_no hc]
          have : atm (qtm (M_state_s τ st) Z) Z.1 (P_p P0 i) = qtm (M_state_s τ st) Z := by unfold atm; rw [isTh_can hc]; rfl
          rw [this]
          show (if ovl Z.2.2.2 = (-4) then (f_X7_planGoes_b64 (f_X7_planGoes_b7 f) (qtm (M_state_s τ st) Z) (i3 b) (i3 over) (i3 i) (i3 i)) else (f_X7_planGoes_b64 (f_X7_planGoes_b7 f) (qtm (M_state_s τ st) Z) (i3 b) (i3 over) (i3 i) (ovl Z.2.2.2))) = _
          unfold f_X7_planGoes_b64
          cases hf1 : Z.2.2.2 with
          | none =>
            rw [if_pos ovn]
            show f_X7_planGoes_b67 (f_X7_planGoes_b7 f) (M_firstNot_s (qtm (M_state_s τ st) Z) (ovl (some i))) (i3 b) (i3 over) (i3 i) = _
            rw [h67, qtm_fn]
            rfl
          | some j =>
            rw [if_neg (by
              show ¬ i3 j = -(i3 4)
              rw [i3_ng (by have := hj j hf1; omega) (by decide) (by decide)]; exact id)]
            show f_X7_planGoes_b67 (f_X7_planGoes_b7 f) (M_firstNot_s (qtm (M_state_s τ st) Z) (ovl (some j))) (i3 b) (i3 over) (i3 i) = _
            rw [h67, qtm_fn]
            rfl
        · rw [q_atm hZ hT hc (i := i)]
          show f_X7_planGoes_b67 (f_X7_planGoes_b7 f) (qtm (M_state_s τ st) (q_act (P_p P0 i) i Z)) (i3 b) (i3 over) (i3 i) = _
          rw [h67]
      · refine ⟨M_state τ, ?_, h.R, gFr.rf, hpg, hZ⟩
        show f_X7_planGoes_b67 (f_X7_planGoes_b7 f) (qtm τ Z) (i3 b) (i3 over) (i3 i) = _
        rw [h67, M_st_self]
        rfl
    obtain ⟨st1, e1, r1, f1, g1, z1⟩ := hstep
    have hs : P_p (q_step (P_p P0) over i Z).1 = P_p Z.1 ∧ P_q (q_step (P_p P0) over i Z).1 = P_q Z.1 ∧ P_n (q_step (P_p P0) over i Z).1 = P_n Z.1 := by
      unfold q_step
      split
      · exact ⟨rfl, rfl, rfl⟩
      · exact sp_act_same Z.1 (P_p P0 i)
    have hj1 : ∀ j, (q_step (P_p P0) over i Z).2.2.2 = some j → j < 8 := by
      intro j
      unfold q_step
      split
      · exact hj j
      · unfold q_act
        show (if sp_can Z.1 (P_p P0 i) then Z.2.2.2 else oor Z.2.2.2 i) = some j → j < 8
        split
        · exact hj j
        · unfold oor
          cases hz : Z.2.2.2 with
          | none => intro e; cases e; omega
          | some j' => intro e; cases e; exact hj _ hz
    obtain ⟨st2, e2, r2, f2⟩ := ih f (i + 1) (M_state_s τ st1) (q_step (P_p P0) over i Z) (h.on r1 hs.2.2) (h0.fr f1 (by omega)) (hs.1.trans hp0) (hs.2.1.trans hq0) g1 z1 hj1 (by rw [hs.2.1]; omega) (by omega)
    exact ⟨st2, e1.trans e2, r2, f1.tr f2⟩
theorem m_begins {b : Nat} {P : gP} {τ : gM} (h : gMO b P τ) (hbd : b + 28 ≤ 112 ∨ 140 ≤ b) : ∃ st, f_X7_begins τ (i3 b) = some (qtm (M_state_s τ st) (P, 0, 0, none)) ∧ gRM 112 st P ∧ gFr 112 (M_state τ) st := by
  have hb := h.hb
  obtain ⟨st, e, c, f⟩ := m_copies (τ := τ) (a := b) (b := 112) hb (by decide) (by omega)
  refine ⟨st, ?_, h.R.cp c, f⟩
  unfold f_X7_begins
  rw [i3_112, e, g3_b, g3_s, g3_s, g3_s, qm_0, qm_t, qm_f]
  rfl
theorem m_goes {b over : Nat} {P : gP} {τ : gM} (h : gMO b P τ) (hpg : isPg P) (ho : over < 256) (hbd : b + 28 ≤ 112 ∨ 140 ≤ b) : ∃ st, f_X7_planGoes τ (i3 b) (i3 over) = some (qtm (M_state_s τ st) (sp_goes P over)) ∧ gRM 112 st (sp_goes P over).1 ∧ gFr 112 (M_state τ) st := by
  have hq := hpg.1.q
  have hb := h.hb
  obtain ⟨st1, e1, r1, f1⟩ := m_begins h hbd
  obtain ⟨st2, e2, r2, f2⟩ := m_goes_b (b := b) (P0 := P) ho hbd hb (P_q P) 2000 0 (M_state_s τ st1) (P, 0, 0, none) (⟨h.hn, h.2.1, r1, by decide⟩) (h.R.fr f1 (by omega)) rfl rfl hpg (show 0 < 32 by decide) (fun j hj => by cases hj) (by show 0 + P_q P = P_q P; omega) (by omega)
  refine ⟨st2, ?_, r2, f1.tr f2⟩
  unfold f_X7_planGoes
  rw [e1]
  exact e2
