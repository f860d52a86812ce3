set_option maxRecDepth 100000
set_option maxHeartbeats 400000
/-! what is tried: the component with other x, tried, row; the model with other numbers, weptBits, weptTimes, firstNot, goneBy -/
def sx (σ : gX) (xi : gXI) (t : gS) (r : Nat → Int32) : gX := (xi, X_now σ, t, X_im0 σ, X_im1 σ, X_seen σ, X_tape σ, r, X_rw σ)
def mx (τ : gM) (st : Nat → Int32) (a b c : Int32) (g : Nat → Int32) : gM := (M_oneMany τ, M_readOnes τ, M_toldOnce τ, M_high τ, M_taped τ, M_fault τ, M_broken τ, M_brokenAt τ, M_spot τ, M_here τ, M_token τ, M_value τ, a, b, c, M_seenMany τ, M_torn τ, st, M_brims τ, M_readPage τ, M_tape τ, M_cuts τ, M_letters τ, M_seen τ, g, M_isKept τ, M_lanes τ, M_lengths τ, M_cells τ)
theorem sx_0 (σ : gX) : σ = sx σ (X_xi σ) (X_tried σ) (X_row σ) := rfl
theorem sx_t (σ : gX) (xi : gXI) (t t' : gS) (r : Nat → Int32) : X_tried_s (sx σ xi t r) t' = sx σ xi t' r := rfl
theorem sx_x (σ : gX) (xi xi' : gXI) (t : gS) (r : Nat → Int32) : X_xi_s (sx σ xi t r) xi' = sx σ xi' t r := rfl
theorem sx_r (σ : gX) (xi : gXI) (t : gS) (r r' : Nat → Int32) : X_row_s (sx σ xi t r) r' = sx σ xi t r' := rfl
theorem sx_n (σ : gX) (xi : gXI) (t : gS) (r : Nat → Int32) : X_now_s (sx σ xi t r) (X_now σ) = sx σ xi t r := rfl

theorem sx__xi (σ : gX) (xi : gXI) (t : gS) (r : Nat → Int32) : X_xi (sx σ xi t r) = xi := rfl
theorem sx__now (σ : gX) (xi : gXI) (t : gS) (r : Nat → Int32) : X_now (sx σ xi t r) = X_now σ := rfl
theorem sx__tried (σ : gX) (xi : gXI) (t : gS) (r : Nat → Int32) : X_tried (sx σ xi t r) = t := rfl
theorem sx__im0 (σ : gX) (xi : gXI) (t : gS) (r : Nat → Int32) : X_im0 (sx σ xi t r) = X_im0 σ := rfl
theorem sx__im1 (σ : gX) (xi : gXI) (t : gS) (r : Nat → Int32) : X_im1 (sx σ xi t r) = X_im1 σ := rfl
theorem sx__seen (σ : gX) (xi : gXI) (t : gS) (r : Nat → Int32) : X_seen (sx σ xi t r) = X_seen σ := rfl
theorem sx__tape (σ : gX) (xi : gXI) (t : gS) (r : Nat → Int32) : X_tape (sx σ xi t r) = X_tape σ := rfl
theorem sx__row (σ : gX) (xi : gXI) (t : gS) (r : Nat → Int32) : X_row (sx σ xi t r) = r := rfl
theorem sx__rw (σ : gX) (xi : gXI) (t : gS) (r : Nat → Int32) : X_rw (sx σ xi t r) = X_rw σ := rfl
theorem mx__oneMany (τ : gM) (st : Nat → Int32) (a b c : Int32) (g : Nat → Int32) : M_oneMany (mx τ st a b c g) = M_oneMany τ := rfl
theorem mx__readOnes (τ : gM) (st : Nat → Int32) (a b c : Int32) (g : Nat → Int32) : M_readOnes (mx τ st a b c g) = M_readOnes τ := rfl
theorem mx__toldOnce (τ : gM) (st : Nat → Int32) (a b c : Int32) (g : Nat → Int32) : M_toldOnce (mx τ st a b c g) = M_toldOnce τ := rfl
theorem mx__high (τ : gM) (st : Nat → Int32) (a b c : Int32) (g : Nat → Int32) : M_high (mx τ st a b c g) = M_high τ := rfl
theorem mx__taped (τ : gM) (st : Nat → Int32) (a b c : Int32) (g : Nat → Int32) : M_taped (mx τ st a b c g) = M_taped τ := rfl
theorem mx__fault (τ : gM) (st : Nat → Int32) (a b c : Int32) (g : Nat → Int32) : M_fault (mx τ st a b c g) = M_fault τ := rfl
theorem mx__broken (τ : gM) (st : Nat → Int32) (a b c : Int32) (g : Nat → Int32) : M_broken (mx τ st a b c g) = M_broken τ := rfl
theorem mx__brokenAt (τ : gM) (st : Nat → Int32) (a b c : Int32) (g : Nat → Int32) : M_brokenAt (mx τ st a b c g) = M_brokenAt τ := rfl
theorem mx__spot (τ : gM) (st : Nat → Int32) (a b c : Int32) (g : Nat → Int32) : M_spot (mx τ st a b c g) = M_spot τ := rfl
theorem mx__here (τ : gM) (st : Nat → Int32) (a b c : Int32) (g : Nat → Int32) : M_here (mx τ st a b c g) = M_here τ := rfl
theorem mx__token (τ : gM) (st : Nat → Int32) (a b c : Int32) (g : Nat → Int32) : M_token (mx τ st a b c g) = M_token τ := rfl
theorem mx__value (τ : gM) (st : Nat → Int32) (a b c : Int32) (g : Nat → Int32) : M_value (mx τ st a b c g) = M_value τ := rfl
theorem mx__weptBits (τ : gM) (st : Nat → Int32) (a b c : Int32) (g : Nat → Int32) : M_weptBits (mx τ st a b c g) = a := rfl
theorem mx__weptTimes (τ : gM) (st : Nat → Int32) (a b c : Int32) (g : Nat → Int32) : M_weptTimes (mx τ st a b c g) = b := rfl
theorem mx__firstNot (τ : gM) (st : Nat → Int32) (a b c : Int32) (g : Nat → Int32) : M_firstNot (mx τ st a b c g) = c := rfl
theorem mx__seenMany (τ : gM) (st : Nat → Int32) (a b c : Int32) (g : Nat → Int32) : M_seenMany (mx τ st a b c g) = M_seenMany τ := rfl
theorem mx__torn (τ : gM) (st : Nat → Int32) (a b c : Int32) (g : Nat → Int32) : M_torn (mx τ st a b c g) = M_torn τ := rfl
theorem mx__state (τ : gM) (st : Nat → Int32) (a b c : Int32) (g : Nat → Int32) : M_state (mx τ st a b c g) = st := rfl
theorem mx__brims (τ : gM) (st : Nat → Int32) (a b c : Int32) (g : Nat → Int32) : M_brims (mx τ st a b c g) = M_brims τ := rfl
theorem mx__readPage (τ : gM) (st : Nat → Int32) (a b c : Int32) (g : Nat → Int32) : M_readPage (mx τ st a b c g) = M_readPage τ := rfl
theorem mx__tape (τ : gM) (st : Nat → Int32) (a b c : Int32) (g : Nat → Int32) : M_tape (mx τ st a b c g) = M_tape τ := rfl
theorem mx__cuts (τ : gM) (st : Nat → Int32) (a b c : Int32) (g : Nat → Int32) : M_cuts (mx τ st a b c g) = M_cuts τ := rfl
theorem mx__letters (τ : gM) (st : Nat → Int32) (a b c : Int32) (g : Nat → Int32) : M_letters (mx τ st a b c g) = M_letters τ := rfl
theorem mx__seen (τ : gM) (st : Nat → Int32) (a b c : Int32) (g : Nat → Int32) : M_seen (mx τ st a b c g) = M_seen τ := rfl
theorem mx__goneBy (τ : gM) (st : Nat → Int32) (a b c : Int32) (g : Nat → Int32) : M_goneBy (mx τ st a b c g) = g := rfl
theorem mx__isKept (τ : gM) (st : Nat → Int32) (a b c : Int32) (g : Nat → Int32) : M_isKept (mx τ st a b c g) = M_isKept τ := rfl
theorem mx__lanes (τ : gM) (st : Nat → Int32) (a b c : Int32) (g : Nat → Int32) : M_lanes (mx τ st a b c g) = M_lanes τ := rfl
theorem mx__lengths (τ : gM) (st : Nat → Int32) (a b c : Int32) (g : Nat → Int32) : M_lengths (mx τ st a b c g) = M_lengths τ := rfl
theorem mx__cells (τ : gM) (st : Nat → Int32) (a b c : Int32) (g : Nat → Int32) : M_cells (mx τ st a b c g) = M_cells τ := rfl
theorem mx_0 (τ : gM) : τ = mx τ (M_state τ) (M_weptBits τ) (M_weptTimes τ) (M_firstNot τ) (M_goneBy τ) := rfl
theorem mx_s (τ : gM) (st st' : Nat → Int32) (a b c : Int32) (g : Nat → Int32) : M_state_s (mx τ st a b c g) st' = mx τ st' a b c g := rfl
theorem mx_g (τ : gM) (st : Nat → Int32) (a b c : Int32) (g g' : Nat → Int32) : M_goneBy_s (mx τ st a b c g) g' = mx τ st a b c g' := rfl
theorem mx_w (τ : gM) (st : Nat → Int32) (a b c a' : Int32) (g : Nat → Int32) : M_weptBits_s (mx τ st a b c g) a' = mx τ st a' b c g := rfl
theorem mx_t (τ : gM) (st : Nat → Int32) (a b c b' : Int32) (g : Nat → Int32) : M_weptTimes_s (mx τ st a b c g) b' = mx τ st a b' c g := rfl
theorem mx_f (τ : gM) (st : Nat → Int32) (a b c c' : Int32) (g : Nat → Int32) : M_firstNot_s (mx τ st a b c g) c' = mx τ st a b c' g := rfl
theorem mx_q (τ : gM) (st : Nat → Int32) (a b c a' b' c' : Int32) (g : Nat → Int32) : qm (mx τ st a b c g) a' b' c' = mx τ st a' b' c' g := rfl
theorem mx_m (τ : gM) (st st' : Nat → Int32) (a b c a' b' c' : Int32) (g g' : Nat → Int32) : mx (mx τ st a b c g) st' a' b' c' g' = mx τ st' a' b' c' g' := rfl
theorem mx_qtm (τ : gM) (st st' : Nat → Int32) (a b c : Int32) (g : Nat → Int32) (Z : gQ) : qtm (M_state_s (mx τ st a b c g) st') Z = mx τ st' (i3 Z.2.1) (i3 Z.2.2.1) (ovl Z.2.2.2) g := by
  unfold qtm
  rw [mx_s, mx_q]
def gXq (xi xi' : gXI) : Prop := I_kept xi' = I_kept xi ∧ I_seenMany xi' = I_seenMany xi ∧ I_taped xi' = I_taped xi ∧ I_fault xi' = I_fault xi ∧ I_torn xi' = I_torn xi
theorem gXq.rf {xi : gXI} : gXq xi xi := ⟨rfl, rfl, rfl, rfl, rfl⟩
theorem gXq.tr {x y z : gXI} (h : gXq x y) (k : gXq y z) : gXq x z := ⟨k.1.trans h.1, k.2.1.trans h.2.1, k.2.2.1.trans h.2.2.1, k.2.2.2.1.trans h.2.2.2.1, k.2.2.2.2.trans h.2.2.2.2⟩
theorem gXq.q (xi : gXI) (Z : gQ) : gXq xi (qxi xi Z) := ⟨rfl, rfl, rfl, rfl, rfl⟩
theorem gXq.a (xi : gXI) (P : gP) (a : Nat) : gXq xi (axi xi P a) := by
  unfold axi
  split
  · exact ⟨rfl, rfl, rfl, rfl, rfl⟩
  · exact gXq.rf
/-- the pages below 84 are as they were -/
def gLo (st st' : Nat → Int32) : Prop := ∀ j, j < 84 → st' j = st j
theorem gLo.rf {st : Nat → Int32} : gLo st st := fun _ _ => rfl
theorem gLo.tr {a b c : Nat → Int32} (h : gLo a b) (k : gLo b c) : gLo a c := fun j hj => (k j hj).trans (h j hj)
theorem gFr.lo {b : Nat} {a c : Nat → Int32} (h : gFr b a c) (hb : 84 ≤ b) : gLo a c := fun j hj => h j (by omega)
theorem gLo.up {st : Nat → Int32} {k : Nat} {x : Int32} (hk : 84 ≤ k) : gLo st (upd st k x) := fun j hj => upd_ne (by omega)
def gScr {R : Type} (σ : gX) (τ : gM) (a : Option (R × gX)) (b : Option (R × gM)) : Prop := ∃ r xi t rr st x y z g, a = some (r, sx σ xi t rr) ∧ b = some (r, mx τ st x y z g) ∧ gXq (X_xi σ) xi ∧ gLo (M_state τ) st
theorem gScr.ok {R : Type} {σ : gX} {τ : gM} {P : gP} {a : Option (R × gX)} {b : Option (R × gM)} (h : gRZp σ τ P) (k : gScr σ τ a b) : gOK σ τ a b := by
  obtain ⟨r, xi, t, rr, st, x, y, z, g, ha, hb, ⟨k1, k2, k3, k4, k5⟩, hl⟩ := k
  have hkeep : gKeep σ (sx σ xi t rr) τ (mx τ st x y z g) := by
    refine ⟨⟨?_, mx__isKept .., sx__im0 .., sx__im1 .., fun j h1 h2 => ?_⟩, ⟨?_, mx__seenMany .., sx__seen .., mx__seen ..⟩, ⟨?_, mx__taped .., sx__tape .., mx__tape ..⟩, ⟨?_, mx__fault .., ?_, mx__torn .., mx__cuts .., mx__letters ..⟩, sx__rw .., mx__lanes .., mx__lengths .., mx__cells ..⟩
    · rw [sx__xi]; exact k1
    · rw [mx__state]; exact hl j h2
    · rw [sx__xi]; exact k2
    · rw [sx__xi]; exact k3
    · rw [sx__xi]; exact k4
    · rw [sx__xi]; exact k5
  refine gOK.page (P' := P) r h ha hb h.1 (by rw [sx__now]; exact h.2.1) ⟨?_, ?_, ?_, by decide⟩ rfl hkeep
  · rw [mx__oneMany]; exact h.2.2.1.hn
  · rw [mx__brims]; exact h.2.2.1.2.1
  · rw [mx__state]; exact h.2.2.1.R.eq (fun j _ hj => hl j (by omega))
theorem mx_on {b : Nat} {P Q : gP} {τ : gM} {st : Nat → Int32} {x y z : Int32} {g : Nat → Int32} (h : gMO 0 P τ) (hr : gRM b st Q) (hn : P_n Q = P_n P) (hb : b + 28 ≤ 168) : gMO b Q (mx τ st x y z g) := ⟨by rw [mx__oneMany, hn]; exact h.hn, by rw [mx__brims]; exact h.2.1, by rw [mx__state]; exact hr, hb⟩
theorem gLo.R {P : gP} {st st' : Nat → Int32} (h : gRM 0 st P) (k : gLo st st') : gRM 0 st' P := h.eq (fun j _ hj => k j (by omega))
/-- now is copied, the plan goes -/
theorem c_run {σ σ' : gX} {xi : gXI} {t : gS} {rr : Nat → Int32} {P : gP} {over : Nat} {ov : Int32} (hσ : σ' = sx σ xi t rr) (hov : ov = i3 over) (hS : gRS (X_now σ) P) (hw : gWF P) (ho : over < 256) : ∃ t', gRS t' (sp_goes P over).1 ∧ gWF (sp_goes P over).1 ∧ (sp_goes P over).2.1 < 32 ∧
    ∀ (R : Type) (K : gX → Option R), ((f_X5_as ((X_tried σ'), (X_now σ'))).bind fun u4 => gs (X_now_s (X_tried_s σ' u4.1) u4.2) fun s5 => (f_X0_goes ((X_xi s5), (X_tried s5)) ov).bind fun u7 => gs (X_tried_s (X_xi_s s5 u7.1) u7.2) K) = K (sx σ (qxi xi (sp_goes P over)) t' rr) := by
  obtain ⟨t1, e1, r1⟩ := c_as (t := t) hS hw
  obtain ⟨t2, e2, r2, w2, z2⟩ := c_goes (xi := xi) r1 hw ho
  refine ⟨t2, r2, w2, z2, fun R K => ?_⟩
  subst hσ hov
  have e1 : f_X5_as (X_tried (sx σ xi t rr), X_now (sx σ xi t rr)) = some (t1, X_now σ) := e1
  rw [e1]
  simp only [g3_b, g3_s, sx_t, sx_n, sx__xi, sx__tried]
  rw [e2]
  simp only [g3_b, g3_s, sx_t, sx_x]
theorem gone_P {σ : gX} {t : gS} {Q : gP} (h : gRS t Q) (hw : gWF Q) : f_X5_gone t = some (i3 (m5 (P_g Q)), t) := c_gone h hw
theorem le4c {p : Nat} (h : p ≤ 4) : p = 0 ∨ p = 1 ∨ p = 2 ∨ p = 3 ∨ p = 4 := by omega
theorem m_run {P : gP} {τ : gM} {st : Nat → Int32} {x y z : Int32} {g : Nat → Int32} {over : Nat} (h : gMO 0 P τ) (hp : isPg P) (hl : gLo (M_state τ) st) (ho : over < 256) : ∃ st', f_X7_planGoes (mx τ st x y z g) 0 (i3 over) = some (mx τ st' (i3 (sp_goes P over).2.1) (i3 (sp_goes P over).2.2.1) (ovl (sp_goes P over).2.2.2) g) ∧ gRM 112 st' (sp_goes P over).1 ∧ gFr 112 st st' ∧ gLo (M_state τ) st' := by
  obtain ⟨st', e, r, f⟩ := m_goes (mx_on (x := x) (y := y) (z := z) (g := g) h (gLo.R h.R hl) rfl (by decide)) hp ho (by decide)
  rw [mx_qtm] at e
  rw [mx__state] at f
  exact ⟨st', e, r, f, hl.tr (f.lo (by decide))⟩
theorem sp_goes_n (P : gP) (over : Nat) : P_n (sp_goes P over).1 = P_n P := by
  have : ∀ k i Z, P_n (fo (q_step (P_p P) over) k i Z).1 = P_n Z.1 := by
    intro k
    induction k with
    | zero => intros; rfl
    | succ k ih =>
      intro i Z
      refine (ih (i + 1) _).trans ?_
      unfold q_step
      split
      · rfl
      · exact (sp_act_same Z.1 _).2.2
  exact this _ _ _
theorem z_runs {σ : gX} {τ : gM} {x : Int32} (h : gRZ σ τ) : gOK σ τ (f_X0_runs σ x) (f_X7_runs τ x) := by
  obtain ⟨P, hh⟩ := h
  have h0 := hh
  obtain ⟨hw, hS, hM, -⟩ := hh
  unfold f_X0_runs f_X7_runs
  rcases in_lit (x := x) (lo := 0) (hi := 4) (a := 0) (b := 4) rfl rfl with ⟨N, -, hN, rfl, f1, f2⟩ | ⟨f1, f2, -⟩
  · rw [f1, f2]
    simp only [g3_b]
    rw [if_neg (by decide), if_neg (by decide)]
    obtain ⟨t', r1, w1, z1, hK⟩ := c_run (over := 0) (ov := 0) (sx_0 σ) rfl hS hw (by decide)
    obtain ⟨st', e2, r2, f2, l2⟩ := m_run (over := 0) (st := M_state τ) (x := M_weptBits τ) (y := M_weptTimes τ) (z := M_firstNot τ) (g := M_goneBy τ) hM h0.pg gLo.rf (by decide)
    have e2 : f_X7_planGoes τ 0 0 = some (mx τ st' (i3 (sp_goes P 0).2.1) (i3 (sp_goes P 0).2.2.1) (ovl (sp_goes P 0).2.2.2) (M_goneBy τ)) := e2
    rw [hK, e2]
    simp only [g3_b]
    refine gScr.ok h0 ?_
    have hl : gRM 112 st' (sp_goes P 0).1 := r2
    rcases le4c hN with rfl | rfl | rfl | rfl | rfl
    · rw [if_pos (by decide), g3_sw (by decide) (by decide)]
      show gScr σ τ ((f_X5_gone (X_tried (sx σ (qxi (X_xi σ) (sp_goes P 0)) t' (X_row σ)))).bind fun (r12, u13) => gs (X_tried_s (sx σ (qxi (X_xi σ) (sp_goes P 0)) t' (X_row σ)) u13) fun s14 => some (r12, s14)) (gld 168 (M_state (mx τ st' (i3 (sp_goes P 0).2.1) (i3 (sp_goes P 0).2.2.1) (ovl (sp_goes P 0).2.2.2) (M_goneBy τ))) 127 fun v5 => some (v5, mx τ st' (i3 (sp_goes P 0).2.1) (i3 (sp_goes P 0).2.2.1) (ovl (sp_goes P 0).2.2.2) (M_goneBy τ)))
      rw [sx__tried, c_gone r1 w1, mx__state, i3_127, g3_ld (by decide) (by decide), show st' 127 = i3 (m5 (P_g (sp_goes P 0).1)) from hl.hg]
      exact ⟨_, _, _, _, _, _, _, _, _, rfl, rfl, gXq.q _ _, l2⟩
    · rw [if_neg (by decide), if_pos (by decide), g3_sw (by decide) (by decide)]
      exact ⟨i3 (sp_goes P 0).2.1, _, _, _, _, _, _, _, _, rfl, rfl, gXq.q _ _, l2⟩
    · rw [if_neg (by decide), if_neg (by decide), if_pos (by decide), g3_sw (by decide) (by decide)]
      exact ⟨i3 (sp_goes P 0).2.2.1, _, _, _, _, _, _, _, _, rfl, rfl, gXq.q _ _, l2⟩
    · rw [if_neg (by decide), if_neg (by decide), if_neg (by decide), if_pos (by decide), g3_sw (by decide) (by decide)]
      exact ⟨ovl (sp_goes P 0).2.2.2, _, _, _, _, _, _, _, _, rfl, rfl, gXq.q _ _, l2⟩
    · rw [if_neg (by decide), if_neg (by decide), if_neg (by decide), if_neg (by decide)]
      rw [sx__tried, c_sorrow r1 w1]
      have hM2 : gMO 112 (sp_goes P 0).1 (mx τ st' (i3 (sp_goes P 0).2.1) (i3 (sp_goes P 0).2.2.1) (ovl (sp_goes P 0).2.2.2) (M_goneBy τ)) := mx_on hM r2 (sp_goes_n P 0) (by decide)
      have e3 : f_X7_sorrowOn (mx τ st' (i3 (sp_goes P 0).2.1) (i3 (sp_goes P 0).2.2.1) (ovl (sp_goes P 0).2.2.2) (M_goneBy τ)) 112 = _ := m_sorrow hM2 w1
      rw [show ∀ (α : Type) (F : Nat → Option α) (D : Option α), gsw 4 (i3 4) F D = D from fun α F D => by unfold gsw; rw [if_neg (by decide)], e3]
      exact ⟨i3 (sp_sorrow (sp_goes P 0).1), _, _, _, _, _, _, _, _, rfl, rfl, gXq.q _ _, l2⟩
  · rw [f1, f2]
    exact gOK.rf _ h0
theorem z_ahead {σ : gX} {τ : gM} {x y : Int32} (h : gRZ σ τ) : gOK σ τ (f_X0_ahead σ x y) (f_X7_ahead τ x y) := by
  obtain ⟨P, hh⟩ := h
  have h0 := hh
  obtain ⟨hw, hS, hM, -⟩ := hh
  have hn := hw.n
  unfold f_X0_ahead f_X7_ahead
  rcases isOne2 (x := x) hn hS hM with ⟨p, h1, rfl, h3, h4⟩ | ⟨h1, h2, h3⟩
  · rw [h3, h4]
    simp only [g3_b]
    rw [if_neg (by decide), if_neg (by decide)]
    rcases isPart2 (x := y) with ⟨w, w1, rfl, e1, e2⟩ | ⟨e1, e2, e3⟩
    · rw [e1, e2]
      simp only [g3_b]
      rw [if_neg (by decide), if_neg (by decide)]
      obtain ⟨t', r1, w1', z1, hK⟩ := c_run (over := 0) (ov := 0) (sx_0 σ) rfl hS hw (by decide)
      obtain ⟨st', e2, r2, f2, l2⟩ := m_run (over := 0) (st := M_state τ) (x := M_weptBits τ) (y := M_weptTimes τ) (z := M_firstNot τ) (g := M_goneBy τ) hM h0.pg gLo.rf (by decide)
      have e2 : f_X7_planGoes τ 0 0 = some (mx τ st' (i3 (sp_goes P 0).2.1) (i3 (sp_goes P 0).2.2.1) (ovl (sp_goes P 0).2.2.2) (M_goneBy τ)) := e2
      rw [hK, e2]
      simp only [g3_b]
      refine gScr.ok h0 ?_
      have w2 : w = 0 ∨ w = 1 := by omega
      rcases w2 with rfl | rfl
      · rw [if_pos (by decide), if_pos (by decide), sx__tried, i3_1, c_of (by omega) (by decide), r1.hs (by omega), mx__state, i3_117, i3_add, g3_ld (by omega) (by decide), show st' (117 + p) = i3 (P_s (sp_goes P 0).1 p) from r2.hs (by omega)]
        exact ⟨i3 (P_s (sp_goes P 0).1 p), _, _, _, _, _, _, _, _, rfl, rfl, gXq.q _ _, l2⟩
      · rw [if_neg (by decide), if_neg (by decide), sx__tried, g3_ld (by omega) (by decide), r1.hw (by omega), mx__state, i3_122, i3_add, g3_ld (by omega) (by decide), show st' (122 + p) = i3 (P_w (sp_goes P 0).1 p) from r2.hw (by omega)]
        have hww := w1'.w p
        have : f_X7_orNone (i3 (P_w (sp_goes P 0).1 p)) = some (wpt (P_w (sp_goes P 0).1 p), ()) := by
          unfold f_X7_orNone wpt
          rw [i3_0, if3_eq (by omega) (by decide)]
          by_cases e : P_w (sp_goes P 0).1 p = 0
          · rw [if_pos e, if_pos e]; rfl
          · rw [if_neg e, if_neg e, i3_1, i3_sub (by omega)]
        rw [this]
        exact ⟨wpt (P_w (sp_goes P 0).1 p), _, _, _, _, _, _, _, _, rfl, rfl, gXq.q _ _, l2⟩
    · rw [e1, e2]
      exact gOK.rf _ h0
  · rw [h1, h2]
    exact gOK.rf _ h0
/-! enough -/
theorem c_enough_b {σ : gX} {τ : gM} {P : gP} (h0 : gRZp σ τ P) : ∀ c fuel fuel' xi t rr st x y z g, c ≤ 5 → c < fuel → c < fuel' → gXq (X_xi σ) xi → gLo (M_state τ) st → gScr σ τ (f_X0_enough_b2 fuel (sx σ xi t rr) (i3 (6 - c))) (f_X7_enough_b2 fuel' (mx τ st x y z g) (i3 (6 - c))) := by
  obtain ⟨hw, hS, hM, -⟩ := id h0
  intro c
  induction c with
  | zero =>
    intro fuel fuel' xi t rr st x y z g hc hf hf' hx hl
    obtain ⟨f, rfl⟩ := gsucc hf
    obtain ⟨f', rfl⟩ := gsucc hf'
    simp only [f_X0_enough_b2, f_X7_enough_b2]
    rw [if_pos (by decide), if_pos (by decide)]
    exact ⟨_, _, _, _, _, _, _, _, _, rfl, rfl, hx, hl⟩
  | succ c ih =>
    intro fuel fuel' xi t rr st x y z g hc hf hf' hx hl
    obtain ⟨f, rfl⟩ := gsucc hf
    obtain ⟨f', rfl⟩ := gsucc hf'
    have hv : 1 ≤ 6 - (c + 1) ∧ 6 - (c + 1) ≤ 5 := by omega
    have hwv := wf_r hw hv
    obtain ⟨t1, e1, r1⟩ := c_as (t := t) hS hw
    obtain ⟨t2, e2, r2, w2, z2⟩ := c_goes (xi := xi) (over := 0) (r1.r (v := 6 - (c + 1))) hwv (by decide)
    obtain ⟨st1, m1, k1, q1⟩ := m_copies (τ := mx τ st x y z g) (a := 0) (b := 140) (by decide) (by decide) (by decide)
    rw [mx_s] at m1
    rw [mx__state] at k1 q1
    have hR1 : gRM 140 st1 P := (gLo.R hM.R hl).cp k1
    have hR2 : gRM 140 (upd st1 157 (i3 (6 - (c + 1)) - i3 2)) (P_r_s P (6 - (c + 1))) := gRM.r hR1
    have hl2 : gLo (M_state τ) (upd st1 157 (i3 (6 - (c + 1)) - i3 2)) := (hl.tr (q1.lo (by decide))).tr (gLo.up (by decide))
    obtain ⟨st3, e3, r3, f3⟩ := m_goes (over := 0) (mx_on (x := x) (y := y) (z := z) (g := g) hM hR2 rfl (by decide)) ⟨hwv, _, r1.r (v := 6 - (c + 1))⟩ (by decide) (by decide)
    rw [mx_qtm] at e3
    rw [mx__state] at f3
    have hl3 := hl2.tr (f3.lo (by decide))
    have hM3 := mx_on (x := i3 (sp_goes (P_r_s P (6 - (c + 1))) 0).2.1) (y := i3 (sp_goes (P_r_s P (6 - (c + 1))) 0).2.2.1) (z := ovl (sp_goes (P_r_s P (6 - (c + 1))) 0).2.2.2) (g := g) hM r3 (sp_goes_n (P_r_s P (6 - (c + 1))) 0) (by decide)
    have e4 := m_waiting hM3 w2.n
    generalize sp_goes (P_r_s P (6 - (c + 1))) 0 = Z at *
    have hwl := waiting_lt w2.n
    simp only [f_X0_enough_b2, f_X7_enough_b2]
    rw [if_neg (by rw [i3_5, i3_lt (by omega) (by omega)]; omega), if_neg (by rw [i3_5, i3_lt (by omega) (by omega)]; omega)]
    have e1 : f_X5_as (X_tried (sx σ xi t rr), X_now (sx σ xi t rr)) = some (t1, X_now σ) := e1
    rw [e1]
    simp only [g3_b, g3_s, sx_t, sx_n, sx__xi, sx__tried]
    have e2 : f_X0_goes (xi, S_room_s t1 (i3 (6 - (c + 1)))) 0 = some (qxi xi Z, t2) := e2
    rw [e2]
    simp only [g3_b, g3_s, sx_t, sx_x, sx__tried]
    rw [c_waiting r2 w2.n]
    simp only [g3_b, g3_s, sx_t]
    have m1 : f_X7_copies (mx τ st x y z g) 0 140 = some (mx τ st1 x y z g) := m1
    rw [m1]
    simp only [g3_b, mx__state]
    rw [i3_157, i3_2, g3_st (by decide) (by decide)]
    simp only [g3_s, mx_s]
    have e3 : f_X7_planGoes (mx τ (upd st1 157 (i3 (6 - (c + 1)) - i3 2)) x y z g) 140 0 = some (mx τ st3 (i3 Z.2.1) (i3 Z.2.2.1) (ovl Z.2.2.2) g) := e3
    rw [e3]
    simp only [g3_b]
    have e4 : f_X7_waitingOn (mx τ st3 (i3 Z.2.1) (i3 Z.2.2.1) (ovl Z.2.2.2) g) 112 = some (i3 (sp_waiting Z.1), mx τ st3 (i3 Z.2.1) (i3 Z.2.2.1) (ovl Z.2.2.2) g) := e4
    rw [e4]
    simp only [g3_b]
    by_cases ew : sp_waiting Z.1 = 0
    · rw [ew, if_pos (by decide), if_pos (by decide)]
      exact ⟨_, _, _, _, _, _, _, _, _, rfl, rfl, hx.tr (gXq.q _ _), hl3⟩
    · have hne : ¬ i3 (sp_waiting Z.1) = 0 := by rw [i3_0, i3_eq (by omega) (by decide)]; exact ew
      rw [if_neg hne, if_neg hne, g3_v, g3_v, i3_1, i3_add, show 6 - (c + 1) + 1 = 6 - c by omega]
      exact ih f f' _ _ _ _ _ _ _ _ (by omega) (by omega) (by omega) (hx.tr (gXq.q _ _)) hl3
theorem z_enough {σ : gX} {τ : gM} (h : gRZ σ τ) : gOK σ τ (f_X0_enough σ) (f_X7_enough τ) := by
  obtain ⟨P, h0⟩ := h
  exact (c_enough_b h0 5 2000 2000 (X_xi σ) (X_tried σ) (X_row σ) (M_state τ) (M_weptBits τ) (M_weptTimes τ) (M_firstNot τ) (M_goneBy τ) (by decide) (by decide) (by decide) gXq.rf gLo.rf).ok h0
