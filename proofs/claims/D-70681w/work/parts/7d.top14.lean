set_option maxRecDepth 100000
set_option maxHeartbeats 400000
theorem okd_all (ok : Nat → Bool) : ∀ k i, okd ok k i = true ↔ ∀ j, i ≤ j → j < i + k → ok j = true
  | 0, i => ⟨fun _ j h1 h2 => by omega, fun _ => rfl⟩
  | k + 1, i => by
    show (ok i && okd ok k (i + 1)) = true ↔ _
    rw [Bool.and_eq_true, okd_all ok k (i + 1)]
    constructor
    · rintro ⟨h1, h2⟩ j h3 h4
      by_cases e : j = i
      · rw [e]; exact h1
      · exact h2 j (by omega) (by omega)
    · exact fun h => ⟨h i (by omega) (by omega), fun j h1 h2 => h j (by omega) (by omega)⟩
theorem vld_okd {n N c : Nat} {mi : Bool} (h : vld n mi N c = (List.range N).all (fun i => vdg n mi (dig (bmo mi) N c i))) : okd (fun i => vdg n mi (dig (bmo mi) N c i)) N 0 = vld n mi N c := by
  rw [h, Bool.eq_iff_iff, okd_all, List.all_eq_true]
  constructor
  · intro hh i hi
    exact hh i (by omega) (by have := List.mem_range.mp hi; omega)
  · intro hh j h1 h2
    exact hh j (List.mem_range.mpr (by omega))
theorem okact_6 {P : gP} {N c j : Nat} (hj : j < N) : (vdg (P_n P) true (dig 6 N c j) = true ↔ okact P (dig 6 N c j)) := by
  have : dig 6 N c j < 6 := Nat.mod_lt _ (by decide)
  unfold vdg okact
  simp
  omega
theorem rowZ_congr {d d' : Nat → Nat} {N : Nat} {Z : gQ} (h : ∀ i, i < N → d i = d' i) : rowZ d N 0 Z = rowZ d' N 0 Z := fo_congr _ _ _ (fun p _ hp => by rw [h p (by omega)])
theorem pw6 {N : Nat} (h : N < 5) : 6 ^ N ≤ 1296 := pow_b 6 (by decide) N h
theorem c_best_out {σ : gX} {τ : gM} {P : gP} {N : Nat} {w : Int32} (h0 : gRZp σ τ P) (hN : N < 5) (hwh : w = i3 0 ∨ w = i3 1 ∨ ∃ q, 10 ≤ q ∧ q ≤ 13 ∧ w = i3 q) : ∀ K fuel fuel' xi t rr st x y z g mo ti fd wh c, c + K = 6 ^ N → (P_n P + 1) ^ N - rk (P_n P) true N c < fuel → K < fuel' → fd < 2147483648 → wh < 2147483648 → gXq (X_xi σ) xi → gLo (M_state τ) st → ((mo = -1 ∧ rk (P_n P) true N c = 0) ∨ ∀ i, i < N → actC (P_n P) (dig (P_n P + 1) N fd i) = dig 6 N wh i) →
    gScr σ τ (f_X0_best_b51 fuel (sx σ xi t rr) (i3 N) w mo ti (i3 fd) (i3 (P_n P + 1)) (i3 (rk (P_n P) true N c))) (f_X7_best_b49 fuel' (mx τ st x y z g) (i3 N) w mo ti (i3 wh) (i3 c)) := by
  obtain ⟨hw, hS, hM, -⟩ := id h0
  have hn := hw.n
  have h6 := pw6 hN
  have hB := pow_b (P_n P + 1) (by omega) N hN
  intro K
  induction K with
  | zero =>
    intro fuel fuel' xi t rr st x y z g mo ti fd wh c hc hf hf' hfd hwd hx hl hrel
    obtain ⟨f, rfl⟩ := gsucc hf
    obtain ⟨f', rfl⟩ := gsucc hf'
    have hc6 : c = 6 ^ N := by omega
    have hrk : rk (P_n P) true N c = (P_n P + 1) ^ N := by rw [hc6]; exact rk_61 _ (by omega) _ hN
    have hpos : 0 < (P_n P + 1) ^ N := Nat.pow_pos (by omega)
    have hrel : ∀ i, i < N → actC (P_n P) (dig (P_n P + 1) N fd i) = dig 6 N wh i := by
      rcases hrel with ⟨-, h⟩ | h
      · rw [hrk] at h; omega
      · exact h
    simp only [f_X0_best_b51, f_X7_best_b49]
    rw [c_pow (P_n P + 1) (by omega) N hN, i3_6, m_pow 6 (by decide) N hN]
    simp only [g3_b]
    rw [if_pos (by rw [hrk, i3_le (by omega) (by omega)]; omega), if_pos (by rw [i3_le (by omega) (by omega)]; omega), c_row (by omega) (by omega) hN hfd]
    simp only [g3_b]
    rcases hwh with rfl | rfl | ⟨q, q1, q2, rfl⟩
    · rw [if_pos (by decide), if_pos (by decide)]
      exact ⟨_, _, _, _, _, _, _, _, _, rfl, rfl, hx, hl⟩
    · have e0 : ¬ i3 1 = 0 := by decide
      have e1 : i3 1 = 1 := rfl
      rw [if_neg e0, if_neg e0, if_pos e1, if_pos e1]
      exact ⟨_, _, _, _, _, _, _, _, _, rfl, rfl, hx, hl⟩
    · have e0 : ¬ i3 q = 0 := by rw [i3_0, i3_eq (by omega) (by decide)]; omega
      have e1 : ¬ i3 q = 1 := by rw [i3_1, i3_eq (by omega) (by decide)]; omega
      rw [if_neg e0, if_neg e0, if_neg e1, if_neg e1, i3_10, i3_sub (by omega), if3_le (by omega) (by omega), if3_le (by omega) (by omega)]
      by_cases e : N ≤ q - 10
      · rw [if_pos e, if_pos e]
        exact ⟨_, _, _, _, _, _, _, _, _, rfl, rfl, hx, hl⟩
      · rw [if_neg e, if_neg e, c_rowAct hS hn (by omega) (by omega) hN (by omega), m_fig (by decide) (by decide) hN (by omega) hwd, hrel _ (by omega)]
        exact ⟨_, _, _, _, _, _, _, _, _, rfl, rfl, hx, hl⟩
  | succ K ih =>
    intro fuel fuel' xi t rr st x y z g mo ti fd wh c hc hf hf' hfd hwd hx hl hrel
    obtain ⟨f', rfl⟩ := gsucc hf'
    have hc6 : c < 6 ^ N := by omega
    have hr2 := rk_62 (P_n P) (by omega) N hN c hc6
    have hr3 := rk_63 (P_n P) (by omega) N hN c hc6
    obtain ⟨st1, x1, y1, z1, m1, l1, hh⟩ := m_rowg (x := x) (y := y) (z := z) (g := g) (B := 6) (N := N) (c := c) (ok := fun i => vdg (P_n P) true (dig 6 N c i)) hS hw hM (by decide) (by decide) hN (by omega) (fun j hj => okact_6 hj) hl
    have hvo : okd (fun i => vdg (P_n P) true (dig 6 N c i)) N 0 = vld (P_n P) true N c := vld_okd (mi := true) (vld_6 (P_n P) (by omega) N hN c hc6)
    rw [hvo] at m1 hh
    have hMo : f_X7_best_b49 (f' + 1) (mx τ st x y z g) (i3 N) w mo ti (i3 wh) (i3 c) = ((f_X7_rowGoes (mx τ st x y z g) (i3 c) 6 (i3 N)).bind fun (r11, u12) => if r11 = 0 then (f_X7_best_b151 (f_X7_best_b49 f') u12 (i3 N) w mo ti (i3 wh) (i3 c)) else ((f_X7_bitsOf (M_weptBits u12)).bind fun (r13, _) => if mo < r13 then (f_X7_best_b102 (f_X7_best_b49 f') u12 (i3 N) w mo ti (i3 wh) (i3 c) r13) else (if r13 = mo then (if (M_weptTimes u12) ≤ ti then (f_X7_best_b106 (f_X7_best_b49 f') u12 (i3 N) w mo ti (i3 wh) (i3 c) r13) else (f_X7_best_b102 (f_X7_best_b49 f') u12 (i3 N) w mo ti (i3 wh) (i3 c) r13)) else (f_X7_best_b106 (f_X7_best_b49 f') u12 (i3 N) w mo ti (i3 wh) (i3 c) r13)))) := by
      simp only [f_X7_best_b49]
      rw [show f_X7_powerOf 6 (i3 N) = _ from m_pow 6 (by decide) N hN]
      simp only [g3_b]
      rw [if_neg (by rw [i3_le (by omega) (by omega)]; omega)]
    rw [hMo, show f_X7_rowGoes (mx τ st x y z g) (i3 c) 6 (i3 N) = _ from m1]
    simp only [g3_b]
    cases hv : vld (P_n P) true N c
    · rw [hv] at hr2
      have hr2 : rk (P_n P) true N (c + 1) = rk (P_n P) true N c := hr2
      rw [if_pos (by decide)]
      unfold f_X7_best_b151
      rw [g3_v, i3_1, i3_add, ← hr2]
      refine ih fuel f' xi t rr st1 x1 y1 z1 g mo ti fd wh (c + 1) (by omega) (by rw [hr2]; exact hf) (by omega) hfd hwd hx l1 ?_
      rw [hr2]
      exact hrel
    · rw [hv] at hr2
      have hr2 : rk (P_n P) true N (c + 1) = rk (P_n P) true N c + 1 := hr2
      have hr4 := rk_64 (P_n P) (by omega) N hN c hc6 hv
      have hr5 := rk_65 (P_n P) (by omega) N hN c hc6 hv
      obtain ⟨f, rfl⟩ := gsucc hf
      obtain ⟨hx1, hy1, hR1, hn1, hp1, hz1⟩ := hh hv
      have hokc : ∀ j, j < N → okact P (actC (P_n P) (dig (P_n P + 1) N (rk (P_n P) true N c) j)) := fun j hj => by
        rw [hr5 j hj]
        have := (okd_all (fun i => vdg (P_n P) true (dig 6 N c i)) N 0).mp (by rw [hvo]; exact hv) j (by omega) (by omega)
        exact (okact_6 hj).mp this
      have hZe : rowZ (fun j => actC (P_n P) (dig (P_n P + 1) N (rk (P_n P) true N c) j)) N 0 (P, 0, 0, none) = rowZ (dig 6 N c) N 0 (P, 0, 0, none) := rowZ_congr hr5
      obtain ⟨t1, e1, r1⟩ := c_asx (xi := xi) (t := t) (rr := rowF (P_n P + 1) N (rk (P_n P) true N c) rr) hS hw
      obtain ⟨t2, e2⟩ := c_best_in (rr := rr) (xi := xi) (w := w) (mo := mo) (ti := ti) (fd := i3 fd) (m := rk (P_n P) true N c) hS hn (show 0 < P_n P + 1 by omega) (by omega) hN (by omega) hokc (k51 := f_X0_best_b51 f) N 2000 0 t1 (P, 0, 0, none) (by omega) (by omega) r1 hw rfl (show 0 < 32 by decide)
      rw [hZe] at e2
      have hCo : f_X0_best_b51 (f + 1) (sx σ xi t rr) (i3 N) w mo ti (i3 fd) (i3 (P_n P + 1)) (i3 (rk (P_n P) true N c)) = f_X0_best_b89 (f_X0_best_b51 f) 2000 (sx σ (qxi xi (P, 0, 0, none)) t1 (rowF (P_n P + 1) N (rk (P_n P) true N c) rr)) (i3 N) w mo ti (i3 fd) (i3 (P_n P + 1)) (i3 (rk (P_n P) true N c)) 0 := by
        simp only [f_X0_best_b51]
        rw [c_pow (P_n P + 1) (by omega) N hN]
        simp only [g3_b]
        rw [if_neg (by rw [i3_le (by omega) (by omega)]; omega), c_row (by omega) (by omega) hN (by omega)]
        simp only [g3_b]
        rw [e1]
        simp only [g3_b, g3_s, sx_t, sx_n, sx__xi]
        rw [show f_X0_begins xi = some (qxi xi (P, 0, 0, none)) from rfl]
        simp only [g3_b, g3_s, sx_x]
      rw [hCo, show f_X0_best_b89 (f_X0_best_b51 f) 2000 (sx σ (qxi xi (P, 0, 0, none)) t1 (rowF (P_n P + 1) N (rk (P_n P) true N c) rr)) (i3 N) w mo ti (i3 fd) (i3 (P_n P + 1)) (i3 (rk (P_n P) true N c)) 0 = _ from e2]
      rw [if_neg (show ¬ bI true = 0 by decide), mx__weptBits, mx__weptTimes, hx1, hy1, m_bits hz1]
      simp only [g3_b]
      have hyes : ∀ r13, f_X7_best_b102 (f_X7_best_b49 f') (mx τ st1 (i3 (rowZ (dig 6 N c) N 0 (P, 0, 0, none)).2.1) (i3 (rowZ (dig 6 N c) N 0 (P, 0, 0, none)).2.2.1) z1 g) (i3 N) w mo ti (i3 wh) (i3 c) r13 = f_X7_best_b49 f' (mx τ st1 (i3 (rowZ (dig 6 N c) N 0 (P, 0, 0, none)).2.1) (i3 (rowZ (dig 6 N c) N 0 (P, 0, 0, none)).2.2.1) z1 g) (i3 N) w r13 (i3 (rowZ (dig 6 N c) N 0 (P, 0, 0, none)).2.2.1) (i3 c) (i3 (c + 1)) := by
        intro r13
        unfold f_X7_best_b102 f_X7_best_b107 f_X7_best_b121 f_X7_best_b134 f_X7_best_b149 f_X7_best_b151
        rw [if_neg n10, if_neg n10, if_neg n10, g3_v, i3_1, i3_add, mx__weptTimes]
      have hno : ∀ r13, f_X7_best_b106 (f_X7_best_b49 f') (mx τ st1 (i3 (rowZ (dig 6 N c) N 0 (P, 0, 0, none)).2.1) (i3 (rowZ (dig 6 N c) N 0 (P, 0, 0, none)).2.2.1) z1 g) (i3 N) w mo ti (i3 wh) (i3 c) r13 = f_X7_best_b49 f' (mx τ st1 (i3 (rowZ (dig 6 N c) N 0 (P, 0, 0, none)).2.1) (i3 (rowZ (dig 6 N c) N 0 (P, 0, 0, none)).2.2.1) z1 g) (i3 N) w mo ti (i3 wh) (i3 (c + 1)) := by
        intro r13
        unfold f_X7_best_b106 f_X7_best_b107 f_X7_best_b121 f_X7_best_b134 f_X7_best_b149 f_X7_best_b151
        rw [if_pos rfl, if_pos rfl, if_pos rfl, g3_v, i3_1, i3_add]
      rw [hyes, hno]
      generalize rowZ (dig 6 N c) N 0 (P, 0, 0, none) = Z at *
      have hgo : (if mo < i3 (pc5 Z.2.1) then (f_X7_best_b49 f' (mx τ st1 (i3 Z.2.1) (i3 Z.2.2.1) z1 g) (i3 N) w (i3 (pc5 Z.2.1)) (i3 Z.2.2.1) (i3 c) (i3 (c + 1))) else (if i3 (pc5 Z.2.1) = mo then (if i3 Z.2.2.1 ≤ ti then (f_X7_best_b49 f' (mx τ st1 (i3 Z.2.1) (i3 Z.2.2.1) z1 g) (i3 N) w mo ti (i3 wh) (i3 (c + 1))) else (f_X7_best_b49 f' (mx τ st1 (i3 Z.2.1) (i3 Z.2.2.1) z1 g) (i3 N) w (i3 (pc5 Z.2.1)) (i3 Z.2.2.1) (i3 c) (i3 (c + 1)))) else (f_X7_best_b49 f' (mx τ st1 (i3 Z.2.1) (i3 Z.2.2.1) z1 g) (i3 N) w mo ti (i3 wh) (i3 (c + 1))))) = (if bet mo ti (i3 (pc5 Z.2.1)) (i3 Z.2.2.1) then (f_X7_best_b49 f' (mx τ st1 (i3 Z.2.1) (i3 Z.2.2.1) z1 g) (i3 N) w (i3 (pc5 Z.2.1)) (i3 Z.2.2.1) (i3 c) (i3 (c + 1))) else (f_X7_best_b49 f' (mx τ st1 (i3 Z.2.1) (i3 Z.2.2.1) z1 g) (i3 N) w mo ti (i3 wh) (i3 (c + 1)))) := by
        unfold bet
        by_cases e1 : mo < i3 (pc5 Z.2.1)
        · rw [if_pos e1, decide_eq_true e1, Bool.true_or, if_pos rfl]
        · rw [if_neg e1, decide_eq_false e1, Bool.false_or]
          by_cases e2 : i3 (pc5 Z.2.1) = mo
          · rw [if_pos e2, decide_eq_true e2, Bool.true_and]
            by_cases e3 : i3 Z.2.2.1 ≤ ti
            · rw [if_pos e3, decide_eq_true e3]; rfl
            · rw [if_neg e3, decide_eq_false e3]; rfl
          · rw [if_neg e2, decide_eq_false e2, Bool.false_and]; rfl
      rw [hgo]
      have hpc := pc5_5 Z.2.1
      cases hb : bet mo ti (i3 (pc5 Z.2.1)) (i3 Z.2.2.1)
      · rw [if_neg (by decide), if_neg (by decide), ← hr2]
        refine ih f f' _ _ _ _ _ _ _ _ _ _ _ _ (c + 1) (by omega) (by omega) (by omega) hfd hwd (hx.tr (gXq.q _ _)) l1 ?_
        rcases hrel with ⟨hm, -⟩ | hrel
        · exfalso
          unfold bet at hb
          rw [hm, decide_eq_true (show (-1 : Int32) < i3 (pc5 Z.2.1) by rw [i3_1, i3_ngl (by decide) (by omega) (by decide)]; trivial)] at hb
          cases hb
        · exact .inr hrel
      · rw [if_pos rfl, if_pos rfl, ← hr2]
        exact ih f f' _ _ _ _ _ _ _ _ _ _ _ _ (c + 1) (by omega) (by omega) (by omega) (by omega) (by omega) (hx.tr (gXq.q _ _)) l1 (.inr hr5)
theorem z_best {σ : gX} {τ : gM} {x y : Int32} (h : gRZ σ τ) : gOK σ τ (f_X0_best σ x y) (f_X7_best τ x y) := by
  obtain ⟨P, hh⟩ := h
  have h0 := hh
  obtain ⟨hw, hS, hM, -⟩ := hh
  have hn := hw.n
  unfold f_X0_best f_X7_best
  rcases in_lit (x := x) (lo := 0) (hi := 4) (a := 0) (b := 4) rfl rfl with ⟨N, -, hN, rfl, f1, f2⟩ | ⟨f1, f2, -⟩
  · rw [f1, f2]
    simp only [g3_b]
    rw [if_neg n10, if_neg n10]
    have key : (y = i3 0 ∨ y = i3 1 ∨ ∃ q, 10 ≤ q ∧ q ≤ 13 ∧ y = i3 q) → gOK σ τ (f_X0_best_b29 σ (i3 N) y) (f_X7_best_b38 τ (i3 N) y) := by
      intro hy
      unfold f_X0_best_b29 f_X7_best_b38
      rw [g3_v, hS.hn, i3_1, i3_add]
      have hp := pw6 (show N < 5 by omega)
      have hp2 := pow_b (P_n P + 1) (by omega) N (by omega)
      have hr0 := rk_60 (P_n P) (by omega) N (by omega)
      have := c_best_out (w := y) h0 (show N < 5 by omega) hy (6 ^ N) 2000 2000 (X_xi σ) (X_tried σ) (X_row σ) (M_state τ) (M_weptBits τ) (M_weptTimes τ) (M_firstNot τ) (M_goneBy τ) (-1) (-1) 0 0 0 (by omega) (by omega) (by omega) (by decide) (by decide) gXq.rf gLo.rf (.inl ⟨rfl, hr0⟩)
      rw [hr0] at this
      exact this.ok h0
    rcases isPart2 (x := y) with ⟨w, w1, rfl, e1, e2⟩ | ⟨e1, e2, e3⟩
    · rw [e1, e2]
      simp only [g3_b]
      rw [if_neg n10, if_neg n10]
      have w2 : w = 0 ∨ w = 1 := by omega
      rcases w2 with rfl | rfl
      · exact key (.inl rfl)
      · exact key (.inr (.inl rfl))
    · rw [e1, e2]
      simp only [g3_b]
      unfold f_X0_isRowPart
      rcases in_lit (x := y) (lo := 10) (hi := 13) (a := 10) (b := 13) rfl rfl with ⟨q, q1, q2, rfl, g1, g2⟩ | ⟨g1, g2, -⟩
      · rw [show f_X0_in (i3 q).toInt64 10 ((((10 : Int32) + 4) - 1).toInt64) = some (1, ()) from g1, g2]
        exact key (.inr (.inr ⟨q, q1, q2, rfl⟩))
      · rw [show f_X0_in y.toInt64 10 ((((10 : Int32) + 4) - 1).toInt64) = some (0, ()) from g1, g2]
        exact gOK.rf _ h0
  · rw [f1, f2]
    exact gOK.rf _ h0
