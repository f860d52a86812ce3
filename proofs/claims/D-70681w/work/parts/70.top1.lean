set_option maxRecDepth 100000
set_option maxHeartbeats 400000
/-! THE PLAIN LAW: the two systems hold one state -/
def gRk (σ : gX) (τ : gM) (P : gP) : Prop := ∃ k0 k1 : Bool, I_kept (X_xi σ) = i3 ((if k0 then 1 else 0) + (if k1 then 2 else 0)) ∧ M_isKept τ 0 = i3 (if k0 then 1 else 0) ∧ M_isKept τ 1 = i3 (if k1 then 1 else 0) ∧
  (k0 = true → ∃ Q, gWF Q ∧ P_n Q = P_n P ∧ gRS (X_im0 σ) Q ∧ gRM 28 (M_state τ) Q) ∧ (k1 = true → ∃ Q, gWF Q ∧ P_n Q = P_n P ∧ gRS (X_im1 σ) Q ∧ gRM 56 (M_state τ) Q)
def gRs (σ : gX) (τ : gM) (P : gP) : Prop := ∃ sm : Nat, sm ≤ 6 ∧ I_seenMany (X_xi σ) = i3 sm ∧ M_seenMany τ = i3 sm ∧ ∀ j, j < sm → (∃ q, q < P_n P ∧ X_seen σ (2 * j) = i3 q ∧ M_seen τ (2 * j) = i3 q) ∧ ∃ v : Bool, X_seen σ (2 * j + 1) = i3 (if v then 1 else 0) ∧ M_seen τ (2 * j + 1) = i3 (if v then 1 else 0)
def gRtp (σ : gX) (τ : gM) : Prop := ∃ tp : Nat, tp ≤ 160 ∧ I_taped (X_xi σ) = i3 tp ∧ M_taped τ = i3 tp ∧ ∀ j, j < tp → ∃ c, c < 128 ∧ X_tape σ j = i3 c ∧ M_tape τ j = i3 c
def gCu : List Nat := [0, 5, 9, 13, 16, 20, 25, 29]
def gLe : List Nat := [112, 108, 97, 105, 110, 115, 111, 102, 116, 115, 104, 97, 109, 100, 114, 121, 114, 111, 111, 109, 116, 104, 105, 110, 107, 112, 108, 97, 110]
def gRe (σ : gX) (τ : gM) : Prop := I_fault (X_xi σ) = M_fault τ ∧ I_torn (X_xi σ) = M_torn τ ∧ (∀ j, j < 8 → M_cuts τ j = i3 (gCu.getD j 0)) ∧ ∀ j, j < 29 → M_letters τ j = i3 (gLe.getD j 0)
def gRZp (σ : gX) (τ : gM) (P : gP) : Prop := gWF P ∧ gRS (X_now σ) P ∧ gMO 0 P τ ∧ gRk σ τ P ∧ gRs σ τ P ∧ gRtp σ τ ∧ gRe σ τ
def gRZ (σ : gX) (τ : gM) : Prop := ∃ P, gRZp σ τ P
/-- the sheets are as they were -/
def gSame (σ u : gX) (τ v : gM) : Prop := X_rw u = X_rw σ ∧ M_lanes v = M_lanes τ ∧ M_lengths v = M_lengths τ ∧ M_cells v = M_cells τ
def gOK {R : Type} (σ : gX) (τ : gM) (a : Option (R × gX)) (b : Option (R × gM)) : Prop := ∃ r u v, a = some (r, u) ∧ b = some (r, v) ∧ gRZ u v ∧ gSame σ u τ v
/-- all but the page is as it was -/
def gKk (σ u : gX) (τ v : gM) : Prop := I_kept (X_xi u) = I_kept (X_xi σ) ∧ M_isKept v = M_isKept τ ∧ X_im0 u = X_im0 σ ∧ X_im1 u = X_im1 σ ∧ ∀ j, 28 ≤ j → j < 84 → M_state v j = M_state τ j
def gKs (σ u : gX) (τ v : gM) : Prop := I_seenMany (X_xi u) = I_seenMany (X_xi σ) ∧ M_seenMany v = M_seenMany τ ∧ X_seen u = X_seen σ ∧ M_seen v = M_seen τ
def gKt (σ u : gX) (τ v : gM) : Prop := I_taped (X_xi u) = I_taped (X_xi σ) ∧ M_taped v = M_taped τ ∧ X_tape u = X_tape σ ∧ M_tape v = M_tape τ
def gKe (σ u : gX) (τ v : gM) : Prop := I_fault (X_xi u) = I_fault (X_xi σ) ∧ M_fault v = M_fault τ ∧ I_torn (X_xi u) = I_torn (X_xi σ) ∧ M_torn v = M_torn τ ∧ M_cuts v = M_cuts τ ∧ M_letters v = M_letters τ
def gKeep (σ u : gX) (τ v : gM) : Prop := gKk σ u τ v ∧ gKs σ u τ v ∧ gKt σ u τ v ∧ gKe σ u τ v ∧ gSame σ u τ v
theorem gMO.to {b : Nat} {P : gP} {τ v : gM} (h : gMO b P τ) (h1 : M_oneMany v = M_oneMany τ) (h2 : M_brims v = M_brims τ) (h3 : M_state v = M_state τ) : gMO b P v := ⟨by rw [h1]; exact h.1, by rw [h2]; exact h.2.1, by rw [h3]; exact h.2.2.1, h.2.2.2⟩
theorem gRM.eq {b : Nat} {st st' : Nat → Int32} {P : gP} (h : gRM b st P) (e : ∀ j, b ≤ j → j < b + 28 → st' j = st j) : gRM b st' P := h.cp (fun k hk => e _ (by omega) (by omega))
theorem gRk.to {σ u : gX} {τ v : gM} {P P' : gP} (h : gRk σ τ P) (k : gKk σ u τ v) (hn : P_n P' = P_n P) : gRk u v P' := by
  obtain ⟨k0, k1, h1, h2, h3, h4, h5⟩ := h
  obtain ⟨a1, a2, a3, a4, a5⟩ := k
  refine ⟨k0, k1, by rw [a1]; exact h1, by rw [a2]; exact h2, by rw [a2]; exact h3, fun e => ?_, fun e => ?_⟩
  · obtain ⟨Q, q1, q2, q3, q4⟩ := h4 e
    exact ⟨Q, q1, q2.trans hn.symm, by rw [a3]; exact q3, q4.eq (fun j j1 j2 => a5 j (by omega) (by omega))⟩
  · obtain ⟨Q, q1, q2, q3, q4⟩ := h5 e
    exact ⟨Q, q1, q2.trans hn.symm, by rw [a4]; exact q3, q4.eq (fun j j1 j2 => a5 j (by omega) (by omega))⟩
theorem gRs.to {σ u : gX} {τ v : gM} {P P' : gP} (h : gRs σ τ P) (k : gKs σ u τ v) (hn : P_n P' = P_n P) : gRs u v P' := by
  obtain ⟨sm, h1, h2, h3, h4⟩ := h
  obtain ⟨a1, a2, a3, a4⟩ := k
  refine ⟨sm, h1, by rw [a1]; exact h2, by rw [a2]; exact h3, fun j hj => ?_⟩
  rw [a3, a4, hn]
  exact h4 j hj
theorem gRtp.to {σ u : gX} {τ v : gM} (h : gRtp σ τ) (k : gKt σ u τ v) : gRtp u v := by
  obtain ⟨tp, h1, h2, h3, h4⟩ := h
  obtain ⟨a1, a2, a3, a4⟩ := k
  refine ⟨tp, h1, by rw [a1]; exact h2, by rw [a2]; exact h3, fun j hj => ?_⟩
  rw [a3, a4]
  exact h4 j hj
theorem gRe.to {σ u : gX} {τ v : gM} (h : gRe σ τ) (k : gKe σ u τ v) : gRe u v := by
  obtain ⟨h1, h2, h3, h4⟩ := h
  obtain ⟨a1, a2, a3, a4, a5, a6⟩ := k
  exact ⟨by rw [a1, a2]; exact h1, by rw [a3, a4]; exact h2, by rw [a5]; exact h3, by rw [a6]; exact h4⟩
/-- a new page, all else as it was -/
theorem gOK.page {R : Type} {σ u : gX} {τ v : gM} {P P' : gP} {a : Option (R × gX)} {b : Option (R × gM)} (r : R) (h : gRZp σ τ P) (ha : a = some (r, u)) (hb : b = some (r, v)) (hw : gWF P') (hS : gRS (X_now u) P') (hM : gMO 0 P' v) (hn : P_n P' = P_n P) (k : gKeep σ u τ v) : gOK σ τ a b :=
  ⟨r, u, v, ha, hb, ⟨P', hw, hS, hM, h.2.2.2.1.to k.1 hn, h.2.2.2.2.1.to k.2.1 hn, h.2.2.2.2.2.1.to k.2.2.1, h.2.2.2.2.2.2.to k.2.2.2.1⟩, k.2.2.2.2⟩
theorem gKeep.rf {σ : gX} {τ : gM} : gKeep σ σ τ τ := ⟨⟨rfl, rfl, rfl, rfl, fun _ _ _ => rfl⟩, ⟨rfl, rfl, rfl, rfl⟩, ⟨rfl, rfl, rfl, rfl⟩, ⟨rfl, rfl, rfl, rfl, rfl, rfl⟩, rfl, rfl, rfl, rfl⟩
theorem gOK.rf {R : Type} {σ : gX} {τ : gM} {P : gP} (r : R) (h : gRZp σ τ P) : gOK σ τ (some (r, σ)) (some (r, τ)) := gOK.page r h rfl rfl h.1 h.2.1 h.2.2.1 rfl gKeep.rf
theorem gRZp.pg {σ : gX} {τ : gM} {P : gP} (h : gRZp σ τ P) : isPg P := ⟨h.1, _, h.2.1⟩
/-! the checks of arguments -/
theorem i3_of2 {x : Int32} (h0 : 0 ≤ x.toInt) : ∃ k : Nat, (k : Int) = x.toInt ∧ k < 2147483648 ∧ x = i3 k := by
  have hx := x.toInt_lt
  refine ⟨x.toInt.toNat, by omega, by omega, ?_⟩
  apply Int32.toInt_inj.mp
  rw [i3_int (by omega)]
  omega
theorem in_lit {x : Int32} {lo hi : Nat} {a b : Int64} (hl : a.toInt = (lo : Int)) (hh : b.toInt = (hi : Int)) : (∃ k, lo ≤ k ∧ k ≤ hi ∧ x = i3 k ∧ f_X0_in x.toInt64 a b = some (1, ()) ∧ f_X7_in x.toInt64 a b = some (1, ())) ∨ (f_X0_in x.toInt64 a b = some (0, ()) ∧ f_X7_in x.toInt64 a b = some (0, ()) ∧ ∀ k, k < 2147483648 → x = i3 k → ¬ (lo ≤ k ∧ k ≤ hi)) := by
  rw [g3_inX0, g3_inX7, hl, hh]
  by_cases e : (lo : Int) ≤ x.toInt ∧ x.toInt ≤ (hi : Int)
  · obtain ⟨k, hk, hb, hx⟩ := i3_of2 (x := x) (by omega)
    left
    rw [if_pos e]
    exact ⟨k, by omega, by omega, hx, rfl, rfl⟩
  · right
    rw [if_neg e]
    refine ⟨rfl, rfl, fun k hk hx hc => e ?_⟩
    rw [hx, i3_int hk]
    omega
theorem i3_pred {n : Nat} (h : n < 2147483648) : (i3 n - 1).toInt64.toInt = (n : Int) - 1 := by
  rw [Int32.toInt_toInt64, i3_1]
  cases n with
  | zero => rw [i3_decs, i3_negint (by decide)]; omega
  | succ n => rw [i3_sub (by omega), i3_int (by omega)]; omega
theorem in_pred {x : Int32} {n : Nat} (hn : n < 2147483648) : (∃ p, p < n ∧ x = i3 p ∧ f_X0_in x.toInt64 0 ((i3 n - 1).toInt64) = some (1, ()) ∧ f_X7_in x.toInt64 0 ((i3 n - 1).toInt64) = some (1, ())) ∨ (f_X0_in x.toInt64 0 ((i3 n - 1).toInt64) = some (0, ()) ∧ f_X7_in x.toInt64 0 ((i3 n - 1).toInt64) = some (0, ()) ∧ ∀ k, k < 2147483648 → x = i3 k → ¬ k < n) := by
  rw [g3_inX0, g3_inX7, i3_pred hn, show (0 : Int64).toInt = 0 from rfl]
  by_cases e : 0 ≤ x.toInt ∧ x.toInt ≤ (n : Int) - 1
  · obtain ⟨k, hk, hb, hx⟩ := i3_of2 (x := x) e.1
    left
    rw [if_pos e]
    exact ⟨k, by omega, hx, rfl, rfl⟩
  · right
    rw [if_neg e]
    refine ⟨rfl, rfl, fun k hk hx hc => e ?_⟩
    rw [hx, i3_int hk]
    omega
theorem isOne2 {σ : gX} {τ : gM} {P : gP} {x : Int32} (hn : P_n P ≤ 5) (hS : gRS (X_now σ) P) (hM : gMO 0 P τ) : (∃ p, p < P_n P ∧ x = i3 p ∧ f_X0_isOne σ x = some (1, σ) ∧ f_X7_isOne τ x = some (1, τ)) ∨ (f_X0_isOne σ x = some (0, σ) ∧ f_X7_isOne τ x = some (0, τ) ∧ ∀ k, k < 2147483648 → x = i3 k → ¬ k < P_n P) := by
  unfold f_X0_isOne f_X7_isOne
  rw [hS.hn, hM.hn]
  rcases in_pred (x := x) (n := P_n P) (by omega) with ⟨p, h1, h2, h3, h4⟩ | ⟨h1, h2, h3⟩
  · left; exact ⟨p, h1, h2, by rw [h3]; rfl, by rw [h4]; rfl⟩
  · right; exact ⟨by rw [h1]; rfl, by rw [h2]; rfl, h3⟩
theorem isAct2 {σ : gX} {τ : gM} {P : gP} {x : Int32} (hn : P_n P ≤ 5) (hS : gRS (X_now σ) P) (hM : gMO 0 P τ) : (∃ a, okact P a ∧ x = i3 a ∧ f_X0_isAct σ x = some (1, σ) ∧ f_X7_isAct τ x = some (1, τ)) ∨ (f_X0_isAct σ x = some (0, σ) ∧ f_X7_isAct τ x = some (0, τ) ∧ ∀ k, k < 2147483648 → x = i3 k → ¬ okact P k) := by
  unfold f_X0_isAct f_X7_isAct f_X0_isAct_b19 f_X7_isAct_b19
  rcases isOne2 (x := x) hn hS hM with ⟨p, h1, rfl, h3, h4⟩ | ⟨h1, h2, h3⟩
  · left
    exact ⟨p, .inl h1, rfl, by rw [h3]; rfl, by rw [h4]; rfl⟩
  · rw [h1, h2]
    show (∃ a, okact P a ∧ x = i3 a ∧ (if x = 5 then gzr 1 σ else (if x = 6 then gzr 1 σ else gzr 0 σ)) = some (1, σ) ∧ (if x = 5 then gzr 1 τ else (if x = 6 then gzr 1 τ else gzr 0 τ)) = some (1, τ)) ∨ ((if x = 5 then gzr 1 σ else (if x = 6 then gzr 1 σ else gzr 0 σ)) = some (0, σ) ∧ (if x = 5 then gzr 1 τ else (if x = 6 then gzr 1 τ else gzr 0 τ)) = some (0, τ) ∧ _)
    by_cases e5 : x = 5
    · left
      exact ⟨5, .inr (.inl rfl), e5, by rw [if_pos e5]; rfl, by rw [if_pos e5]; rfl⟩
    · by_cases e6 : x = 6
      · left
        exact ⟨6, .inr (.inr rfl), e6, by rw [if_neg e5, if_pos e6]; rfl, by rw [if_neg e5, if_pos e6]; rfl⟩
      · right
        refine ⟨by rw [if_neg e5, if_neg e6]; rfl, by rw [if_neg e5, if_neg e6]; rfl, fun k hk hx ho => ?_⟩
        rcases ho with ho | rfl | rfl
        · exact h3 k hk hx ho
        · exact e5 hx
        · exact e6 hx
theorem isPart2 {x : Int32} : (∃ w, w ≤ 1 ∧ x = i3 w ∧ f_X0_isPart x = some (1, ()) ∧ f_X7_in x.toInt64 0 1 = some (1, ())) ∨ (f_X0_isPart x = some (0, ()) ∧ f_X7_in x.toInt64 0 1 = some (0, ()) ∧ ∀ k, k < 2147483648 → x = i3 k → ¬ k ≤ 1) := by
  unfold f_X0_isPart
  rcases in_lit (x := x) (lo := 0) (hi := 1) (a := 0) (b := 1) rfl rfl with ⟨k, -, h1, h2, h3, h4⟩ | ⟨h1, h2, h3⟩
  · left; exact ⟨k, h1, h2, by rw [h3]; rfl, h4⟩
  · right; exact ⟨by rw [h1]; rfl, h2, fun k hk hx hc => h3 k hk hx ⟨by omega, hc⟩⟩
/-! the small methods -/
theorem z_feed {σ : gX} {τ : gM} {x : Int32} (h : gRZ σ τ) : gOK σ τ (f_X0_feed σ x) (f_X7_feed τ x) := by
  obtain ⟨P, hh⟩ := h
  have h0 := hh
  obtain ⟨hw, hS, hM, hk, hs, ⟨tp, t1, t2, t3, t4⟩, he⟩ := hh
  unfold f_X0_feed f_X7_feed
  rcases in_lit (x := x) (lo := 0) (hi := 127) (a := 0) (b := 127) rfl rfl with ⟨k, -, hk2, rfl, e1, e2⟩ | ⟨e1, e2, -⟩
  · rw [e1, e2]
    show gOK σ τ (if I_taped (X_xi σ) = 160 then some (-3, σ) else _) (if M_taped τ = 160 then some (-3, τ) else _)
    rw [t2, t3, i3_160, if3_eq (by omega) (by decide), if3_eq (by omega) (by decide)]
    by_cases e : tp = 160
    · rw [if_pos e, if_pos e]
      exact gOK.rf _ h0
    · rw [if_neg e, if_neg e, g3_st (by omega) (by decide), g3_st (by omega) (by decide), i3_byte (by omega)]
      generalize hu : X_xi_s (X_tape_s σ (upd (X_tape σ) tp (i3 k))) (I_taped_s (X_xi σ) (i3 (tp + 1))) = u
      generalize hv : M_taped_s (M_tape_s τ (upd (M_tape τ) tp (i3 k))) (i3 (tp + 1)) = v
      have hkk : gKk σ u τ v := by subst hu hv; unfold gKk; simp only [X_xi__xi, X_now__xi, X_tried__xi, X_im0__xi, X_im1__xi, X_seen__xi, X_tape__xi, X_row__xi, X_rw__xi, X_xi__tape, X_now__tape, X_tried__tape, X_im0__tape, X_im1__tape, X_seen__tape, X_tape__tape, X_row__tape, X_rw__tape, I_kept__taped, I_seenMany__taped, I_weepers__taped, I_often__taped, I_firstOver__taped, I_taped__taped, I_fault__taped, I_goneSum__taped, I_manySum__taped, I_allWays__taped, I_torn__taped, M_oneMany__taped, M_readOnes__taped, M_toldOnce__taped, M_high__taped, M_taped__taped, M_fault__taped, M_broken__taped, M_brokenAt__taped, M_spot__taped, M_here__taped, M_token__taped, M_value__taped, M_weptBits__taped, M_weptTimes__taped, M_firstNot__taped, M_seenMany__taped, M_torn__taped, M_state__taped, M_brims__taped, M_readPage__taped, M_tape__taped, M_cuts__taped, M_letters__taped, M_seen__taped, M_goneBy__taped, M_isKept__taped, M_lanes__taped, M_lengths__taped, M_cells__taped, M_oneMany__tape, M_readOnes__tape, M_toldOnce__tape, M_high__tape, M_taped__tape, M_fault__tape, M_broken__tape, M_brokenAt__tape, M_spot__tape, M_here__tape, M_token__tape, M_value__tape, M_weptBits__tape, M_weptTimes__tape, M_firstNot__tape, M_seenMany__tape, M_torn__tape, M_state__tape, M_brims__tape, M_readPage__tape, M_tape__tape, M_cuts__tape, M_letters__tape, M_seen__tape, M_goneBy__tape, M_isKept__tape, M_lanes__tape, M_lengths__tape, M_cells__tape]; simp
      have hks : gKs σ u τ v := by subst hu hv; unfold gKs; simp only [X_xi__xi, X_now__xi, X_tried__xi, X_im0__xi, X_im1__xi, X_seen__xi, X_tape__xi, X_row__xi, X_rw__xi, X_xi__tape, X_now__tape, X_tried__tape, X_im0__tape, X_im1__tape, X_seen__tape, X_tape__tape, X_row__tape, X_rw__tape, I_kept__taped, I_seenMany__taped, I_weepers__taped, I_often__taped, I_firstOver__taped, I_taped__taped, I_fault__taped, I_goneSum__taped, I_manySum__taped, I_allWays__taped, I_torn__taped, M_oneMany__taped, M_readOnes__taped, M_toldOnce__taped, M_high__taped, M_taped__taped, M_fault__taped, M_broken__taped, M_brokenAt__taped, M_spot__taped, M_here__taped, M_token__taped, M_value__taped, M_weptBits__taped, M_weptTimes__taped, M_firstNot__taped, M_seenMany__taped, M_torn__taped, M_state__taped, M_brims__taped, M_readPage__taped, M_tape__taped, M_cuts__taped, M_letters__taped, M_seen__taped, M_goneBy__taped, M_isKept__taped, M_lanes__taped, M_lengths__taped, M_cells__taped, M_oneMany__tape, M_readOnes__tape, M_toldOnce__tape, M_high__tape, M_taped__tape, M_fault__tape, M_broken__tape, M_brokenAt__tape, M_spot__tape, M_here__tape, M_token__tape, M_value__tape, M_weptBits__tape, M_weptTimes__tape, M_firstNot__tape, M_seenMany__tape, M_torn__tape, M_state__tape, M_brims__tape, M_readPage__tape, M_tape__tape, M_cuts__tape, M_letters__tape, M_seen__tape, M_goneBy__tape, M_isKept__tape, M_lanes__tape, M_lengths__tape, M_cells__tape]; simp
      have hke : gKe σ u τ v := by subst hu hv; unfold gKe; simp only [X_xi__xi, X_now__xi, X_tried__xi, X_im0__xi, X_im1__xi, X_seen__xi, X_tape__xi, X_row__xi, X_rw__xi, X_xi__tape, X_now__tape, X_tried__tape, X_im0__tape, X_im1__tape, X_seen__tape, X_tape__tape, X_row__tape, X_rw__tape, I_kept__taped, I_seenMany__taped, I_weepers__taped, I_often__taped, I_firstOver__taped, I_taped__taped, I_fault__taped, I_goneSum__taped, I_manySum__taped, I_allWays__taped, I_torn__taped, M_oneMany__taped, M_readOnes__taped, M_toldOnce__taped, M_high__taped, M_taped__taped, M_fault__taped, M_broken__taped, M_brokenAt__taped, M_spot__taped, M_here__taped, M_token__taped, M_value__taped, M_weptBits__taped, M_weptTimes__taped, M_firstNot__taped, M_seenMany__taped, M_torn__taped, M_state__taped, M_brims__taped, M_readPage__taped, M_tape__taped, M_cuts__taped, M_letters__taped, M_seen__taped, M_goneBy__taped, M_isKept__taped, M_lanes__taped, M_lengths__taped, M_cells__taped, M_oneMany__tape, M_readOnes__tape, M_toldOnce__tape, M_high__tape, M_taped__tape, M_fault__tape, M_broken__tape, M_brokenAt__tape, M_spot__tape, M_here__tape, M_token__tape, M_value__tape, M_weptBits__tape, M_weptTimes__tape, M_firstNot__tape, M_seenMany__tape, M_torn__tape, M_state__tape, M_brims__tape, M_readPage__tape, M_tape__tape, M_cuts__tape, M_letters__tape, M_seen__tape, M_goneBy__tape, M_isKept__tape, M_lanes__tape, M_lengths__tape, M_cells__tape]; simp
      have hsa : gSame σ u τ v := by subst hu hv; unfold gSame; simp only [X_xi__xi, X_now__xi, X_tried__xi, X_im0__xi, X_im1__xi, X_seen__xi, X_tape__xi, X_row__xi, X_rw__xi, X_xi__tape, X_now__tape, X_tried__tape, X_im0__tape, X_im1__tape, X_seen__tape, X_tape__tape, X_row__tape, X_rw__tape, I_kept__taped, I_seenMany__taped, I_weepers__taped, I_often__taped, I_firstOver__taped, I_taped__taped, I_fault__taped, I_goneSum__taped, I_manySum__taped, I_allWays__taped, I_torn__taped, M_oneMany__taped, M_readOnes__taped, M_toldOnce__taped, M_high__taped, M_taped__taped, M_fault__taped, M_broken__taped, M_brokenAt__taped, M_spot__taped, M_here__taped, M_token__taped, M_value__taped, M_weptBits__taped, M_weptTimes__taped, M_firstNot__taped, M_seenMany__taped, M_torn__taped, M_state__taped, M_brims__taped, M_readPage__taped, M_tape__taped, M_cuts__taped, M_letters__taped, M_seen__taped, M_goneBy__taped, M_isKept__taped, M_lanes__taped, M_lengths__taped, M_cells__taped, M_oneMany__tape, M_readOnes__tape, M_toldOnce__tape, M_high__tape, M_taped__tape, M_fault__tape, M_broken__tape, M_brokenAt__tape, M_spot__tape, M_here__tape, M_token__tape, M_value__tape, M_weptBits__tape, M_weptTimes__tape, M_firstNot__tape, M_seenMany__tape, M_torn__tape, M_state__tape, M_brims__tape, M_readPage__tape, M_tape__tape, M_cuts__tape, M_letters__tape, M_seen__tape, M_goneBy__tape, M_isKept__tape, M_lanes__tape, M_lengths__tape, M_cells__tape]; simp
      have hMv : gMO 0 P v := by subst hv; exact hM.to (by simp only [M_oneMany__taped, M_readOnes__taped, M_toldOnce__taped, M_high__taped, M_taped__taped, M_fault__taped, M_broken__taped, M_brokenAt__taped, M_spot__taped, M_here__taped, M_token__taped, M_value__taped, M_weptBits__taped, M_weptTimes__taped, M_firstNot__taped, M_seenMany__taped, M_torn__taped, M_state__taped, M_brims__taped, M_readPage__taped, M_tape__taped, M_cuts__taped, M_letters__taped, M_seen__taped, M_goneBy__taped, M_isKept__taped, M_lanes__taped, M_lengths__taped, M_cells__taped, M_oneMany__tape, M_readOnes__tape, M_toldOnce__tape, M_high__tape, M_taped__tape, M_fault__tape, M_broken__tape, M_brokenAt__tape, M_spot__tape, M_here__tape, M_token__tape, M_value__tape, M_weptBits__tape, M_weptTimes__tape, M_firstNot__tape, M_seenMany__tape, M_torn__tape, M_state__tape, M_brims__tape, M_readPage__tape, M_tape__tape, M_cuts__tape, M_letters__tape, M_seen__tape, M_goneBy__tape, M_isKept__tape, M_lanes__tape, M_lengths__tape, M_cells__tape]) (by simp only [M_oneMany__taped, M_readOnes__taped, M_toldOnce__taped, M_high__taped, M_taped__taped, M_fault__taped, M_broken__taped, M_brokenAt__taped, M_spot__taped, M_here__taped, M_token__taped, M_value__taped, M_weptBits__taped, M_weptTimes__taped, M_firstNot__taped, M_seenMany__taped, M_torn__taped, M_state__taped, M_brims__taped, M_readPage__taped, M_tape__taped, M_cuts__taped, M_letters__taped, M_seen__taped, M_goneBy__taped, M_isKept__taped, M_lanes__taped, M_lengths__taped, M_cells__taped, M_oneMany__tape, M_readOnes__tape, M_toldOnce__tape, M_high__tape, M_taped__tape, M_fault__tape, M_broken__tape, M_brokenAt__tape, M_spot__tape, M_here__tape, M_token__tape, M_value__tape, M_weptBits__tape, M_weptTimes__tape, M_firstNot__tape, M_seenMany__tape, M_torn__tape, M_state__tape, M_brims__tape, M_readPage__tape, M_tape__tape, M_cuts__tape, M_letters__tape, M_seen__tape, M_goneBy__tape, M_isKept__tape, M_lanes__tape, M_lengths__tape, M_cells__tape]) (by simp only [M_oneMany__taped, M_readOnes__taped, M_toldOnce__taped, M_high__taped, M_taped__taped, M_fault__taped, M_broken__taped, M_brokenAt__taped, M_spot__taped, M_here__taped, M_token__taped, M_value__taped, M_weptBits__taped, M_weptTimes__taped, M_firstNot__taped, M_seenMany__taped, M_torn__taped, M_state__taped, M_brims__taped, M_readPage__taped, M_tape__taped, M_cuts__taped, M_letters__taped, M_seen__taped, M_goneBy__taped, M_isKept__taped, M_lanes__taped, M_lengths__taped, M_cells__taped, M_oneMany__tape, M_readOnes__tape, M_toldOnce__tape, M_high__tape, M_taped__tape, M_fault__tape, M_broken__tape, M_brokenAt__tape, M_spot__tape, M_here__tape, M_token__tape, M_value__tape, M_weptBits__tape, M_weptTimes__tape, M_firstNot__tape, M_seenMany__tape, M_torn__tape, M_state__tape, M_brims__tape, M_readPage__tape, M_tape__tape, M_cuts__tape, M_letters__tape, M_seen__tape, M_goneBy__tape, M_isKept__tape, M_lanes__tape, M_lengths__tape, M_cells__tape])
      have hSu : gRS (X_now u) P := by subst hu; simp only [X_xi__xi, X_now__xi, X_tried__xi, X_im0__xi, X_im1__xi, X_seen__xi, X_tape__xi, X_row__xi, X_rw__xi, X_xi__tape, X_now__tape, X_tried__tape, X_im0__tape, X_im1__tape, X_seen__tape, X_tape__tape, X_row__tape, X_rw__tape]; exact hS
      have ht : gRtp u v := by
        refine ⟨tp + 1, by omega, by subst hu; simp only [X_xi__xi, X_now__xi, X_tried__xi, X_im0__xi, X_im1__xi, X_seen__xi, X_tape__xi, X_row__xi, X_rw__xi, X_xi__tape, X_now__tape, X_tried__tape, X_im0__tape, X_im1__tape, X_seen__tape, X_tape__tape, X_row__tape, X_rw__tape, I_kept__taped, I_seenMany__taped, I_weepers__taped, I_often__taped, I_firstOver__taped, I_taped__taped, I_fault__taped, I_goneSum__taped, I_manySum__taped, I_allWays__taped, I_torn__taped], by subst hv; simp only [M_oneMany__taped, M_readOnes__taped, M_toldOnce__taped, M_high__taped, M_taped__taped, M_fault__taped, M_broken__taped, M_brokenAt__taped, M_spot__taped, M_here__taped, M_token__taped, M_value__taped, M_weptBits__taped, M_weptTimes__taped, M_firstNot__taped, M_seenMany__taped, M_torn__taped, M_state__taped, M_brims__taped, M_readPage__taped, M_tape__taped, M_cuts__taped, M_letters__taped, M_seen__taped, M_goneBy__taped, M_isKept__taped, M_lanes__taped, M_lengths__taped, M_cells__taped, M_oneMany__tape, M_readOnes__tape, M_toldOnce__tape, M_high__tape, M_taped__tape, M_fault__tape, M_broken__tape, M_brokenAt__tape, M_spot__tape, M_here__tape, M_token__tape, M_value__tape, M_weptBits__tape, M_weptTimes__tape, M_firstNot__tape, M_seenMany__tape, M_torn__tape, M_state__tape, M_brims__tape, M_readPage__tape, M_tape__tape, M_cuts__tape, M_letters__tape, M_seen__tape, M_goneBy__tape, M_isKept__tape, M_lanes__tape, M_lengths__tape, M_cells__tape], fun j hj => ?_⟩
        subst hu hv
        simp only [X_xi__xi, X_now__xi, X_tried__xi, X_im0__xi, X_im1__xi, X_seen__xi, X_tape__xi, X_row__xi, X_rw__xi, X_xi__tape, X_now__tape, X_tried__tape, X_im0__tape, X_im1__tape, X_seen__tape, X_tape__tape, X_row__tape, X_rw__tape, M_oneMany__taped, M_readOnes__taped, M_toldOnce__taped, M_high__taped, M_taped__taped, M_fault__taped, M_broken__taped, M_brokenAt__taped, M_spot__taped, M_here__taped, M_token__taped, M_value__taped, M_weptBits__taped, M_weptTimes__taped, M_firstNot__taped, M_seenMany__taped, M_torn__taped, M_state__taped, M_brims__taped, M_readPage__taped, M_tape__taped, M_cuts__taped, M_letters__taped, M_seen__taped, M_goneBy__taped, M_isKept__taped, M_lanes__taped, M_lengths__taped, M_cells__taped, M_oneMany__tape, M_readOnes__tape, M_toldOnce__tape, M_high__tape, M_taped__tape, M_fault__tape, M_broken__tape, M_brokenAt__tape, M_spot__tape, M_here__tape, M_token__tape, M_value__tape, M_weptBits__tape, M_weptTimes__tape, M_firstNot__tape, M_seenMany__tape, M_torn__tape, M_state__tape, M_brims__tape, M_readPage__tape, M_tape__tape, M_cuts__tape, M_letters__tape, M_seen__tape, M_goneBy__tape, M_isKept__tape, M_lanes__tape, M_lengths__tape, M_cells__tape]
        by_cases ej : j = tp
        · subst ej
          exact ⟨k, by omega, upd_same, upd_same⟩
        · rw [upd_ne ej, upd_ne ej]
          exact t4 j (by omega)
      refine ⟨i3 (tp + 1), u, v, ?_, ?_, ⟨P, hw, hSu, hMv, hk.to hkk rfl, hs.to hks rfl, ht, he.to hke⟩, hsa⟩
      · rw [g3_s, g3_v, g3_s]
        simp only [X_xi__xi, X_now__xi, X_tried__xi, X_im0__xi, X_im1__xi, X_seen__xi, X_tape__xi, X_row__xi, X_rw__xi, X_xi__tape, X_now__tape, X_tried__tape, X_im0__tape, X_im1__tape, X_seen__tape, X_tape__tape, X_row__tape, X_rw__tape, I_kept__taped, I_seenMany__taped, I_weepers__taped, I_often__taped, I_firstOver__taped, I_taped__taped, I_fault__taped, I_goneSum__taped, I_manySum__taped, I_allWays__taped, I_torn__taped]
        rw [t2, i3_1, i3_add, hu]
      · rw [g3_s, g3_v, g3_s]
        simp only [M_oneMany__taped, M_readOnes__taped, M_toldOnce__taped, M_high__taped, M_taped__taped, M_fault__taped, M_broken__taped, M_brokenAt__taped, M_spot__taped, M_here__taped, M_token__taped, M_value__taped, M_weptBits__taped, M_weptTimes__taped, M_firstNot__taped, M_seenMany__taped, M_torn__taped, M_state__taped, M_brims__taped, M_readPage__taped, M_tape__taped, M_cuts__taped, M_letters__taped, M_seen__taped, M_goneBy__taped, M_isKept__taped, M_lanes__taped, M_lengths__taped, M_cells__taped, M_oneMany__tape, M_readOnes__tape, M_toldOnce__tape, M_high__tape, M_taped__tape, M_fault__tape, M_broken__tape, M_brokenAt__tape, M_spot__tape, M_here__tape, M_token__tape, M_value__tape, M_weptBits__tape, M_weptTimes__tape, M_firstNot__tape, M_seenMany__tape, M_torn__tape, M_state__tape, M_brims__tape, M_readPage__tape, M_tape__tape, M_cuts__tape, M_letters__tape, M_seen__tape, M_goneBy__tape, M_isKept__tape, M_lanes__tape, M_lengths__tape, M_cells__tape]
        rw [t3, i3_1, i3_add, hv]
  · rw [e1, e2]
    exact gOK.rf _ h0
theorem z_end {σ : gX} {τ : gM} {x : Int32} (h : gRZ σ τ) : gOK σ τ (f_X0_end σ x) (f_X7_end τ x) := by
  obtain ⟨P, hh⟩ := h
  have h0 := hh
  obtain ⟨hw, hS, hM, hk, hs, ⟨tp, t1, t2, t3, t4⟩, he⟩ := hh
  unfold f_X0_end f_X7_end
  rw [t2, t3]
  rcases in_lit (x := x) (lo := 0) (hi := tp) (a := 0) (b := (i3 tp).toInt64) rfl (by rw [Int32.toInt_toInt64, i3_int (by omega)]) with ⟨k, -, hk2, rfl, e1, e2⟩ | ⟨e1, e2, -⟩
  · rw [e1, e2]
    refine ⟨i3 tp, X_xi_s σ (I_taped_s (X_xi σ) (i3 k)), M_taped_s τ (i3 k), rfl, rfl, ⟨P, hw, hS, hM.to rfl rfl rfl, hk.to ?_ rfl, hs.to ?_ rfl, ⟨k, by omega, rfl, rfl, fun j hj => t4 j (by omega)⟩, he.to ?_⟩, ?_⟩
    · unfold gKk; simp only [X_xi__xi, X_now__xi, X_tried__xi, X_im0__xi, X_im1__xi, X_seen__xi, X_tape__xi, X_row__xi, X_rw__xi, I_kept__taped, I_seenMany__taped, I_weepers__taped, I_often__taped, I_firstOver__taped, I_taped__taped, I_fault__taped, I_goneSum__taped, I_manySum__taped, I_allWays__taped, I_torn__taped, M_oneMany__taped, M_readOnes__taped, M_toldOnce__taped, M_high__taped, M_taped__taped, M_fault__taped, M_broken__taped, M_brokenAt__taped, M_spot__taped, M_here__taped, M_token__taped, M_value__taped, M_weptBits__taped, M_weptTimes__taped, M_firstNot__taped, M_seenMany__taped, M_torn__taped, M_state__taped, M_brims__taped, M_readPage__taped, M_tape__taped, M_cuts__taped, M_letters__taped, M_seen__taped, M_goneBy__taped, M_isKept__taped, M_lanes__taped, M_lengths__taped, M_cells__taped]; simp
    · unfold gKs; simp only [X_xi__xi, X_now__xi, X_tried__xi, X_im0__xi, X_im1__xi, X_seen__xi, X_tape__xi, X_row__xi, X_rw__xi, I_kept__taped, I_seenMany__taped, I_weepers__taped, I_often__taped, I_firstOver__taped, I_taped__taped, I_fault__taped, I_goneSum__taped, I_manySum__taped, I_allWays__taped, I_torn__taped, M_oneMany__taped, M_readOnes__taped, M_toldOnce__taped, M_high__taped, M_taped__taped, M_fault__taped, M_broken__taped, M_brokenAt__taped, M_spot__taped, M_here__taped, M_token__taped, M_value__taped, M_weptBits__taped, M_weptTimes__taped, M_firstNot__taped, M_seenMany__taped, M_torn__taped, M_state__taped, M_brims__taped, M_readPage__taped, M_tape__taped, M_cuts__taped, M_letters__taped, M_seen__taped, M_goneBy__taped, M_isKept__taped, M_lanes__taped, M_lengths__taped, M_cells__taped]; simp
    · unfold gKe; simp only [X_xi__xi, X_now__xi, X_tried__xi, X_im0__xi, X_im1__xi, X_seen__xi, X_tape__xi, X_row__xi, X_rw__xi, I_kept__taped, I_seenMany__taped, I_weepers__taped, I_often__taped, I_firstOver__taped, I_taped__taped, I_fault__taped, I_goneSum__taped, I_manySum__taped, I_allWays__taped, I_torn__taped, M_oneMany__taped, M_readOnes__taped, M_toldOnce__taped, M_high__taped, M_taped__taped, M_fault__taped, M_broken__taped, M_brokenAt__taped, M_spot__taped, M_here__taped, M_token__taped, M_value__taped, M_weptBits__taped, M_weptTimes__taped, M_firstNot__taped, M_seenMany__taped, M_torn__taped, M_state__taped, M_brims__taped, M_readPage__taped, M_tape__taped, M_cuts__taped, M_letters__taped, M_seen__taped, M_goneBy__taped, M_isKept__taped, M_lanes__taped, M_lengths__taped, M_cells__taped]; simp
    · unfold gSame; simp only [X_xi__xi, X_now__xi, X_tried__xi, X_im0__xi, X_im1__xi, X_seen__xi, X_tape__xi, X_row__xi, X_rw__xi, M_oneMany__taped, M_readOnes__taped, M_toldOnce__taped, M_high__taped, M_taped__taped, M_fault__taped, M_broken__taped, M_brokenAt__taped, M_spot__taped, M_here__taped, M_token__taped, M_value__taped, M_weptBits__taped, M_weptTimes__taped, M_firstNot__taped, M_seenMany__taped, M_torn__taped, M_state__taped, M_brims__taped, M_readPage__taped, M_tape__taped, M_cuts__taped, M_letters__taped, M_seen__taped, M_goneBy__taped, M_isKept__taped, M_lanes__taped, M_lengths__taped, M_cells__taped]; simp
  · rw [e1, e2]
    exact gOK.rf _ h0
theorem z_fault {σ : gX} {τ : gM} (h : gRZ σ τ) : gOK σ τ (f_X0_fault σ) (f_X7_fault τ) := by
  obtain ⟨P, hh⟩ := h
  unfold f_X0_fault f_X7_fault
  have e : I_fault (X_xi σ) = M_fault τ := hh.2.2.2.2.2.2.1
  rw [e]
  exact gOK.rf _ hh
theorem gsw_c {n : Nat} {x : Int32} : (∃ i, i < n ∧ x = i3 i) ∨ (∀ (α : Type) (F : Nat → Option α) (D : Option α), gsw n x F D = D) := by
  by_cases e : 0 ≤ x.toInt ∧ x.toInt < (n : Int)
  · left
    obtain ⟨k, hk, hb, hx⟩ := i3_of2 (x := x) e.1
    exact ⟨k, by omega, hx⟩
  · right
    intro α F D
    unfold gsw
    rw [if_neg e]
theorem lt7 {p : Nat} (h : p < 7) : p = 0 ∨ p = 1 ∨ p = 2 ∨ p = 3 ∨ p = 4 ∨ p = 5 ∨ p = 6 := by omega
theorem z_rule {σ : gX} {τ : gM} {x : Int32} (h : gRZ σ τ) : gOK σ τ (f_X0_rule σ x) (f_X7_rule τ x) := by
  obtain ⟨P, hh⟩ := h
  have h0 := hh
  obtain ⟨hw, hS, hM, -⟩ := hh
  have hR := hM.R
  unfold f_X0_rule f_X7_rule
  rcases gsw_c (n := 7) (x := x) with ⟨i, hi, rfl⟩ | hD
  · rw [g3_sw hi (by decide), g3_sw hi (by decide)]
    rcases lt7 hi with rfl | rfl | rfl | rfl | rfl | rfl | rfl
    · show gOK σ τ (some (S_people (X_now σ), σ)) (some (M_oneMany τ, τ))
      rw [hS.hn, hM.hn]
      exact gOK.rf _ h0
    · show gOK σ τ (some (S_minute (X_now σ), σ)) (gld 168 (M_state τ) 16 fun v1 => some (v1, τ))
      rw [i3_16, g3_ld (by decide) (by decide), hS.hm, hR.hm]
      exact gOK.rf _ h0
    · show gOK σ τ (some (S_room (X_now σ), σ)) (gld 168 (M_state τ) 17 fun v1 => some (v1 + 2, τ))
      rw [i3_17, g3_ld (by decide) (by decide), hS.hr, hR.hr, i3_2, Int32.sub_add_cancel]
      exact gOK.rf _ h0
    · show gOK σ τ (some (S_think (X_now σ), σ)) (gld 168 (M_state τ) 18 fun v1 => some (v1 + 4, τ))
      rw [i3_18, g3_ld (by decide) (by decide), hS.ht, hR.ht, i3_4, Int32.sub_add_cancel]
      exact gOK.rf _ h0
    · show gOK σ τ (some (S_planned (X_now σ), σ)) (gld 168 (M_state τ) 27 fun v1 => some (v1, τ))
      rw [i3_27, g3_ld (by decide) (by decide), hS.hq, hR.hq]
      exact gOK.rf _ h0
    · show gOK σ τ ((f_X5_waiting (X_now σ)).bind fun (r1, u2) => gs (X_now_s σ u2) fun s3 => some (r1, s3)) ((f_X7_waitingOn τ 0).bind fun (r5, u6) => some (r5, u6))
      rw [c_waiting hS hw.n, i3_0, m_waiting hM hw.n]
      exact gOK.rf _ h0
    · show gOK σ τ ((f_X5_sorrow (X_now σ)).bind fun (r4, u5) => gs (X_now_s σ u5) fun s6 => some (r4, s6)) ((f_X7_sorrowOn τ 0).bind fun (r7, u8) => some (r7, u8))
      rw [c_sorrow hS hw, i3_0, m_sorrow hM hw]
      exact gOK.rf _ h0
  · rw [hD, hD]
    exact gOK.rf _ h0
