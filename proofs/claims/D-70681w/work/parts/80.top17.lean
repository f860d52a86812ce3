set_option maxRecDepth 100000
set_option maxHeartbeats 400000
/-! ask -/
theorem fo_ml {σ : gX} {P : gP} {sm p : Nat} : ∀ k v a, v + k ≤ 31 → a < 2 ^ v → fo (whF σ P sm p 1) k v (i3 a) = i3 (a + 2 ^ v * ml (SO σ P sm p 1) k v) := by
  have hsh : ∀ v, v < 31 → (1 : Int32) <<< (i3 v &&& 31) = i3 (2 ^ v) := by decide +kernel
  intro k
  induction k with
  | zero => intro v a _ _; show i3 a = i3 (a + 2 ^ v * 0); rw [Nat.mul_zero, Nat.add_zero]
  | succ k ih =>
    intro v a hv ha
    have hor : 2 ^ v * 1 + a = 2 ^ v * 1 ||| a := Nat.two_pow_add_eq_or_of_lt ha 1
    have e1 : whF σ P sm p 1 v (i3 a) = i3 (a + 2 ^ v * (if SO σ P sm p 1 v then 1 else 0)) := by
      unfold whF
      cases SO σ P sm p 1 v
      · show i3 a ||| i3 0 = i3 (a + 2 ^ v * 0)
        rw [i3_or, Nat.mul_zero, Nat.add_zero, Nat.or_zero]
      · show i3 a ||| (1 : Int32) <<< (i3 v &&& 31) = i3 (a + 2 ^ v * 1)
        rw [hsh v (by omega), i3_or, Nat.add_comm a, hor, Nat.mul_one, Nat.or_comm]
    show fo (whF σ P sm p 1) k (v + 1) (whF σ P sm p 1 v (i3 a)) = i3 (a + 2 ^ v * ((if SO σ P sm p 1 v then 1 else 0) + 2 * ml (SO σ P sm p 1) k (v + 1)))
    rw [e1, ih (v + 1) _ (by omega) (by rw [Nat.pow_succ]; split <;> omega), Nat.pow_succ, Nat.mul_add, Nat.add_assoc, Nat.mul_assoc]
theorem ml_bit (S : Nat → Bool) : ∀ v k i, v < k → ml S k i / 2 ^ v % 2 = (if S (i + v) then 1 else 0)
  | 0, 0, _, h => by omega
  | 0, k + 1, i, _ => by
    rw [Nat.pow_zero, Nat.div_one, Nat.add_zero]
    show ((if S i then 1 else 0) + 2 * ml S k (i + 1)) % 2 = (if S i then 1 else 0)
    split <;> omega
  | _ + 1, 0, _, h => by omega
  | v + 1, k + 1, i, h => by
    have e : ml S (k + 1) i / 2 = ml S k (i + 1) := by
      show ((if S i then 1 else 0) + 2 * ml S k (i + 1)) / 2 = ml S k (i + 1)
      split <;> omega
    rw [Nat.pow_succ, Nat.mul_comm, ← Nat.div_div_eq_div_mul, e, ml_bit S v k (i + 1) (by omega), show i + 1 + v = i + (v + 1) by omega]
theorem sarv {m v : Nat} (hm : m < 2147483648) (hv : v < 31) : i3 m >>> (i3 v &&& 31) = i3 (m / 2 ^ v) := by
  apply Int32.toBitVec.inj
  have hs : ∀ v, v < 31 → ((i3 v &&& 31).toBitVec.smod 32).toNat = v := by decide +kernel
  have h1 : (i3 m >>> (i3 v &&& 31)).toBitVec = (BitVec.ofNat 32 m).sshiftRight ((i3 v &&& 31).toBitVec.smod 32).toNat := rfl
  have hmsb : (BitVec.ofNat 32 m).msb = false := by
    rw [BitVec.msb_eq_decide, BitVec.toNat_ofNat, Nat.mod_eq_of_lt (by omega)]
    simp
    omega
  rw [h1, hs v hv, BitVec.sshiftRight_eq_of_msb_false hmsb]
  show _ = BitVec.ofNat 32 (m / 2 ^ v)
  apply BitVec.eq_of_toNat_eq
  have h2 : m / 2 ^ v ≤ m := Nat.div_le_self _ _
  rw [BitVec.toNat_ushiftRight, BitVec.toNat_ofNat, BitVec.toNat_ofNat, Nat.shiftRight_eq_div_pow, Nat.mod_eq_of_lt (by omega), Nat.mod_eq_of_lt (by omega)]
theorem ml_tst {S : Nat → Bool} {v : Nat} (hv : v < 21) : ((i3 (ml S 21 0) >>> (i3 v &&& 31)) &&& 1) = i3 (if S v then 1 else 0) := by
  have h := ml_lt S 21 0
  rw [sarv (Nat.lt_of_lt_of_le h (by decide)) (by omega), i3_1, i3_and, Nat.and_one_is_mod, ml_bit S v 21 0 hv, Nat.zero_add]
def aG (σ : gX) (P : gP) (sm p q v : Nat) : Bool := SO σ P sm p 1 v && P_g (svZ P p 1 v).1 q
def aC (G : Nat → Bool) : Nat → Nat → Nat → Nat
  | 0, _, c => c
  | k + 1, v, c => aC G k (v + 1) (c + if G v then 1 else 0)
def aW (x : Int32) (c : Nat) : Int32 := if i3 c < x - i3 c then x - i3 c else i3 c
def aM (b w : Int32) : Int32 := if w < b then w else b
def aT (b w f q : Int32) : Int32 := if b ≤ w then f else q
def aO (G : Nat → Nat → Bool) (wh n : Int32) : Nat → Nat → Int32 → Int32 → Int32
  | 0, _, b, f => if f = (-4) then f else if wh = 0 then f else b
  | k + 1, q, b, f => aO G wh n k (q + 1) (aM b (aW n (aC (G q) 21 0 0))) (aT b (aW n (aC (G q) 21 0 0)) f (i3 q))
theorem aW_le (c y : Int32) : (if c ≤ y then y else c) = (if c < y then y else c) := by
  by_cases h : c < y
  · rw [if_pos h, if_pos (Int32.le_of_lt h)]
  · rw [if_neg h]
    by_cases k : c ≤ y
    · rw [if_pos k]; exact Int32.le_antisymm (Int32.not_lt.mp h) k
    · rw [if_neg k]
theorem aM_le (b w : Int32) : aM b w = (if b ≤ w then b else w) := by
  unfold aM
  by_cases h : b ≤ w
  · rw [if_pos h, if_neg (Int32.not_lt.mpr h)]
  · rw [if_neg h, if_pos (Int32.not_le.mp h)]
theorem c_ask54 {σ : gX} {P : gP} {sm p q : Nat} {rr : Nat → Int32} {x2 x3 x4 x5 : Int32} {K : gX → Int32 → Int32 → Int32 → Int32 → Int32 → Int32 → Option (Int32 × gX)} (hS : gRS (X_now σ) P) (hw : gWF P) (hsm : sm ≤ 6) (hseen : ∀ j, j < sm → (∃ q, q < P_n P ∧ X_seen σ (2 * j) = i3 q)) (hp : p < P_n P) (hq : q < 5) : ∀ k fuel xi t v c, v + k = 21 → k < fuel → I_seenMany xi = i3 sm → ∃ xi' t', f_X0_ask_b54 K fuel (sx σ xi t rr) (i3 p) x2 x3 x4 x5 (i3 q) (i3 c) (i3 v) = K (sx σ xi' t' rr) (i3 p) x2 x3 (aM x4 (aW x3 (aC (aG σ P sm p q) k v c))) (aT x4 (aW x3 (aC (aG σ P sm p q) k v c)) x5 (i3 q)) (i3 (q + 1)) ∧ gXq xi xi' := by
  intro k
  induction k with
  | zero =>
    intro fuel xi t v c hv hf hxi
    obtain ⟨f, rfl⟩ := gsucc hf
    refine ⟨xi, t, ?_, gXq.rf⟩
    simp only [f_X0_ask_b54]
    rw [i3_20, if_pos (by rw [i3_lt (by omega) (by omega)]; omega), g3_v]
    show (if x4 ≤ aW x3 c then f_X0_ask_b125 K (sx σ xi t rr) (i3 p) x2 x3 x4 (i3 q) (aW x3 c) x5 else f_X0_ask_b125 K (sx σ xi t rr) (i3 p) x2 x3 x4 (i3 q) (aW x3 c) (i3 q)) = K (sx σ xi t rr) (i3 p) x2 x3 (aM x4 (aW x3 c)) (if x4 ≤ aW x3 c then x5 else i3 q) (i3 (q + 1))
    generalize aW x3 c = w
    unfold f_X0_ask_b125
    simp only [gv]
    rw [i3_1, i3_add]
    show (if x4 ≤ w then K (sx σ xi t rr) (i3 p) x2 x3 (aM x4 w) x5 (i3 (q + 1)) else K (sx σ xi t rr) (i3 p) x2 x3 (aM x4 w) (i3 q) (i3 (q + 1))) = _
    split <;> rfl
  | succ k ih =>
    intro fuel xi t v c hv hf hxi
    obtain ⟨f, rfl⟩ := gsucc hf
    obtain ⟨t1, e1, r1, w1⟩ := c_isSo (t := t) (rr := rr) (p := p) (c := 1) (v := v) hS hw hsm hseen hxi hp (by decide) ⟨fun e => by omega, by omega⟩
    obtain ⟨xi', t', e2, h2⟩ := ih f (qxi xi (svZ P p 1 v)) t1 (v + 1) (c + if aG σ P sm p q v then 1 else 0) (by omega) (by omega) (qxi_sm.trans hxi)
    refine ⟨xi', t', ?_, (gXq.q _ _).tr h2⟩
    have h91 : ∀ t0 : Nat, f_X0_ask_b91 K (f_X0_ask_b54 K f) (sx σ (qxi xi (svZ P p 1 v)) t1 rr) (i3 p) x2 x3 x4 x5 (i3 q) (i3 v) (i3 t0) (i3 c) = f_X0_ask_b54 K f (sx σ (qxi xi (svZ P p 1 v)) t1 rr) (i3 p) x2 x3 x4 x5 (i3 q) (i3 (c + t0)) (i3 (v + 1)) := by
      intro t0
      unfold f_X0_ask_b91
      rw [i3_add, g3_v, i3_1, i3_add, g3_v]
    have h90 : f_X0_ask_b90 K (f_X0_ask_b54 K f) (sx σ (qxi xi (svZ P p 1 v)) t1 rr) (i3 p) x2 x3 x4 x5 (i3 q) (i3 v) (i3 c) = f_X0_ask_b54 K f (sx σ (qxi xi (svZ P p 1 v)) t1 rr) (i3 p) x2 x3 x4 x5 (i3 q) (i3 (c + 0)) (i3 (v + 1)) := h91 0
    simp only [f_X0_ask_b54]
    rw [i3_20, if_neg (by rw [i3_lt (by omega) (by omega)]; omega), show f_X0_isSo (sx σ xi t rr) (i3 p) 1 (i3 v) = _ from e1, g3_b]
    show _ = K (sx σ xi' t' rr) (i3 p) x2 x3 (aM x4 (aW x3 (aC (aG σ P sm p q) k (v + 1) (c + if aG σ P sm p q v then 1 else 0)))) (aT x4 (aW x3 (aC (aG σ P sm p q) k (v + 1) (c + if aG σ P sm p q v then 1 else 0))) x5 (i3 q)) (i3 (q + 1))
    rw [← e2, show aG σ P sm p q v = (SO σ P sm p 1 v && P_g (svZ P p 1 v).1 q) from rfl]
    cases SO σ P sm p 1 v
    · exact h90
    · show ((f_X5_waits (X_tried (sx σ (qxi xi (svZ P p 1 v)) t1 rr)) (i3 q)).bind fun (r12, u13) => gs (X_tried_s (sx σ (qxi xi (svZ P p 1 v)) t1 rr) u13) fun s14 => if r12 = 0 then (f_X0_ask_b91 K (f_X0_ask_b54 K f) s14 (i3 p) x2 x3 x4 x5 (i3 q) (i3 v) 1 (i3 c)) else (f_X0_ask_b90 K (f_X0_ask_b54 K f) s14 (i3 p) x2 x3 x4 x5 (i3 q) (i3 v) (i3 c))) = _
      rw [sx__tried, c_waits r1 hq, g3_b, g3_s, sx_t, h90, show f_X0_ask_b91 K (f_X0_ask_b54 K f) (sx σ (qxi xi (svZ P p 1 v)) t1 rr) (i3 p) x2 x3 x4 x5 (i3 q) (i3 v) 1 (i3 c) = _ from h91 1]
      cases P_g (svZ P p 1 v).1 q <;> rfl
theorem c_ask36 {σ : gX} {P : gP} {sm p : Nat} {rr : Nat → Int32} {x2 x3 : Int32} (hS : gRS (X_now σ) P) (hw : gWF P) (hsm : sm ≤ 6) (hseen : ∀ j, j < sm → (∃ q, q < P_n P ∧ X_seen σ (2 * j) = i3 q)) (hp : p < P_n P) : ∀ k fuel xi t q b f, q + k = P_n P → k < fuel → I_seenMany xi = i3 sm → ∃ xi' t', f_X0_ask_b36 fuel (sx σ xi t rr) (i3 p) x2 x3 b f (i3 q) = some (aO (aG σ P sm p) x2 x3 k q b f, sx σ xi' t' rr) ∧ gXq xi xi' := by
  have hn := hw.n
  intro k
  induction k with
  | zero =>
    intro fuel xi t q b f hq hf hxi
    obtain ⟨fu, rfl⟩ := gsucc hf
    refine ⟨xi, t, ?_, gXq.rf⟩
    simp only [f_X0_ask_b36]
    rw [sx__now, hS.hn, if_pos (by rw [i3_le (by omega) (by omega)]; omega)]
    show _ = some ((if f = (-4) then f else if x2 = 0 then f else b), sx σ xi t rr)
    by_cases h : f = (-4)
    · rw [if_pos h, if_pos h, h]
    · rw [if_neg h, if_neg h]
      split <;> rfl
  | succ k ih =>
    intro fuel xi t q b f hq hf hxi
    obtain ⟨fu, rfl⟩ := gsucc hf
    obtain ⟨xi1, t1, e1, g1⟩ := c_ask54 (q := q) (rr := rr) (x2 := x2) (x3 := x3) (x4 := b) (x5 := f) (K := f_X0_ask_b36 fu) hS hw hsm hseen hp (by omega) 21 2000 xi t 0 0 rfl (by decide) hxi
    obtain ⟨xi2, t2, e2, g2⟩ := ih fu xi1 t1 (q + 1) (aM b (aW x3 (aC (aG σ P sm p q) 21 0 0))) (aT b (aW x3 (aC (aG σ P sm p q) 21 0 0)) f (i3 q)) (by omega) (by omega) (g1.2.1.trans hxi)
    refine ⟨xi2, t2, ?_, g1.tr g2⟩
    simp only [f_X0_ask_b36]
    rw [sx__now, hS.hn, if_neg (by rw [i3_le (by omega) (by omega)]; omega)]
    exact e1.trans e2
theorem m_ask122 {u : gM} {x2 x3 x4 x5 x6 w : Int32} {q : Nat} {K : gM → Int32 → Int32 → Int32 → Int32 → Int32 → Int32 → Option (Int32 × gM)} : f_X7_ask_b122 K u x2 x3 x4 x5 x6 (i3 q) w = K u x2 x3 x4 (aM x5 w) (aT x5 w x6 (i3 q)) (i3 (q + 1)) := by
  unfold f_X7_ask_b122 f_X7_ask_b138 f_X7_ask_b154 aT
  simp only [gv]
  rw [i3_1, i3_add, aM_le]
  by_cases h : x5 ≤ w
  · rw [if_pos h, if_pos h, if_pos h, if_pos h]
  · rw [if_neg h, if_neg h, if_neg h, if_neg h]
theorem m_ask58 {σ : gX} {τ : gM} {P : gP} {sm p q : Nat} {x2 x4 x5 x6 : Int32} {K : gM → Int32 → Int32 → Int32 → Int32 → Int32 → Int32 → Option (Int32 × gM)} (hg : ∀ j, j < 21 → M_goneBy τ j = gbv P p j) (hq : q < 5) : ∀ k fuel v c, v + k = 21 → k < fuel → f_X7_ask_b58 K fuel τ x2 (i3 (ml (SO σ P sm p 1) 21 0)) x4 x5 x6 (i3 q) (i3 c) (i3 v) = K τ x2 (i3 (ml (SO σ P sm p 1) 21 0)) x4 (aM x5 (aW x4 (aC (aG σ P sm p q) k v c))) (aT x5 (aW x4 (aC (aG σ P sm p q) k v c)) x6 (i3 q)) (i3 (q + 1)) := by
  intro k
  induction k with
  | zero =>
    intro fuel v c hv hf
    obtain ⟨f, rfl⟩ := gsucc hf
    simp only [f_X7_ask_b58]
    rw [i3_20, if_pos (by rw [i3_lt (by omega) (by omega)]; omega), m_ask122, m_ask122]
    show _ = K τ x2 (i3 (ml (SO σ P sm p 1) 21 0)) x4 (aM x5 (aW x4 c)) (aT x5 (aW x4 c) x6 (i3 q)) (i3 (q + 1))
    have e : aW x4 c = (if i3 c ≤ x4 - i3 c then x4 - i3 c else i3 c) := (aW_le _ _).symm
    rw [e]
    split <;> rfl
  | succ k ih =>
    intro fuel v c hv hf
    obtain ⟨f, rfl⟩ := gsucc hf
    have h93 : ∀ t0 : Nat, f_X7_ask_b93 K (f_X7_ask_b58 K f) τ x2 (i3 (ml (SO σ P sm p 1) 21 0)) x4 x5 x6 (i3 q) (i3 v) (i3 t0) (i3 c) = f_X7_ask_b58 K f τ x2 (i3 (ml (SO σ P sm p 1) 21 0)) x4 x5 x6 (i3 q) (i3 (c + t0)) (i3 (v + 1)) := by
      intro t0
      unfold f_X7_ask_b93
      rw [i3_add, g3_v, i3_1, i3_add, g3_v]
    have hb : ((gbv P p v >>> (i3 q &&& 31)) &&& 1) = i3 (if P_g (svZ P p 1 v).1 q then 1 else 0) := by
      unfold gbv
      rw [i3_31, i3_1, i3_bit5 (m5_lt _) hq, m5_bit hq]
    simp only [f_X7_ask_b58]
    rw [i3_20, if_neg (by rw [i3_lt (by omega) (by omega)]; omega), ml_tst (by omega), g3_ld (by omega) (by decide), hg v (by omega), hb, h93, show f_X7_ask_b93 K (f_X7_ask_b58 K f) τ x2 (i3 (ml (SO σ P sm p 1) 21 0)) x4 x5 x6 (i3 q) (i3 v) 0 (i3 c) = _ from h93 0]
    show _ = K τ x2 (i3 (ml (SO σ P sm p 1) 21 0)) x4 (aM x5 (aW x4 (aC (aG σ P sm p q) k (v + 1) (c + if aG σ P sm p q v then 1 else 0)))) (aT x5 (aW x4 (aC (aG σ P sm p q) k (v + 1) (c + if aG σ P sm p q v then 1 else 0))) x6 (i3 q)) (i3 (q + 1))
    rw [← ih f (v + 1) _ (by omega) (by omega)]
    have ea : aG σ P sm p q v = (SO σ P sm p 1 v && P_g (svZ P p 1 v).1 q) := rfl
    by_cases hs : SO σ P sm p 1 v = true
    · rw [ea, hs, if_pos (by decide), Bool.true_and]
    · rw [Bool.not_eq_true] at hs
      rw [ea, hs, if_neg (by decide), Bool.false_and]
      rfl
theorem m_ask43 {σ : gX} {τ : gM} {P : gP} {sm p : Nat} {x2 x4 : Int32} (hn : P_n P ≤ 5) (ho : M_oneMany τ = i3 (P_n P)) (hg : ∀ j, j < 21 → M_goneBy τ j = gbv P p j) : ∀ k fuel q b f, q + k = P_n P → k < fuel → f_X7_ask_b43 fuel τ x2 (i3 (ml (SO σ P sm p 1) 21 0)) x4 b f (i3 q) = some (aO (aG σ P sm p) x2 x4 k q b f, τ) := by
  intro k
  induction k with
  | zero =>
    intro fuel q b f hq hf
    obtain ⟨fu, rfl⟩ := gsucc hf
    simp only [f_X7_ask_b43]
    rw [ho, if_pos (by rw [i3_le (by omega) (by omega)]; omega)]
    show _ = some ((if f = (-4) then f else if x2 = 0 then f else b), τ)
    unfold f_X7_ask_b173
    by_cases h : f = (-4)
    · rw [if_pos h, if_pos h]
    · rw [if_neg h, if_neg h]
      split <;> rfl
  | succ k ih =>
    intro fuel q b f hq hf
    obtain ⟨fu, rfl⟩ := gsucc hf
    simp only [f_X7_ask_b43]
    rw [ho, if_neg (by rw [i3_le (by omega) (by omega)]; omega)]
    exact (m_ask58 (K := f_X7_ask_b43 fu) hg (by omega) 21 2000 0 0 rfl (by decide)).trans (ih fu (q + 1) _ _ (by omega) (by omega))
theorem z_ask {σ : gX} {τ : gM} {x y : Int32} (h : gRZ σ τ) : gOK σ τ (f_X0_ask σ x y) (f_X7_ask τ x y) := by
  obtain ⟨P, hh⟩ := h
  have h0 := hh
  obtain ⟨hw, hS, hM, -, ⟨sm, t1, t2, t3, t4⟩, -⟩ := hh
  have hn := hw.n
  unfold f_X0_ask f_X7_ask
  rcases isOne2 (x := x) hn hS hM with ⟨p, h1, rfl, h3, h4⟩ | ⟨h1, h2, h3⟩
  · rw [h3, h4, g3_b, g3_b]
    dsimp only
    rw [if_neg n10, if_neg n10]
    rcases isPart2 (x := y) with ⟨w, w1, rfl, w3, w4⟩ | ⟨w1, w2, -⟩
    · rw [w3, w4, g3_b, g3_b]
      dsimp only
      rw [if_neg n10, if_neg n10]
      obtain ⟨xi', t', st', x', y', z', g', e1, e2, q1, l2, l3⟩ := sorrows2 h0 t1 t2 t3 t4 h1
      have em : fo (whF σ P sm p 1) 21 0 0 = i3 (ml (SO σ P sm p 1) 21 0) := by
        have := fo_ml (σ := σ) (P := P) (sm := sm) (p := p) 21 0 0 (by decide) (by decide)
        rw [Nat.pow_zero, Nat.one_mul, Nat.zero_add] at this
        exact this
      have e3 : f_X0_sorrows σ (i3 p) = some (i3 (ml (SO σ P sm p 1) 21 0), sx σ xi' t' (X_row σ)) := by
        unfold f_X0_sorrows
        rw [h3, g3_b]
        dsimp only
        rw [if_neg n10, e1, em]
        rfl
      rw [em] at e2
      have e4 : f_X7_bitsOf (i3 (ml (SO σ P sm p 1) 21 0)) = some (i3 (0 + pcn (SO σ P sm p 1) 21 0), ()) := m_bitsN 21 2000 0 0 (by decide) (by decide)
      rw [Nat.zero_add] at e4
      obtain ⟨xi2, t2', e5, g5⟩ := c_ask36 (rr := X_row σ) (x2 := i3 w) (x3 := i3 (pcn (SO σ P sm p 1) 21 0)) hS hw t1 (fun j hj => by obtain ⟨⟨q, q1, q2, -⟩, -⟩ := t4 j hj; exact ⟨q, q1, q2⟩) h1 (P_n P) 2000 xi' t' 0 (i3 (pcn (SO σ P sm p 1) 21 0)) (-4) (by omega) (by omega) (q1.2.1.trans t2)
      have e6 := m_ask43 (σ := σ) (τ := mx τ st' x' y' z' g') (P := P) (sm := sm) (p := p) (x2 := i3 w) (x4 := i3 (pcn (SO σ P sm p 1) 21 0)) hn (by rw [mx__oneMany]; exact hM.hn) (by rw [mx__goneBy]; exact l3) (P_n P) 2000 0 (i3 (pcn (SO σ P sm p 1) 21 0)) (-4) (by omega) (by omega)
      rw [e3, e2, g3_b, g3_b]
      dsimp only
      rw [c_bitsN, e4, g3_b, g3_b]
      exact gScr.ok h0 ⟨_, _, _, _, _, _, _, _, _, e5, e6, q1.tr g5, l2⟩
    · rw [w1, w2]
      exact gOK.rf _ h0
  · rw [h1, h2]
    exact gOK.rf _ h0
