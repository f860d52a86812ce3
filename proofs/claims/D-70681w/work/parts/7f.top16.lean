set_option maxRecDepth 100000
set_option maxHeartbeats 400000
/-! how many bits: the two counts agree -/
theorem i3_and (a b : Nat) : i3 a &&& i3 b = i3 (a &&& b) := by
  apply Int32.toBitVec.inj
  show BitVec.ofNat 32 a &&& BitVec.ofNat 32 b = BitVec.ofNat 32 (a &&& b)
  apply BitVec.eq_of_getLsbD_eq
  intro i hi
  rw [BitVec.getLsbD_and, BitVec.getLsbD_ofNat, BitVec.getLsbD_ofNat, BitVec.getLsbD_ofNat, Nat.testBit_and]
  simp [hi]
theorem ushr_of {a k : Nat} {x : Int32} (h : x.toBitVec = (BitVec.ofNat 32 a) >>> k) (ha : a < 4294967296) : x = i3 (a / 2 ^ k) := by
  apply Int32.toBitVec.inj
  rw [h]
  show _ = BitVec.ofNat 32 (a / 2 ^ k)
  apply BitVec.eq_of_toNat_eq
  have h2 : a / 2 ^ k ≤ a := Nat.div_le_self _ _
  rw [BitVec.toNat_ushiftRight, BitVec.toNat_ofNat, BitVec.toNat_ofNat, Nat.shiftRight_eq_div_pow, Nat.mod_eq_of_lt (by omega), Nat.mod_eq_of_lt (by omega)]
/-- two parts, two parts of the mask -/
theorem and_sp {a b m M : Nat} (ha : a < 256) (hm : m < 256) : (a + 256 * b) &&& (m + 256 * M) = (a &&& m) + 256 * (b &&& M) := by
  have h1 : (a &&& m) < 2 ^ 8 := Nat.lt_of_le_of_lt Nat.and_le_left ha
  rw [Nat.add_comm a, Nat.add_comm m, Nat.add_comm (a &&& m)]
  apply Nat.eq_of_testBit_eq
  intro j
  rw [Nat.testBit_and, show (256 : Nat) = 2 ^ 8 from rfl, Nat.testBit_two_pow_mul_add b (show a < 2 ^ 8 from ha) j, Nat.testBit_two_pow_mul_add M (show m < 2 ^ 8 from hm) j, Nat.testBit_two_pow_mul_add (b &&& M) h1 j]
  by_cases e : j < 8
  · rw [if_pos e, if_pos e, if_pos e, Nat.testBit_and]
  · rw [if_neg e, if_neg e, if_neg e, Nat.testBit_and]
def t1 (b : Nat) : Nat := b - (b / 2 &&& 85)
def t2 (v : Nat) : Nat := (v &&& 51) + (v / 4 &&& 51)
def t3 (v : Nat) : Nat := (v + v / 16) &&& 15
theorem and1 : ∀ a, a < 256 → ∀ r, r < 2 → ((a / 2 + 128 * r) &&& 85) = (a / 2 &&& 85) := by decide +kernel
theorem and2 : ∀ a, a < 256 → ∀ r, r < 4 → ((a / 4 + 64 * r) &&& 51) = (a / 4 &&& 51) := by decide +kernel
theorem and3 : ∀ a, a < 256 → ∀ r, r < 16 → ((a + a / 16 + 16 * r) &&& 15) = ((a + a / 16) &&& 15) := by decide +kernel
theorem st1 {a y M : Nat} (ha : a < 256) : (a + 256 * y) - ((a + 256 * y) / 2 &&& (85 + 256 * M)) = t1 a + 256 * (y - (y / 2 &&& M)) := by
  have e : (a + 256 * y) / 2 = (a / 2 + 128 * (y % 2)) + 256 * (y / 2) := by omega
  have h1 : (a / 2 &&& 85) ≤ a / 2 := Nat.and_le_left
  have h2 : (y / 2 &&& M) ≤ y / 2 := Nat.and_le_left
  rw [e, and_sp (by omega) (by decide), and1 a ha (y % 2) (by omega)]
  unfold t1
  omega
theorem st2 {a y M : Nat} (ha : a < 256) : ((a + 256 * y) &&& (51 + 256 * M)) + ((a + 256 * y) / 4 &&& (51 + 256 * M)) = t2 a + 256 * ((y &&& M) + (y / 4 &&& M)) := by
  have e : (a + 256 * y) / 4 = (a / 4 + 64 * (y % 4)) + 256 * (y / 4) := by omega
  rw [e, and_sp ha (by decide), and_sp (by omega) (by decide), and2 a ha (y % 4) (by omega)]
  unfold t2
  omega
theorem st3 {a y M : Nat} (ha : a ≤ 68) (hy : y % 16 ≤ 4) : ((a + 256 * y) + (a + 256 * y) / 16) &&& (15 + 256 * M) = t3 a + 256 * ((y + y / 16) &&& M) := by
  have e : (a + 256 * y) + (a + 256 * y) / 16 = (a + a / 16 + 16 * (y % 16)) + 256 * (y + y / 16) := by omega
  rw [e, and_sp (by omega) (by decide), and3 a (by omega) (y % 16) (by omega)]
  rfl
theorem tb : ∀ b, b < 256 → t1 b < 256 ∧ t2 (t1 b) ≤ 68 ∧ t2 (t1 b) % 16 ≤ 4 ∧ t3 (t2 (t1 b)) ≤ 8 := by decide +kernel
def pc8 (b : Nat) : Nat := (if b.testBit 0 then 1 else 0) + (if b.testBit 1 then 1 else 0) + (if b.testBit 2 then 1 else 0) + (if b.testBit 3 then 1 else 0) + (if b.testBit 4 then 1 else 0) + (if b.testBit 5 then 1 else 0) + (if b.testBit 6 then 1 else 0) + (if b.testBit 7 then 1 else 0)
theorem tp : ∀ b, b < 256 → t3 (t2 (t1 b)) = pc8 b := by decide +kernel
theorem and63 (v : Nat) : v &&& 63 = v % 64 := Nat.and_two_pow_sub_one_eq_mod v 6
theorem sum3 {c0 c1 c2 : Nat} (h0 : c0 ≤ 8) (h1 : c1 ≤ 8) (h2 : c2 ≤ 8) : (c0 + 256 * (c1 + 256 * c2) + (c0 + 256 * (c1 + 256 * c2)) / 256 + (c0 + 256 * (c1 + 256 * c2) + (c0 + 256 * (c1 + 256 * c2)) / 256) / 65536) % 64 = c0 + c1 + c2 := by
  have d1 : (c0 + 256 * (c1 + 256 * c2)) / 256 = c1 + 256 * c2 := by omega
  rw [d1]
  have d2 : (c0 + 256 * (c1 + 256 * c2) + (c1 + 256 * c2)) / 65536 = c2 := by omega
  rw [d2]
  omega
theorem c_bits21 {b0 b1 b2 : Nat} (h0 : b0 < 256) (h1 : b1 < 256) (h2 : b2 < 256) (hx : b0 + 256 * (b1 + 256 * b2) < 2097152) : f_J7_bitCount (i3 (b0 + 256 * (b1 + 256 * b2))) = some (i3 (pc8 b0 + pc8 b1 + pc8 b2), ()) := by
  obtain ⟨p0, q0, r0, s0⟩ := tb b0 h0
  obtain ⟨p1, q1, r1, s1⟩ := tb b1 h1
  obtain ⟨p2, q2, r2, s2⟩ := tb b2 h2
  have u1 : ∀ a, a < 4294967296 → ((i3 a).toUInt32 >>> ((1 : Int32).toUInt32 &&& Int32.toUInt32 31)).toInt32 = i3 (a / 2) := fun a ha => ushr_of (k := 1) rfl ha
  have u2 : ∀ a, a < 4294967296 → ((i3 a).toUInt32 >>> ((2 : Int32).toUInt32 &&& Int32.toUInt32 31)).toInt32 = i3 (a / 4) := fun a ha => ushr_of (k := 2) rfl ha
  have u4 : ∀ a, a < 4294967296 → ((i3 a).toUInt32 >>> ((4 : Int32).toUInt32 &&& Int32.toUInt32 31)).toInt32 = i3 (a / 16) := fun a ha => ushr_of (k := 4) rfl ha
  have u8 : ∀ a, a < 4294967296 → ((i3 a).toUInt32 >>> ((8 : Int32).toUInt32 &&& Int32.toUInt32 31)).toInt32 = i3 (a / 256) := fun a ha => ushr_of (k := 8) rfl ha
  have u16 : ∀ a, a < 4294967296 → ((i3 a).toUInt32 >>> ((16 : Int32).toUInt32 &&& Int32.toUInt32 31)).toInt32 = i3 (a / 65536) := fun a ha => ushr_of (k := 16) rfl ha
  have m1 : (1431655765 : Int32) = i3 (85 + 256 * (85 + 256 * (85 + 256 * 85))) := rfl
  have m2 : (858993459 : Int32) = i3 (51 + 256 * (51 + 256 * (51 + 256 * 51))) := rfl
  have m3 : (252645135 : Int32) = i3 (15 + 256 * (15 + 256 * (15 + 256 * 15))) := rfl
  have m4 : (63 : Int32) = i3 63 := rfl
  have e1 : (b0 + 256 * (b1 + 256 * b2)) - ((b0 + 256 * (b1 + 256 * b2)) / 2 &&& (85 + 256 * (85 + 256 * (85 + 256 * 85)))) = t1 b0 + 256 * (t1 b1 + 256 * (t1 b2)) := by
    rw [st1 h0, st1 h1]
    have : b2 - (b2 / 2 &&& (85 + 256 * 85)) = t1 b2 := by
      have := st1 (y := 0) (M := 85) h2
      simpa using this
    rw [this]
  have e2 : ((t1 b0 + 256 * (t1 b1 + 256 * (t1 b2))) &&& (51 + 256 * (51 + 256 * (51 + 256 * 51)))) + ((t1 b0 + 256 * (t1 b1 + 256 * (t1 b2))) / 4 &&& (51 + 256 * (51 + 256 * (51 + 256 * 51)))) = t2 (t1 b0) + 256 * (t2 (t1 b1) + 256 * t2 (t1 b2)) := by
    rw [st2 p0, st2 p1]
    have : (t1 b2 &&& (51 + 256 * 51)) + (t1 b2 / 4 &&& (51 + 256 * 51)) = t2 (t1 b2) := by
      have := st2 (y := 0) (M := 51) p2
      simpa using this
    rw [this]
  have e3 : ((t2 (t1 b0) + 256 * (t2 (t1 b1) + 256 * t2 (t1 b2))) + (t2 (t1 b0) + 256 * (t2 (t1 b1) + 256 * t2 (t1 b2))) / 16) &&& (15 + 256 * (15 + 256 * (15 + 256 * 15))) = t3 (t2 (t1 b0)) + 256 * (t3 (t2 (t1 b1)) + 256 * t3 (t2 (t1 b2))) := by
    rw [st3 q0 (by omega), st3 q1 (by omega)]
    have : (t2 (t1 b2) + t2 (t1 b2) / 16) &&& (15 + 256 * 15) = t3 (t2 (t1 b2)) := by
      have := st3 (y := 0) (M := 15) q2 (by decide)
      simpa using this
    rw [this]
  have hle : ((b0 + 256 * (b1 + 256 * b2)) / 2 &&& (85 + 256 * (85 + 256 * (85 + 256 * 85)))) ≤ b0 + 256 * (b1 + 256 * b2) := Nat.le_trans Nat.and_le_left (Nat.div_le_self _ _)
  unfold f_J7_bitCount
  rw [m1, m2, m3, m4, u1 _ (by omega), i3_and, i3_sub hle, e1, g3_v, u2 _ (by omega), i3_and, i3_and, i3_add, e2, g3_v, u4 _ (by omega), i3_add, i3_and, e3, g3_v, tp b0 h0, tp b1 h1, tp b2 h2]
  rw [tp b0 h0] at s0
  rw [tp b1 h1] at s1
  rw [tp b2 h2] at s2
  rw [u8 _ (by omega), i3_add, g3_v, u16 _ (by omega), i3_add, g3_v, i3_and, and63]
  rw [sum3 s0 s1 s2]
/-- the bits of a set below k + i, the lowest first -/
def ml (S : Nat → Bool) : Nat → Nat → Nat
  | 0, _ => 0
  | k + 1, i => (if S i then 1 else 0) + 2 * ml S k (i + 1)
def pcn (S : Nat → Bool) : Nat → Nat → Nat
  | 0, _ => 0
  | k + 1, i => (if S i then 1 else 0) + pcn S k (i + 1)
theorem ml_lt (S : Nat → Bool) : ∀ k i, ml S k i < 2 ^ k
  | 0, _ => by simp [ml]
  | k + 1, i => by
    have := ml_lt S k (i + 1)
    unfold ml
    rw [Nat.pow_succ]
    split <;> omega
theorem ml_0 (S : Nat → Bool) : ∀ k i, ml S k i = 0 → pcn S k i = 0
  | 0, _, _ => rfl
  | k + 1, i, h => by
    unfold ml at h
    unfold pcn
    have h2 : ml S k (i + 1) = 0 := by split at h <;> omega
    rw [ml_0 S k (i + 1) h2]
    split at h
    · omega
    · rename_i hs; rw [if_neg hs]
theorem ml_add (S : Nat → Bool) : ∀ a b i, ml S (a + b) i = ml S a i + 2 ^ a * ml S b (i + a)
  | 0, b, i => by rw [Nat.zero_add, Nat.pow_zero, Nat.one_mul]; simp [ml]
  | a + 1, b, i => by
    rw [show a + 1 + b = (a + b) + 1 by omega]
    show (if S i then 1 else 0) + 2 * ml S (a + b) (i + 1) = (if S i then 1 else 0) + 2 * ml S a (i + 1) + 2 ^ (a + 1) * ml S b (i + (a + 1))
    rw [ml_add S a b (i + 1), Nat.pow_succ, show i + 1 + a = i + (a + 1) by omega, Nat.mul_add, Nat.mul_comm (2 ^ a) 2, Nat.mul_assoc, Nat.add_assoc]
theorem pcn_add (S : Nat → Bool) : ∀ a b i, pcn S (a + b) i = pcn S a i + pcn S b (i + a)
  | 0, b, i => by rw [Nat.zero_add]; simp [pcn]
  | a + 1, b, i => by
    rw [show a + 1 + b = (a + b) + 1 by omega]
    show (if S i then 1 else 0) + pcn S (a + b) (i + 1) = (if S i then 1 else 0) + pcn S a (i + 1) + pcn S b (i + (a + 1))
    rw [pcn_add S a b (i + 1), show i + 1 + a = i + (a + 1) by omega, Nat.add_assoc]
theorem sar1 {m : Nat} (hm : m < 2147483648) : i3 m >>> (i3 1 &&& 31) = i3 (m / 2) := by
  apply Int32.toBitVec.inj
  have h1 : (i3 m >>> (i3 1 &&& 31)).toBitVec = (BitVec.ofNat 32 m).sshiftRight 1 := rfl
  have hmsb : (BitVec.ofNat 32 m).msb = false := by
    rw [BitVec.msb_eq_decide, BitVec.toNat_ofNat, Nat.mod_eq_of_lt (by omega)]
    simp
    omega
  rw [h1, BitVec.sshiftRight_eq_of_msb_false hmsb]
  show _ = BitVec.ofNat 32 (m / 2)
  apply BitVec.eq_of_toNat_eq
  rw [BitVec.toNat_ushiftRight, BitVec.toNat_ofNat, BitVec.toNat_ofNat, Nat.shiftRight_eq_div_pow, Nat.mod_eq_of_lt (by omega), Nat.mod_eq_of_lt (by omega)]
theorem m_bitsN {S : Nat → Bool} : ∀ k fuel i n, k ≤ 30 → k < fuel → f_X7_bitsOf_b4 fuel () (i3 n) (i3 (ml S k i)) = some (i3 (n + pcn S k i), ()) := by
  intro k
  induction k with
  | zero =>
    intro fuel i n hk hf
    obtain ⟨f, rfl⟩ := gsucc hf
    simp only [f_X7_bitsOf_b4]
    rw [if_pos (show i3 (ml S 0 i) ≤ 0 from by show i3 0 ≤ 0; decide)]
    rfl
  | succ k ih =>
    intro fuel i n hk hf
    obtain ⟨f, rfl⟩ := gsucc hf
    have hlt := ml_lt S (k + 1) i
    have hp : 2 ^ (k + 1) ≤ 2 ^ 30 := Nat.pow_le_pow_right (by decide) hk
    have hb : ml S (k + 1) i < 2147483648 := Nat.lt_of_lt_of_le hlt (Nat.le_trans hp (by decide))
    by_cases e : ml S (k + 1) i = 0
    · simp only [f_X7_bitsOf_b4]
      rw [e, if_pos (by decide), ml_0 S (k + 1) i e]
      rfl
    · have em : ml S (k + 1) i % 2 = (if S i then 1 else 0) := by
        show ((if S i then 1 else 0) + 2 * ml S k (i + 1)) % 2 = (if S i then 1 else 0)
        split <;> omega
      have ed : ml S (k + 1) i / 2 = ml S k (i + 1) := by
        show ((if S i then 1 else 0) + 2 * ml S k (i + 1)) / 2 = ml S k (i + 1)
        split <;> omega
      simp only [f_X7_bitsOf_b4]
      rw [if_neg (by rw [i3_0, i3_le hb (by decide)]; omega), g3_v, i3_1, i3_and, Nat.and_one_is_mod, em, i3_add, g3_v, sar1 hb, ed, ih f (i + 1) _ (by omega) (by omega)]
      show _ = some (i3 (n + ((if S i then 1 else 0) + pcn S k (i + 1))), ())
      rw [Nat.add_assoc]
theorem pc8_ml {S : Nat → Bool} {i : Nat} : pc8 (ml S 8 i) = pcn S 8 i := by
  simp only [ml, pcn]
  cases S i <;> cases S (i + 1) <;> cases S (i + 1 + 1) <;> cases S (i + 1 + 1 + 1) <;> cases S (i + 1 + 1 + 1 + 1) <;> cases S (i + 1 + 1 + 1 + 1 + 1) <;> cases S (i + 1 + 1 + 1 + 1 + 1 + 1) <;> cases S (i + 1 + 1 + 1 + 1 + 1 + 1 + 1) <;> rfl
theorem pc5_ml {S : Nat → Bool} {i : Nat} : pc8 (ml S 5 i) = pcn S 5 i := by
  simp only [ml, pcn]
  cases S i <;> cases S (i + 1) <;> cases S (i + 1 + 1) <;> cases S (i + 1 + 1 + 1) <;> cases S (i + 1 + 1 + 1 + 1) <;> rfl
theorem c_bitsN {S : Nat → Bool} : f_J7_bitCount (i3 (ml S 21 0)) = some (i3 (pcn S 21 0), ()) := by
  have e1 : ml S 21 0 = ml S 8 0 + 256 * (ml S 8 8 + 256 * ml S 5 16) := by
    rw [show 21 = 8 + (8 + 5) from rfl, ml_add, ml_add]
  have e2 : pcn S 21 0 = pcn S 8 0 + pcn S 8 8 + pcn S 5 16 := by
    rw [show 21 = 8 + (8 + 5) from rfl, pcn_add, pcn_add, ← Nat.add_assoc]
  have h1 := ml_lt S 8 0
  have h2 := ml_lt S 8 8
  have h3 := ml_lt S 5 16
  have h4 := ml_lt S 21 0
  rw [e1] at h4
  rw [e1, c_bits21 h1 h2 (Nat.lt_of_lt_of_le h3 (by decide)) h4, pc8_ml, pc8_ml, pc5_ml, e2]
