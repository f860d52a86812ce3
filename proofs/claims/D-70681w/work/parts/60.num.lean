set_option maxRecDepth 100000
/-! THE PLAIN LAW, numbers: i3 n is the int of a natural number -/
def i3 (n : Nat) : Int32 := Int32.ofNat n
theorem i3_0 : (0 : Int32) = i3 0 := rfl
theorem i3_1 : (1 : Int32) = i3 1 := rfl
theorem i3_2 : (2 : Int32) = i3 2 := rfl
theorem i3_3 : (3 : Int32) = i3 3 := rfl
theorem i3_4 : (4 : Int32) = i3 4 := rfl
theorem i3_5 : (5 : Int32) = i3 5 := rfl
theorem i3_6 : (6 : Int32) = i3 6 := rfl
theorem i3_7 : (7 : Int32) = i3 7 := rfl
theorem i3_8 : (8 : Int32) = i3 8 := rfl
theorem i3_9 : (9 : Int32) = i3 9 := rfl
theorem i3_10 : (10 : Int32) = i3 10 := rfl
theorem i3_12 : (12 : Int32) = i3 12 := rfl
theorem i3_13 : (13 : Int32) = i3 13 := rfl
theorem i3_14 : (14 : Int32) = i3 14 := rfl
theorem i3_15 : (15 : Int32) = i3 15 := rfl
theorem i3_16 : (16 : Int32) = i3 16 := rfl
theorem i3_17 : (17 : Int32) = i3 17 := rfl
theorem i3_18 : (18 : Int32) = i3 18 := rfl
theorem i3_19 : (19 : Int32) = i3 19 := rfl
theorem i3_20 : (20 : Int32) = i3 20 := rfl
theorem i3_27 : (27 : Int32) = i3 27 := rfl
theorem i3_28 : (28 : Int32) = i3 28 := rfl
theorem i3_29 : (29 : Int32) = i3 29 := rfl
theorem i3_31 : (31 : Int32) = i3 31 := rfl
theorem i3_40 : (40 : Int32) = i3 40 := rfl
theorem i3_60 : (60 : Int32) = i3 60 := rfl
theorem i3_84 : (84 : Int32) = i3 84 := rfl
theorem i3_112 : (112 : Int32) = i3 112 := rfl
theorem i3_117 : (117 : Int32) = i3 117 := rfl
theorem i3_122 : (122 : Int32) = i3 122 := rfl
theorem i3_127 : (127 : Int32) = i3 127 := rfl
theorem i3_140 : (140 : Int32) = i3 140 := rfl
theorem i3_157 : (157 : Int32) = i3 157 := rfl
theorem i3_159 : (159 : Int32) = i3 159 := rfl
theorem i3_160 : (160 : Int32) = i3 160 := rfl
theorem i3_168 : (168 : Int32) = i3 168 := rfl
theorem i3_256 : (256 : Int32) = i3 256 := rfl
theorem i3_999 : (999 : Int32) = i3 999 := rfl
theorem i3_add (a b : Nat) : i3 a + i3 b = i3 (a + b) := (Int32.ofNat_add a b).symm
theorem i3_mul (a b : Nat) : i3 a * i3 b = i3 (a * b) := (Int32.ofNat_mul a b).symm
theorem i3_sub {a b : Nat} (h : b ≤ a) : i3 a - i3 b = i3 (a - b) := (Int32.ofNat_sub a b h).symm
theorem i3_int {a : Nat} (h : a < 2147483648) : (i3 a).toInt = (a : Int) := Int32.toInt_ofNat_of_lt h
theorem i3_lt {a b : Nat} (ha : a < 2147483648) (hb : b < 2147483648) : (i3 a < i3 b) = (a < b) := propext (Int32.ofNat_lt_iff_lt ha hb)
theorem i3_le {a b : Nat} (ha : a < 2147483648) (hb : b < 2147483648) : (i3 a ≤ i3 b) = (a ≤ b) := propext (Int32.ofNat_le_iff_le ha hb)
theorem i3_eq {a b : Nat} (ha : a < 2147483648) (hb : b < 2147483648) : (i3 a = i3 b) = (a = b) := propext ⟨fun h => by
  have := congrArg Int32.toInt h
  rw [i3_int ha, i3_int hb] at this
  omega, fun h => by rw [h]⟩
theorem if3_lt {a b : Nat} (ha : a < 2147483648) (hb : b < 2147483648) {α : Type} {A B : α} : (if i3 a < i3 b then A else B) = (if a < b then A else B) := by simp only [i3_lt ha hb]
theorem if3_le {a b : Nat} (ha : a < 2147483648) (hb : b < 2147483648) {α : Type} {A B : α} : (if i3 a ≤ i3 b then A else B) = (if a ≤ b then A else B) := by simp only [i3_le ha hb]
theorem if3_eq {a b : Nat} (ha : a < 2147483648) (hb : b < 2147483648) {α : Type} {A B : α} : (if i3 a = i3 b then A else B) = (if a = b then A else B) := by simp only [i3_eq ha hb]
theorem i3_negint {a : Nat} (ha : a < 2147483648) : (-(i3 a)).toInt = -(a : Int) := by
  show (-Int32.ofNat a).toInt = _
  rw [Int32.neg_ofNat, Int32.toInt_ofInt_of_le (by omega) (by omega)]
theorem i3_ng {a b : Nat} (ha : a < 2147483648) (hb : b < 2147483648) (h0 : 0 < b) : (i3 a = -(i3 b)) = False := propext ⟨fun h => by
  have := congrArg Int32.toInt h
  rw [i3_int ha, i3_negint hb] at this
  omega, fun h => h.elim⟩
theorem i3_ng' {a b : Nat} (ha : a < 2147483648) (hb : b < 2147483648) (h0 : 0 < b) : (-(i3 b) = i3 a) = False := propext ⟨fun h => by
  have := congrArg Int32.toInt h
  rw [i3_int ha, i3_negint hb] at this
  omega, fun h => h.elim⟩
theorem i3_ngl {a b : Nat} (ha : a < 2147483648) (hb : b < 2147483648) (h0 : 0 < a) : (-(i3 a) < i3 b) = True := propext ⟨fun _ => trivial, fun _ => by
  rw [Int32.lt_iff_toInt_lt, i3_int hb, i3_negint ha]
  omega⟩
theorem i3_dec {a : Nat} (h : 1 ≤ a) : i3 a + -(i3 1) = i3 (a - 1) := by rw [← Int32.sub_eq_add_neg]; exact i3_sub h
theorem i3_decz : i3 0 + -(i3 1) = -(i3 1) := by decide
theorem i3_decs : i3 0 - i3 1 = -(i3 1) := by decide
theorem i3_idx {a : Nat} (h : a < 2147483648) : (i3 a).toNatClampNeg = a := Int32.toNatClampNeg_ofNat_of_lt h
theorem i3_of {x : Int32} {m : Nat} (h0 : 0 ≤ x.toInt) (h1 : x.toInt ≤ (m : Int)) : ∃ k, k ≤ m ∧ x = i3 k := by
  refine ⟨x.toInt.toNat, by omega, ?_⟩
  have hx := x.toInt_lt
  apply Int32.toInt_inj.mp
  rw [i3_int (by omega)]
  omega
theorem g3_ld {n i : Nat} {f : Nat → Int32} {α : Type} {K : Int32 → Option α} (h : i < n) (hn : n < 2147483648) : gld n f (i3 i) K = K (f i) := by
  unfold gld
  rw [i3_idx (by omega), if_neg]
  rintro (h1 | h1)
  · rw [i3_0, i3_lt (by omega) (by omega)] at h1; omega
  · omega
theorem g3_st {n i : Nat} {f : Nat → Int32} {x : Int32} {α : Type} {K : (Nat → Int32) → Option α} (h : i < n) (hn : n < 2147483648) : gst n f (i3 i) x K = K (upd f i x) := by
  unfold gst
  rw [i3_idx (by omega), if_neg]
  rintro (h1 | h1)
  · rw [i3_0, i3_lt (by omega) (by omega)] at h1; omega
  · omega
theorem g3_ix {n i : Nat} {α : Type} {K : Nat → Option α} (h : i < n) (hn : n < 2147483648) : gix n (i3 i) K = K i := by
  unfold gix
  rw [i3_idx (by omega), if_neg]
  rintro (h1 | h1)
  · rw [i3_0, i3_lt (by omega) (by omega)] at h1; omega
  · omega
theorem g3_sw {n i : Nat} {α : Type} {F : Nat → Option α} {D : Option α} (h : i < n) (hn : n < 2147483648) : gsw n (i3 i) F D = F i := by
  unfold gsw
  rw [i3_int (by omega), if_pos (by omega)]
  rfl
theorem g3_z1 {S : Type} (u : S) : gzr 1 u = some (1, u) := rfl
theorem g3_z0 {S : Type} (u : S) : gzr 0 u = some (0, u) := rfl
theorem g3_z1' {S : Type} (u : S) : gzr (i3 1) u = some (i3 1, u) := rfl
theorem g3_z0' {S : Type} (u : S) : gzr (i3 0) u = some (i3 0, u) := rfl
theorem g3_v {α : Type} {e : Int32} {K : Int32 → Option α} : gv e K = K e := rfl
theorem g3_vl {α : Type} {e : Int64} {K : Int64 → Option α} : gvl e K = K e := rfl
theorem g3_s {S α : Type} {s : S} {K : S → Option α} : gs s K = K s := rfl
theorem g3_b {α β : Type} {a : α} {K : α → Option β} : (some a).bind K = K a := rfl
theorem i3_dv {a : Nat} (ha : a < 2147483648) (h0 : 0 < a) {α : Type} {K : Option α} : gdv (i3 a) K = K := by
  unfold gdv
  rw [if_neg]
  rw [i3_0, i3_eq ha (by omega)]; omega
theorem i3_div {a b : Nat} (ha : a < 2147483648) (hb : b < 2147483648) : i3 a / i3 b = i3 (a / b) := (Int32.ofNat_div ha hb).symm
theorem upd_same {f : Nat → Int32} {k : Nat} {x : Int32} : upd f k x k = x := by simp [upd]
theorem upd_ne {f : Nat → Int32} {k j : Nat} {x : Int32} (h : j ≠ k) : upd f k x j = f j := by simp [upd, h]
theorem i3_shl {i : Nat} (h : i < 31) : (1 : Int32) <<< (i3 i &&& 31) = i3 (2 ^ i) := (by decide +kernel : ∀ i, i < 31 → (1 : Int32) <<< (i3 i &&& 31) = i3 (2 ^ i)) i h
theorem i3_shl' {i : Nat} (h : i < 31) : i3 1 <<< (i3 i &&& i3 31) = i3 (2 ^ i) := i3_shl h
theorem i3_bit5 {m i : Nat} (hm : m < 32) (hi : i < 5) : ((i3 m >>> (i3 i &&& i3 31)) &&& i3 1) = i3 (if m.testBit i then 1 else 0) := (by decide +kernel : ∀ m, m < 32 → ∀ i, i < 5 → ((i3 m >>> (i3 i &&& i3 31)) &&& i3 1) = i3 (if m.testBit i then 1 else 0)) m hm i hi
theorem i3_bit8 {m i : Nat} (hm : m < 256) (hi : i < 8) : ((i3 m >>> (i3 i &&& i3 31)) &&& i3 1) = i3 (if m.testBit i then 1 else 0) := (by decide +kernel : ∀ m, m < 256 → ∀ i, i < 8 → ((i3 m >>> (i3 i &&& i3 31)) &&& i3 1) = i3 (if m.testBit i then 1 else 0)) m hm i hi
theorem i3_or5 {m k : Nat} (hm : m < 32) (hk : k < 32) : i3 m ||| i3 k = i3 (m ||| k) := (by decide +kernel : ∀ m, m < 32 → ∀ k, k < 32 → i3 m ||| i3 k = i3 (m ||| k)) m hm k hk
theorem i3_and5 {m k : Nat} (hm : m < 32) (hk : k < 32) : i3 m &&& i3 k = i3 (m &&& k) := (by decide +kernel : ∀ m, m < 32 → ∀ k, k < 32 → i3 m &&& i3 k = i3 (m &&& k)) m hm k hk
theorem i3_andn5 {m k : Nat} (hm : m < 32) (hk : k < 32) : i3 m &&& (i3 k ^^^ -(i3 1)) = i3 (m &&& (31 - k)) := (by decide +kernel : ∀ m, m < 32 → ∀ k, k < 32 → i3 m &&& (i3 k ^^^ -(i3 1)) = i3 (m &&& (31 - k))) m hm k hk
theorem or5_lt {m k : Nat} (hm : m < 32) (hk : k < 32) : (m ||| k) < 32 := Nat.or_lt_two_pow (n := 5) hm hk
theorem pow5_lt {p : Nat} (h : p < 5) : 2 ^ p < 32 := Nat.pow_lt_pow_right (n := 5) (by decide) h
theorem i3_byte {a : Nat} (h : a < 128) : vp_nar .byte ((i3 a).toInt8.toInt32) = i3 a := (by decide +kernel : ∀ a, a < 128 → vp_nar .byte ((i3 a).toInt8.toInt32) = i3 a) a h
theorem i3_byte1 {a : Nat} (h : a < 128) : vp_nar .byte (i3 a) = i3 a := (by decide +kernel : ∀ a, a < 128 → vp_nar .byte (i3 a) = i3 a) a h
theorem i3_short {a : Nat} (h : a < 1024) : vp_nar .short ((i3 a).toInt16.toInt32) = i3 a := (by decide +kernel : ∀ a, a < 1024 → vp_nar .short ((i3 a).toInt16.toInt32) = i3 a) a h
theorem i3_shortN : vp_nar .short (-(i3 4)) = -(i3 4) := by decide +kernel
theorem g3_inX0 {x : Int32} {a b : Int64} : f_X0_in x.toInt64 a b = some (if a.toInt ≤ x.toInt ∧ x.toInt ≤ b.toInt then 1 else 0, ()) := by
  unfold f_X0_in
  simp only [lg_cmp_lt, lg_cmp_gt, Int64.lt_iff_toInt_lt, Int32.toInt_toInt64]
  by_cases h1 : x.toInt < a.toInt
  · rw [if_pos h1, if_neg (by omega)]; rfl
  · rw [if_neg h1]
    by_cases h2 : b.toInt < x.toInt
    · rw [if_pos h2, if_neg (by omega)]; rfl
    · rw [if_neg h2, if_pos (by omega)]; rfl
theorem g3_inX7 {x : Int32} {a b : Int64} : f_X7_in x.toInt64 a b = some (if a.toInt ≤ x.toInt ∧ x.toInt ≤ b.toInt then 1 else 0, ()) := by
  unfold f_X7_in
  simp only [lg_cmp_lt, lg_cmp_gt, Int64.lt_iff_toInt_lt, Int32.toInt_toInt64]
  by_cases h1 : x.toInt < a.toInt
  · rw [if_pos h1, if_neg (by omega)]; rfl
  · rw [if_neg h1]
    by_cases h2 : b.toInt < x.toInt
    · rw [if_pos h2, if_neg (by omega)]; rfl
    · rw [if_neg h2, if_pos (by omega)]; rfl
