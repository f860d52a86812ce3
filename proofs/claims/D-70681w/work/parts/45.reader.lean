set_option maxRecDepth 100000
abbrev gRd : Type := Int32 × Int32 × Int32 × Int32 × Int32 × Int32 × Int32 × gS × gXI × (Nat → Int32)
def R_size (σ : gRd) : Int32 := σ.1
def R_size_s (σ : gRd) (v : Int32) : gRd := (v, σ.2.1, σ.2.2.1, σ.2.2.2.1, σ.2.2.2.2.1, σ.2.2.2.2.2.1, σ.2.2.2.2.2.2.1, σ.2.2.2.2.2.2.2.1, σ.2.2.2.2.2.2.2.2.1, σ.2.2.2.2.2.2.2.2.2)
def R_lines (σ : gRd) : Int32 := σ.2.1
def R_lines_s (σ : gRd) (v : Int32) : gRd := (σ.1, v, σ.2.2.1, σ.2.2.2.1, σ.2.2.2.2.1, σ.2.2.2.2.2.1, σ.2.2.2.2.2.2.1, σ.2.2.2.2.2.2.2.1, σ.2.2.2.2.2.2.2.2.1, σ.2.2.2.2.2.2.2.2.2)
def R_highest (σ : gRd) : Int32 := σ.2.2.1
def R_highest_s (σ : gRd) (v : Int32) : gRd := (σ.1, σ.2.1, v, σ.2.2.2.1, σ.2.2.2.2.1, σ.2.2.2.2.2.1, σ.2.2.2.2.2.2.1, σ.2.2.2.2.2.2.2.1, σ.2.2.2.2.2.2.2.2.1, σ.2.2.2.2.2.2.2.2.2)
def R_at (σ : gRd) : Int32 := σ.2.2.2.1
def R_at_s (σ : gRd) (v : Int32) : gRd := (σ.1, σ.2.1, σ.2.2.1, v, σ.2.2.2.2.1, σ.2.2.2.2.2.1, σ.2.2.2.2.2.2.1, σ.2.2.2.2.2.2.2.1, σ.2.2.2.2.2.2.2.2.1, σ.2.2.2.2.2.2.2.2.2)
def R_from (σ : gRd) : Int32 := σ.2.2.2.2.1
def R_from_s (σ : gRd) (v : Int32) : gRd := (σ.1, σ.2.1, σ.2.2.1, σ.2.2.2.1, v, σ.2.2.2.2.2.1, σ.2.2.2.2.2.2.1, σ.2.2.2.2.2.2.2.1, σ.2.2.2.2.2.2.2.2.1, σ.2.2.2.2.2.2.2.2.2)
def R_sort (σ : gRd) : Int32 := σ.2.2.2.2.2.1
def R_sort_s (σ : gRd) (v : Int32) : gRd := (σ.1, σ.2.1, σ.2.2.1, σ.2.2.2.1, σ.2.2.2.2.1, v, σ.2.2.2.2.2.2.1, σ.2.2.2.2.2.2.2.1, σ.2.2.2.2.2.2.2.2.1, σ.2.2.2.2.2.2.2.2.2)
def R_value (σ : gRd) : Int32 := σ.2.2.2.2.2.2.1
def R_value_s (σ : gRd) (v : Int32) : gRd := (σ.1, σ.2.1, σ.2.2.1, σ.2.2.2.1, σ.2.2.2.2.1, σ.2.2.2.2.2.1, v, σ.2.2.2.2.2.2.2.1, σ.2.2.2.2.2.2.2.2.1, σ.2.2.2.2.2.2.2.2.2)
def R_made (σ : gRd) : gS := σ.2.2.2.2.2.2.2.1
def R_made_s (σ : gRd) (v : gS) : gRd := (σ.1, σ.2.1, σ.2.2.1, σ.2.2.2.1, σ.2.2.2.2.1, σ.2.2.2.2.2.1, σ.2.2.2.2.2.2.1, v, σ.2.2.2.2.2.2.2.2.1, σ.2.2.2.2.2.2.2.2.2)
def R_xi (σ : gRd) : gXI := σ.2.2.2.2.2.2.2.2.1
def R_xi_s (σ : gRd) (v : gXI) : gRd := (σ.1, σ.2.1, σ.2.2.1, σ.2.2.2.1, σ.2.2.2.2.1, σ.2.2.2.2.2.1, σ.2.2.2.2.2.2.1, σ.2.2.2.2.2.2.2.1, v, σ.2.2.2.2.2.2.2.2.2)
def R_tape (σ : gRd) : Nat → Int32 := σ.2.2.2.2.2.2.2.2.2
def R_tape_s (σ : gRd) (v : Nat → Int32) : gRd := (σ.1, σ.2.1, σ.2.2.1, σ.2.2.2.1, σ.2.2.2.2.1, σ.2.2.2.2.2.1, σ.2.2.2.2.2.2.1, σ.2.2.2.2.2.2.2.1, σ.2.2.2.2.2.2.2.2.1, v)
def wR (E : gE) (ad : Nat → Nat) (σ : gRd) : va_W := [(ad 0, .inr (8, [.int (R_size σ), .ref (ad 1), .int (R_lines σ), .int (R_highest σ), .int (R_at σ), .int (R_from σ), .int (R_sort σ), .int (R_value σ), .ref (ad 5)])), (ad 1, .inr (5, [.int (S_people (R_made σ)), .ref (ad 2), .ref (ad 3), .int (S_minute (R_made σ)), .int (S_room (R_made σ)), .int (S_think (R_made σ)), .int (S_planned (R_made σ)), .ref (ad 4)])), (ad 2, .inl (E.2.2.1 0, 15, .inl (S_one (R_made σ)))), (ad 3, .inl (E.2.2.1 1, 5, .inl (S_wept (R_made σ)))), (ad 4, .inl (E.2.2.1 0, 8, .inl (S_plan (R_made σ)))), (ad 5, .inr (0, [.ref (ad 10), .ref (ad 11), .ref (ad 12), .ref (ad 13), .int (I_kept (R_xi σ)), .ref (ad 14), .int (I_seenMany (R_xi σ)), .int (I_weepers (R_xi σ)), .int (I_often (R_xi σ)), .int (I_firstOver (R_xi σ)), .ref (ad 6), .int (I_taped (R_xi σ)), .int (I_fault (R_xi σ)), .ref (ad 15), .long (I_goneSum (R_xi σ)), .long (I_manySum (R_xi σ)), .long (I_allWays (R_xi σ)), .ref (ad 16), .int (I_torn (R_xi σ))])), (ad 6, .inl (E.2.2.1 0, 160, .inl (R_tape σ)))]
/-- a new object -/
theorem g_new {Γ : gG} {Q : State → Prop} {w : va_W} {nL cells slots pc : Nat} {lv : List (Nat × Value)} {st : List Value} {cc : ByteArray} {ret : Option FieldType} {own : String} {rm : Room} (X : gCX Γ cc nL ret own rm) {C : String} {T : u_T} {N ci idx : Nat} (hin : ∀ w ∈ u_ws C T N, w ∈ lw_all) {ty : Nat → FieldType} (hty : ∀ k, k < N → parseFieldDescriptor (T k).2.2.1 = some (ty k)) (hcl : Cond.classLink own idx C ∈ lw_all) (hinst : Cond.instantiable C N ∈ lw_all) (hini : Cond.initialized C ∈ lw_all) (hc : vwCl[ci]? = some (C, T, N)) (fs : List Value) (hfs : ∀ j, j < N → defaultValue (ty j) = vp_V fs j) (hcs : cells + 1 ≤ rm.cells ∧ slots + N ≤ rm.slots) (hd : decode cc pc = .ok (.new idx, 3)) (kk : ∀ q : Nat, gW Γ Q (w ++ [(q, .inr (ci, fs))]) nL (cells + 1) (slots + N) (pc + 3) lv (.ref q :: st)) : gW Γ Q w nL cells slots pc lv st := by
  obtain ⟨p, l, e, R, s, m, args, below, meth, c, E, A⟩ := Γ
  obtain ⟨hx, hb, hr, hlk, hml, hown, hts, hK, hA, hA0, hO, hR⟩ := X
  intro H locs ls hP hD hS hl
  subst hR
  exact va_new hx hb hts hin ty hty hown (hts _ hcl) (hts _ hinst) (hts _ hini) hK.1 hP hD hS hA hc hfs hcs.1 hcs.2 hd (fun q H1 hP1 hD1 hS1 => kk q H1 locs ls hP1 hD1 hS1 hl)
def gswL (lo : Int) (n : Nat) (x : Int32) {α : Type} (F : Nat → Option α) (D : Option α) : Option α := if lo ≤ x.toInt ∧ x.toInt < lo + (n : Int) then F (x.toInt - lo).toNat else D
theorem g_tswL {Γ : gG} {Q : State → Prop} {w : va_W} {nL cells slots pc : Nat} {lv : List (Nat × Value)} {st : List Value} {cc : ByteArray} {ret : Option FieldType} {own : String} {rm : Room} {α : Type} {z : α} (X : gCX Γ cc nL ret own rm) {dflt hi : Int} {offs : Array Int} {len : Nat} {x : Int32} {F : Nat → Option α} {D : Option α} (lo : Int) (n : Nat) (tg : Nat → Nat) (td : Nat) (hd : decode cc pc = .ok (.tableswitch dflt lo hi offs, len)) (hh : hi + 1 = lo + (n : Int)) (ho : ∀ k, k < n → ∃ o, offs[k]? = some o ∧ (pc : Int) + o = (tg k : Int)) (htd : (pc : Int) + dflt = (td : Int)) (hf : gswL lo n x F D = some z) (kk : ∀ k, k < n → F k = some z → gW Γ Q w nL cells slots (tg k) lv st) (kd : D = some z → gW Γ Q w nL cells slots td lv st) : gW Γ Q w nL cells slots pc lv (.int x :: st) := by
  unfold gswL at hf
  by_cases hc : lo ≤ x.toInt ∧ x.toInt < lo + (n : Int)
  · rw [if_pos hc] at hf
    obtain ⟨k, hk⟩ : ∃ k : Nat, x.toInt - lo = (k : Int) := ⟨(x.toInt - lo).toNat, (Int.toNat_of_nonneg (by omega)).symm⟩
    have hkn : k < n := by omega
    obtain ⟨o, h1, h2⟩ := ho k hkn
    have e1 : (x.toInt - lo).toNat = k := by omega
    rw [e1] at hf
    have kk := kk k hkn hf
    obtain ⟨p, l, e, R, s, m, args, below, meth, c, E, A⟩ := Γ
    obtain ⟨hx, hb, hr, hlk, hml, hown, hts, hK, hA, hA0, hO, hR⟩ := X
    intro H locs ls hP hD hS hl
    exact lv_tableIn hx hb hd (by omega) (by omega) (by rw [e1]; exact h1) h2 (kk H locs ls hP hD hS hl)
  · rw [if_neg hc] at hf
    have kd := kd hf
    obtain ⟨p, l, e, R, s, m, args, below, meth, c, E, A⟩ := Γ
    obtain ⟨hx, hb, hr, hlk, hml, hown, hts, hK, hA, hA0, hO, hR⟩ := X
    intro H locs ls hP hD hS hl
    exact lv_tableOut hx hb hd (by omega) htd (kd H locs ls hP hD hS hl)
def f_X8_need (σ : gRd) (x1 x2 : Int32) : Option (gR gRd) := if x1 = 0 then some (.inr (x2, R_from σ, σ)) else some (.inl (0, σ))
abbrev rm_X8_need : Room := { frames := 5, cells := 1, slots := 8, locals := 125 }
set_option maxHeartbeats 4000000 in
theorem m_X8_need (l : Launch) (E : gE) (hE1 : gEx1 E) (ad : Nat → Nat) (σ : gRd) (x1 x2 : Int32) (z : gR gRd) (hf : f_X8_need σ x1 x2 = some z) (sz : Nat) : MetX l yX8_need (ws_ yX8_need cX8_need 3 none) rm_X8_need (gPc [.ref (ad 0), .int x1, .int x2] E (wR E ad σ) sz) (gXQ E (wR E ad) true z (va_A (wR E ad σ) sz)) (va_A (wR E ad σ) sz) := by
  refine gMetX (Qx := gXQ E (wR E ad) true z) (by decide) (Nat.le_of_ble_eq_true rfl) (fun Γ X hno hl hE => ?_)
  subst hl; subst hE
  unfold f_X8_need at hf
  show gW Γ _ (wR (gEo Γ) ad σ) 3 0 0 0 [(0, .ref (ad 0)), (1, .int x1), (2, .int x2)] []
  refine g_iload_n X 1 dX8_need_0 rfl ?_
  refine g_if_ne X 17 dX8_need_1 rfl hf (fun hf => ?_) (fun hf => ?_)
  · exact g_xvret X rfl dX8_need_17 hf
  · refine g_new X in_X9 tyX9_ok q275 q276 q71 (ci := 9) rfl gF0 (fun j hj => ?_) (by decide) dX8_need_4 (fun q => ?_)
    · match j, hj with
      | 0, _ => rfl
      | 1, _ => rfl
      | 2, _ => rfl
      | 3, _ => rfl
      | 4, _ => rfl
      | 5, _ => rfl
      | 6, _ => rfl
      | 7, _ => rfl
      | j + 8, hj => exact absurd hj (by omega)
    refine g_dup X dX8_need_7 rfl ?_
    refine g_iload_n X 2 dX8_need_8 rfl ?_
    refine g_aload_n X 0 dX8_need_9 rfl ?_
    refine g_get X in_X8 0 5 rfl rfl (by decide) q365 rfl dX8_need_10 ?_
    refine g_callIv (α := Unit) (z := ()) (K := fun q => some q) (fc := some ()) X 2 (As := [.int x2, .int (R_from σ)]) (rest := [.ref q]) (yret := none) (wc := [(q, .inr (9, gF0))]) (wfc := fun _ : Unit => [(q, .inr (9, gF1 x2 (R_from σ)))]) q331 q71 q329 q330 rfl (by decide +kernel) (fun u_ h_ sz_ => m_X9_init (gl Γ) (gEo Γ) hE1 q x2 (R_from σ) sz_) rfl rfl ⟨by decide, by decide⟩ rfl (Nat.le_of_ble_eq_true rfl) ⟨by decide, by decide⟩ [7] [0, 1, 2, 3, 4, 5, 6] [0, 1, 2, 3, 4, 5, 6, 7] (fun _ => wR (gEo Γ) ad σ ++ [(q, .inr (9, gF1 x2 (R_from σ)))]) rfl rfl rfl rfl (by decide) rfl (fun _ => rfl) dX8_need_13 rfl (fun u_ _ _ => ?_)
    refine g_athrow X dX8_need_16 ?_
    exact g_xleave X hno (fs := gF1 x2 (R_from σ)) rfl rfl (Option.some.inj hf).symm rfl
def f_X8_isIn (σ : gRd) (x1 : Int32) (x2 : Int32) : Option (Int32 × gRd) :=
  if (R_size σ) ≤ (R_at σ) then (gzr 0 σ) else (gld 160 (R_tape σ) (R_at σ) fun v1 => if v1 < x1 then (gzr 0 σ) else (gld 160 (R_tape σ) (R_at σ) fun v2 => if x2 < v2 then (gzr 0 σ) else (gzr 1 σ)))
abbrev rm_X8_isIn : Room := { frames := 1, cells := 0, slots := 0, locals := 12 }
set_option maxHeartbeats 4000000 in
theorem m_X8_isIn (l : Launch) (E : gE) (ad : Nat → Nat) (σ : gRd) (x1 : Int32) (x2 : Int32) (r : Int32) (u : gRd) (hf : f_X8_isIn σ x1 x2 = some (r, u)) (sz : Nat) : Met l yX8_isIn (ws_ yX8_isIn cX8_isIn 3 (some .boolean)) rm_X8_isIn (gPc [.ref (ad 0), .int x1, .int x2] E (wR E ad σ) sz) (gPi E (wR E ad) r u (va_A (wR E ad σ) sz)) 0 0 (va_A (wR E ad σ) sz) := by
  refine gMet (Qc := gPi E (wR E ad) r u) (by decide) (Nat.le_of_ble_eq_true rfl) (fun Γ X hl hE => ?_)
  subst hl; subst hE
  unfold f_X8_isIn at hf
  show gW Γ (gMQ Γ (gPi (gEo Γ) (wR (gEo Γ) ad) r u (gAo Γ)) 0 0) (wR (gEo Γ) ad σ) 3 0 0 0 [(0, .ref (ad 0)), (1, .int x1), (2, .int x2)] []
  refine g_aload_n X 0 dX8_isIn_0 rfl ?_
  refine g_get X in_X8 0 4 rfl rfl (by decide) q364 rfl dX8_isIn_1 ?_
  refine g_aload_n X 0 dX8_isIn_4 rfl ?_
  refine g_get X in_X8 0 0 rfl rfl (by decide) q359 rfl dX8_isIn_5 ?_
  refine g_icmp_ge X 47 dX8_isIn_8 rfl hf (fun hf => ?_) (fun hf => ?_)
  · refine g_iconst X 0 dX8_isIn_47 rfl ?_
    exact g_zret X rfl dX8_isIn_48 hf
  · refine g_aload_n X 0 dX8_isIn_11 rfl ?_
    refine g_get X in_X8 0 8 rfl rfl (by decide) q368 rfl dX8_isIn_12 ?_
    refine g_getN X in_X0 5 10 rfl rfl (by decide) 16 rfl rfl dX8_isIn_15 ?_
    refine g_aload_n X 0 dX8_isIn_18 rfl ?_
    refine g_get X in_X8 0 4 rfl rfl (by decide) q364 rfl dX8_isIn_19 ?_
    refine g_bald X 6 rfl dX8_isIn_22 hf (fun v1 hf => ?_)
    refine g_iload_n X 1 dX8_isIn_23 rfl ?_
    refine g_icmp_lt X 47 dX8_isIn_24 rfl hf (fun hf => ?_) (fun hf => ?_)
    · refine g_iconst X 0 dX8_isIn_47 rfl ?_
      exact g_zret X rfl dX8_isIn_48 hf
    · refine g_aload_n X 0 dX8_isIn_27 rfl ?_
      refine g_get X in_X8 0 8 rfl rfl (by decide) q368 rfl dX8_isIn_28 ?_
      refine g_getN X in_X0 5 10 rfl rfl (by decide) 16 rfl rfl dX8_isIn_31 ?_
      refine g_aload_n X 0 dX8_isIn_34 rfl ?_
      refine g_get X in_X8 0 4 rfl rfl (by decide) q364 rfl dX8_isIn_35 ?_
      refine g_bald X 6 rfl dX8_isIn_38 hf (fun v2 hf => ?_)
      refine g_iload_n X 2 dX8_isIn_39 rfl ?_
      refine g_icmp_gt X 47 dX8_isIn_40 rfl hf (fun hf => ?_) (fun hf => ?_)
      · refine g_iconst X 0 dX8_isIn_47 rfl ?_
        exact g_zret X rfl dX8_isIn_48 hf
      · refine g_iconst X 1 dX8_isIn_43 rfl ?_
        refine g_goto X 48 dX8_isIn_44 rfl ?_
        exact g_zret X rfl dX8_isIn_48 hf
def f_X8_next_b67 : Nat → gRd → Option (gR gRd)
  | 0 => fun _ => none
  | n_ + 1 => fun σ  =>
    (f_X8_isIn σ 97 122).bind fun (r29, u30) => if r29 = 0 then (some (.inl (0, u30))) else (gv ((R_at u30) + 1) fun v31 => gs (R_at_s u30 v31) fun s32 => (f_X8_next_b67 n_) s32)
def f_X8_next_b167 (k112 : gRd → Option (gR gRd)) (σ : gRd) (t0 : Int32) : Option (gR gRd) :=
  gs (R_value_s σ t0) fun s26 => gv ((R_at s26) + 1) fun v27 => gs (R_at_s s26 v27) fun s28 => k112 s28
def f_X8_next_b202 (σ : gRd) (t0 : Int32) : Option (gR gRd) :=
  gcx (f_X8_need σ t0 1) id fun r24 u25 => some (.inl (0, u25))
def f_X8_next_b112 : Nat → gRd → Option (gR gRd)
  | 0 => fun _ => none
  | n_ + 1 => fun σ  =>
    (f_X8_isIn σ 48 57).bind fun (r21, u22) => if r21 = 0 then (if 3 ≤ ((R_at u22) - (R_from u22)) then (f_X8_next_b202 u22 0) else (f_X8_next_b202 u22 1)) else (if 2 ≤ ((R_at u22) - (R_from u22)) then (f_X8_next_b167 (f_X8_next_b112 n_) u22 (R_value u22)) else (gld 160 (R_tape u22) (R_at u22) fun v23 => f_X8_next_b167 (f_X8_next_b112 n_) u22 ((((10 : Int32) * (R_value u22)) + v23) - 48)))
def f_X8_next_b0 : Nat → gRd → Option (gR gRd)
  | 0 => fun _ => none
  | n_ + 1 => fun σ  =>
    (f_X8_isIn σ 32 32).bind fun (r1, u2) => if r1 = 0 then (gs (R_from_s u2 (R_at u2)) fun s3 => if (R_at s3) = (R_size s3) then (gs (R_sort_s s3 0) fun s18 => some (.inl (0, s18))) else ((f_X8_isIn s3 97 122).bind fun (r4, u5) => if r4 = 0 then ((f_X8_isIn u5 48 57).bind fun (r6, u7) => if r6 = 0 then (gs (R_sort_s u7 3) fun s8 => (f_X8_isIn s8 59 59).bind fun (r9, u10) => gcx (f_X8_need u10 r9 1) id fun r11 u12 => gv ((R_at u12) + 1) fun v13 => gs (R_at_s u12 v13) fun s14 => some (.inl (0, s14))) else (gs (R_sort_s u7 2) fun s15 => gs (R_value_s s15 0) fun s16 => f_X8_next_b112 300 s16)) else (gs (R_sort_s u5 1) fun s17 => f_X8_next_b67 300 s17))) else (gv ((R_at u2) + 1) fun v19 => gs (R_at_s u2 v19) fun s20 => (f_X8_next_b0 n_) s20)
def f_X8_next (σ : gRd) : Option (gR gRd) :=
  f_X8_next_b0 300 σ
abbrev rm_X8_next : Room := { frames := 6, cells := 1, slots := 8, locals := 147 }
set_option maxHeartbeats 4000000 in
theorem w_X8_next_b67 {Γ : gG} {ad : Nat → Nat} {z : gR gRd} (X : gCX Γ cX8_next 1 none RX8 rm_X8_next) (hno : gNo Γ) (hE1 : gEx1 (gEo Γ)) : ∀ (n_ : Nat) (σ : gRd), f_X8_next_b67 n_ σ  = some z → gW Γ (gMQX Γ (gXQ (gEo Γ) (wR (gEo Γ) ad) true z (gAo Γ))) (wR (gEo Γ) ad σ) 1 0 0 67 [(0, .ref (ad 0))] [] := by
  intro n_
  induction n_ with
  | zero => intro σ  hf; cases hf
  | succ n_ ih =>
    intro σ  hf
    simp only [f_X8_next_b67] at hf
    refine g_aload_n X 0 dX8_next_67 rfl ?_
    refine g_bipush X 97 dX8_next_68 rfl ?_
    refine g_bipush X 122 dX8_next_70 rfl ?_
    refine g_callVi X 2 (As := [.int 97, .int 122]) (wfc := wR (gEo Γ) ad) (lw_V q267 q269 qs1 q68 q270) (by decide +kernel) (fun r_ u_ h_ sz_ => m_X8_isIn (gl Γ) (gEo Γ) ad σ 97 122 r_ u_ h_ sz_) (rq := 0) rfl rfl rfl rfl rfl ⟨by decide, by decide⟩ rfl (Nat.le_of_ble_eq_true rfl) ⟨Nat.zero_le _, Nat.zero_le _⟩ [0, 1, 2, 3, 4, 5, 6] [] [0, 1, 2, 3, 4, 5, 6] (fun u30 => wR (gEo Γ) ad u30) rfl rfl rfl rfl (by decide) rfl (fun _ => rfl) dX8_next_72 hf (fun r29 u30 _ hf => ?_)
    refine g_if_eq X 237 dX8_next_75 rfl hf (fun hf => ?_) (fun hf => ?_)
    · exact g_xvret X rfl dX8_next_237 hf
    · refine g_aload_n X 0 dX8_next_78 rfl ?_
      refine g_dup X dX8_next_79 rfl ?_
      refine g_get X in_X8 0 4 rfl rfl (by decide) q364 rfl dX8_next_80 ?_
      refine g_iconst X 1 dX8_next_83 rfl ?_
      refine g_iadd X dX8_next_84 ?_
      refine g_topi hf (fun v31 hf => ?_)
      refine g_put X in_X8 tyX8_ok nmX8 0 4 (wR (gEo Γ) ad (R_at_s u30 v31)) rfl rfl (by decide) q364 rfl rfl rfl rfl (Nat.le_of_ble_eq_true rfl) rfl dX8_next_85 ?_
      refine g_gs (wR (gEo Γ) ad) hf (fun s32 hf => ?_)
      refine g_goto X 67 dX8_next_88 rfl ?_
      exact ih s32 hf
set_option maxHeartbeats 4000000 in
theorem w_X8_next_b167 {Γ : gG} {ad : Nat → Nat} {z : gR gRd} (X : gCX Γ cX8_next 1 none RX8 rm_X8_next) (hno : gNo Γ) (hE1 : gEx1 (gEo Γ)) {k112 : gRd → Option (gR gRd)} (H112 : ∀ (σ : gRd), k112 σ = some z → gW Γ (gMQX Γ (gXQ (gEo Γ) (wR (gEo Γ) ad) true z (gAo Γ))) (wR (gEo Γ) ad σ) 1 0 0 112 [(0, .ref (ad 0))] []) : ∀ (σ : gRd) (t0 : Int32), f_X8_next_b167 k112 σ t0 = some z → gW Γ (gMQX Γ (gXQ (gEo Γ) (wR (gEo Γ) ad) true z (gAo Γ))) (wR (gEo Γ) ad σ) 1 0 0 167 [(0, .ref (ad 0))] [.int t0, .ref (ad 0)] := by
  intro σ t0 hf
  unfold f_X8_next_b167 at hf
  refine g_put X in_X8 tyX8_ok nmX8 0 7 (wR (gEo Γ) ad (R_value_s σ t0)) rfl rfl (by decide) q367 rfl rfl rfl rfl (Nat.le_of_ble_eq_true rfl) rfl dX8_next_167 ?_
  refine g_gs (wR (gEo Γ) ad) hf (fun s26 hf => ?_)
  refine g_aload_n X 0 dX8_next_170 rfl ?_
  refine g_dup X dX8_next_171 rfl ?_
  refine g_get X in_X8 0 4 rfl rfl (by decide) q364 rfl dX8_next_172 ?_
  refine g_iconst X 1 dX8_next_175 rfl ?_
  refine g_iadd X dX8_next_176 ?_
  refine g_topi hf (fun v27 hf => ?_)
  refine g_put X in_X8 tyX8_ok nmX8 0 4 (wR (gEo Γ) ad (R_at_s s26 v27)) rfl rfl (by decide) q364 rfl rfl rfl rfl (Nat.le_of_ble_eq_true rfl) rfl dX8_next_177 ?_
  refine g_gs (wR (gEo Γ) ad) hf (fun s28 hf => ?_)
  refine g_goto X 112 dX8_next_180 rfl ?_
  exact H112 s28 hf
set_option maxHeartbeats 4000000 in
theorem w_X8_next_b202 {Γ : gG} {ad : Nat → Nat} {z : gR gRd} (X : gCX Γ cX8_next 1 none RX8 rm_X8_next) (hno : gNo Γ) (hE1 : gEx1 (gEo Γ)) : ∀ (σ : gRd) (t0 : Int32), f_X8_next_b202 σ t0 = some z → gW Γ (gMQX Γ (gXQ (gEo Γ) (wR (gEo Γ) ad) true z (gAo Γ))) (wR (gEo Γ) ad σ) 1 0 0 202 [] [.int t0, .ref (ad 0)] := by
  intro σ t0 hf
  unfold f_X8_next_b202 at hf
  refine g_iconst X 1 dX8_next_202 rfl ?_
  refine g_callXV (lift := id) X true 2 (As := [.int t0, .int 1]) (rest := []) (wfc := wR (gEo Γ) ad) (lw_V q271 q273 qs2 q68 q274) (by decide +kernel) (fun z_ h_ sz_ => m_X8_need (gl Γ) (gEo Γ) hE1 ad σ t0 1 z_ h_ sz_) (rq := 0) rfl rfl rfl ⟨by decide, by decide⟩ rfl (Nat.le_of_ble_eq_true rfl) ⟨by decide, by decide⟩ [0, 1, 2, 3, 4, 5, 6] [] [0, 1, 2, 3, 4, 5, 6] (fun u25 => wR (gEo Γ) ad u25) rfl rfl rfl rfl (by decide) rfl (fun _ => rfl) dX8_next_203 hf (fun r24 u25 hf => ?_) (fun _ _ _ _ _ hz h6 h7 => g_xleave X hno h6 h7 hz rfl)
  refine g_goto X 237 dX8_next_206 rfl ?_
  exact g_xvret X rfl dX8_next_237 hf
set_option maxHeartbeats 4000000 in
theorem w_X8_next_b112 {Γ : gG} {ad : Nat → Nat} {z : gR gRd} (X : gCX Γ cX8_next 1 none RX8 rm_X8_next) (hno : gNo Γ) (hE1 : gEx1 (gEo Γ)) : ∀ (n_ : Nat) (σ : gRd), f_X8_next_b112 n_ σ  = some z → gW Γ (gMQX Γ (gXQ (gEo Γ) (wR (gEo Γ) ad) true z (gAo Γ))) (wR (gEo Γ) ad σ) 1 0 0 112 [(0, .ref (ad 0))] [] := by
  intro n_
  induction n_ with
  | zero => intro σ  hf; cases hf
  | succ n_ ih =>
    intro σ  hf
    simp only [f_X8_next_b112] at hf
    refine g_aload_n X 0 dX8_next_112 rfl ?_
    refine g_bipush X 48 dX8_next_113 rfl ?_
    refine g_bipush X 57 dX8_next_115 rfl ?_
    refine g_callVi X 2 (As := [.int 48, .int 57]) (wfc := wR (gEo Γ) ad) (lw_V q267 q269 qs1 q68 q270) (by decide +kernel) (fun r_ u_ h_ sz_ => m_X8_isIn (gl Γ) (gEo Γ) ad σ 48 57 r_ u_ h_ sz_) (rq := 0) rfl rfl rfl rfl rfl ⟨by decide, by decide⟩ rfl (Nat.le_of_ble_eq_true rfl) ⟨Nat.zero_le _, Nat.zero_le _⟩ [0, 1, 2, 3, 4, 5, 6] [] [0, 1, 2, 3, 4, 5, 6] (fun u22 => wR (gEo Γ) ad u22) rfl rfl rfl rfl (by decide) rfl (fun _ => rfl) dX8_next_117 hf (fun r21 u22 _ hf => ?_)
    refine g_if_eq X 183 dX8_next_120 rfl hf (fun hf => ?_) (fun hf => ?_)
    · refine g_aload_n X 0 dX8_next_183 rfl ?_
      refine g_aload_n X 0 dX8_next_184 rfl ?_
      refine g_get X in_X8 0 4 rfl rfl (by decide) q364 rfl dX8_next_185 ?_
      refine g_aload_n X 0 dX8_next_188 rfl ?_
      refine g_get X in_X8 0 5 rfl rfl (by decide) q365 rfl dX8_next_189 ?_
      refine g_isub X dX8_next_192 ?_
      refine g_iconst X 3 dX8_next_193 rfl ?_
      refine g_icmp_ge X 201 dX8_next_194 rfl hf (fun hf => ?_) (fun hf => ?_)
      · refine g_iconst X 0 dX8_next_201 rfl ?_
        refine g_sub [] [] rfl ?_
        exact w_X8_next_b202 X hno hE1 u22 0 hf
      · refine g_iconst X 1 dX8_next_197 rfl ?_
        refine g_goto X 202 dX8_next_198 rfl ?_
        refine g_sub [] [] rfl ?_
        exact w_X8_next_b202 X hno hE1 u22 1 hf
    · refine g_aload_n X 0 dX8_next_123 rfl ?_
      refine g_aload_n X 0 dX8_next_124 rfl ?_
      refine g_get X in_X8 0 4 rfl rfl (by decide) q364 rfl dX8_next_125 ?_
      refine g_aload_n X 0 dX8_next_128 rfl ?_
      refine g_get X in_X8 0 5 rfl rfl (by decide) q365 rfl dX8_next_129 ?_
      refine g_isub X dX8_next_132 ?_
      refine g_iconst X 2 dX8_next_133 rfl ?_
      refine g_icmp_ge X 163 dX8_next_134 rfl hf (fun hf => ?_) (fun hf => ?_)
      · refine g_aload_n X 0 dX8_next_163 rfl ?_
        refine g_get X in_X8 0 7 rfl rfl (by decide) q367 rfl dX8_next_164 ?_
        exact w_X8_next_b167 X hno hE1 ih u22 (R_value u22) hf
      · refine g_bipush X 10 dX8_next_137 rfl ?_
        refine g_aload_n X 0 dX8_next_139 rfl ?_
        refine g_get X in_X8 0 7 rfl rfl (by decide) q367 rfl dX8_next_140 ?_
        refine g_imul X dX8_next_143 ?_
        refine g_aload_n X 0 dX8_next_144 rfl ?_
        refine g_get X in_X8 0 8 rfl rfl (by decide) q368 rfl dX8_next_145 ?_
        refine g_getN X in_X0 5 10 rfl rfl (by decide) 16 rfl rfl dX8_next_148 ?_
        refine g_aload_n X 0 dX8_next_151 rfl ?_
        refine g_get X in_X8 0 4 rfl rfl (by decide) q364 rfl dX8_next_152 ?_
        refine g_bald X 6 rfl dX8_next_155 hf (fun v23 hf => ?_)
        refine g_iadd X dX8_next_156 ?_
        refine g_bipush X 48 dX8_next_157 rfl ?_
        refine g_isub X dX8_next_159 ?_
        refine g_goto X 167 dX8_next_160 rfl ?_
        exact w_X8_next_b167 X hno hE1 ih u22 ((((10 : Int32) * (R_value u22)) + v23) - 48) hf
set_option maxHeartbeats 4000000 in
theorem w_X8_next_b0 {Γ : gG} {ad : Nat → Nat} {z : gR gRd} (X : gCX Γ cX8_next 1 none RX8 rm_X8_next) (hno : gNo Γ) (hE1 : gEx1 (gEo Γ)) : ∀ (n_ : Nat) (σ : gRd), f_X8_next_b0 n_ σ  = some z → gW Γ (gMQX Γ (gXQ (gEo Γ) (wR (gEo Γ) ad) true z (gAo Γ))) (wR (gEo Γ) ad σ) 1 0 0 0 [(0, .ref (ad 0))] [] := by
  intro n_
  induction n_ with
  | zero => intro σ  hf; cases hf
  | succ n_ ih =>
    intro σ  hf
    simp only [f_X8_next_b0] at hf
    refine g_aload_n X 0 dX8_next_0 rfl ?_
    refine g_bipush X 32 dX8_next_1 rfl ?_
    refine g_bipush X 32 dX8_next_3 rfl ?_
    refine g_callVi X 2 (As := [.int 32, .int 32]) (wfc := wR (gEo Γ) ad) (lw_V q267 q269 qs1 q68 q270) (by decide +kernel) (fun r_ u_ h_ sz_ => m_X8_isIn (gl Γ) (gEo Γ) ad σ 32 32 r_ u_ h_ sz_) (rq := 0) rfl rfl rfl rfl rfl ⟨by decide, by decide⟩ rfl (Nat.le_of_ble_eq_true rfl) ⟨Nat.zero_le _, Nat.zero_le _⟩ [0, 1, 2, 3, 4, 5, 6] [] [0, 1, 2, 3, 4, 5, 6] (fun u2 => wR (gEo Γ) ad u2) rfl rfl rfl rfl (by decide) rfl (fun _ => rfl) dX8_next_5 hf (fun r1 u2 _ hf => ?_)
    refine g_if_eq X 24 dX8_next_8 rfl hf (fun hf => ?_) (fun hf => ?_)
    · refine g_aload_n X 0 dX8_next_24 rfl ?_
      refine g_aload_n X 0 dX8_next_25 rfl ?_
      refine g_get X in_X8 0 4 rfl rfl (by decide) q364 rfl dX8_next_26 ?_
      refine g_put X in_X8 tyX8_ok nmX8 0 5 (wR (gEo Γ) ad (R_from_s u2 (R_at u2))) rfl rfl (by decide) q365 rfl rfl rfl rfl (Nat.le_of_ble_eq_true rfl) rfl dX8_next_29 ?_
      refine g_gs (wR (gEo Γ) ad) hf (fun s3 hf => ?_)
      refine g_aload_n X 0 dX8_next_32 rfl ?_
      refine g_get X in_X8 0 4 rfl rfl (by decide) q364 rfl dX8_next_33 ?_
      refine g_aload_n X 0 dX8_next_36 rfl ?_
      refine g_get X in_X8 0 0 rfl rfl (by decide) q359 rfl dX8_next_37 ?_
      refine g_icmp_ne X 51 dX8_next_40 rfl hf (fun hf => ?_) (fun hf => ?_)
      · refine g_aload_n X 0 dX8_next_51 rfl ?_
        refine g_bipush X 97 dX8_next_52 rfl ?_
        refine g_bipush X 122 dX8_next_54 rfl ?_
        refine g_callVi X 2 (As := [.int 97, .int 122]) (wfc := wR (gEo Γ) ad) (lw_V q267 q269 qs1 q68 q270) (by decide +kernel) (fun r_ u_ h_ sz_ => m_X8_isIn (gl Γ) (gEo Γ) ad s3 97 122 r_ u_ h_ sz_) (rq := 0) rfl rfl rfl rfl rfl ⟨by decide, by decide⟩ rfl (Nat.le_of_ble_eq_true rfl) ⟨Nat.zero_le _, Nat.zero_le _⟩ [0, 1, 2, 3, 4, 5, 6] [] [0, 1, 2, 3, 4, 5, 6] (fun u5 => wR (gEo Γ) ad u5) rfl rfl rfl rfl (by decide) rfl (fun _ => rfl) dX8_next_56 hf (fun r4 u5 _ hf => ?_)
        refine g_if_eq X 91 dX8_next_59 rfl hf (fun hf => ?_) (fun hf => ?_)
        · refine g_aload_n X 0 dX8_next_91 rfl ?_
          refine g_bipush X 48 dX8_next_92 rfl ?_
          refine g_bipush X 57 dX8_next_94 rfl ?_
          refine g_callVi X 2 (As := [.int 48, .int 57]) (wfc := wR (gEo Γ) ad) (lw_V q267 q269 qs1 q68 q270) (by decide +kernel) (fun r_ u_ h_ sz_ => m_X8_isIn (gl Γ) (gEo Γ) ad u5 48 57 r_ u_ h_ sz_) (rq := 0) rfl rfl rfl rfl rfl ⟨by decide, by decide⟩ rfl (Nat.le_of_ble_eq_true rfl) ⟨Nat.zero_le _, Nat.zero_le _⟩ [0, 1, 2, 3, 4, 5, 6] [] [0, 1, 2, 3, 4, 5, 6] (fun u7 => wR (gEo Γ) ad u7) rfl rfl rfl rfl (by decide) rfl (fun _ => rfl) dX8_next_96 hf (fun r6 u7 _ hf => ?_)
          refine g_if_eq X 209 dX8_next_99 rfl hf (fun hf => ?_) (fun hf => ?_)
          · refine g_aload_n X 0 dX8_next_209 rfl ?_
            refine g_iconst X 3 dX8_next_210 rfl ?_
            refine g_put X in_X8 tyX8_ok nmX8 0 6 (wR (gEo Γ) ad (R_sort_s u7 3)) rfl rfl (by decide) q366 rfl rfl rfl rfl (Nat.le_of_ble_eq_true rfl) rfl dX8_next_211 ?_
            refine g_gs (wR (gEo Γ) ad) hf (fun s8 hf => ?_)
            refine g_aload_n X 0 dX8_next_214 rfl ?_
            refine g_aload_n X 0 dX8_next_215 rfl ?_
            refine g_bipush X 59 dX8_next_216 rfl ?_
            refine g_bipush X 59 dX8_next_218 rfl ?_
            refine g_callVi X 2 (As := [.int 59, .int 59]) (wfc := wR (gEo Γ) ad) (lw_V q267 q269 qs1 q68 q270) (by decide +kernel) (fun r_ u_ h_ sz_ => m_X8_isIn (gl Γ) (gEo Γ) ad s8 59 59 r_ u_ h_ sz_) (rq := 0) rfl rfl rfl rfl rfl ⟨by decide, by decide⟩ rfl (Nat.le_of_ble_eq_true rfl) ⟨Nat.zero_le _, Nat.zero_le _⟩ [0, 1, 2, 3, 4, 5, 6] [] [0, 1, 2, 3, 4, 5, 6] (fun u10 => wR (gEo Γ) ad u10) rfl rfl rfl rfl (by decide) rfl (fun _ => rfl) dX8_next_220 hf (fun r9 u10 _ hf => ?_)
            refine g_iconst X 1 dX8_next_223 rfl ?_
            refine g_callXV (lift := id) X true 2 (As := [.int r9, .int 1]) (rest := []) (wfc := wR (gEo Γ) ad) (lw_V q271 q273 qs2 q68 q274) (by decide +kernel) (fun z_ h_ sz_ => m_X8_need (gl Γ) (gEo Γ) hE1 ad u10 r9 1 z_ h_ sz_) (rq := 0) rfl rfl rfl ⟨by decide, by decide⟩ rfl (Nat.le_of_ble_eq_true rfl) ⟨by decide, by decide⟩ [0, 1, 2, 3, 4, 5, 6] [] [0, 1, 2, 3, 4, 5, 6] (fun u12 => wR (gEo Γ) ad u12) rfl rfl rfl rfl (by decide) rfl (fun _ => rfl) dX8_next_224 hf (fun r11 u12 hf => ?_) (fun _ _ _ _ _ hz h6 h7 => g_xleave X hno h6 h7 hz rfl)
            refine g_aload_n X 0 dX8_next_227 rfl ?_
            refine g_dup X dX8_next_228 rfl ?_
            refine g_get X in_X8 0 4 rfl rfl (by decide) q364 rfl dX8_next_229 ?_
            refine g_iconst X 1 dX8_next_232 rfl ?_
            refine g_iadd X dX8_next_233 ?_
            refine g_topi hf (fun v13 hf => ?_)
            refine g_put X in_X8 tyX8_ok nmX8 0 4 (wR (gEo Γ) ad (R_at_s u12 v13)) rfl rfl (by decide) q364 rfl rfl rfl rfl (Nat.le_of_ble_eq_true rfl) rfl dX8_next_234 ?_
            refine g_gs (wR (gEo Γ) ad) hf (fun s14 hf => ?_)
            exact g_xvret X rfl dX8_next_237 hf
          · refine g_aload_n X 0 dX8_next_102 rfl ?_
            refine g_iconst X 2 dX8_next_103 rfl ?_
            refine g_put X in_X8 tyX8_ok nmX8 0 6 (wR (gEo Γ) ad (R_sort_s u7 2)) rfl rfl (by decide) q366 rfl rfl rfl rfl (Nat.le_of_ble_eq_true rfl) rfl dX8_next_104 ?_
            refine g_gs (wR (gEo Γ) ad) hf (fun s15 hf => ?_)
            refine g_aload_n X 0 dX8_next_107 rfl ?_
            refine g_iconst X 0 dX8_next_108 rfl ?_
            refine g_put X in_X8 tyX8_ok nmX8 0 7 (wR (gEo Γ) ad (R_value_s s15 0)) rfl rfl (by decide) q367 rfl rfl rfl rfl (Nat.le_of_ble_eq_true rfl) rfl dX8_next_109 ?_
            refine g_gs (wR (gEo Γ) ad) hf (fun s16 hf => ?_)
            exact w_X8_next_b112 X hno hE1 300 s16 hf
        · refine g_aload_n X 0 dX8_next_62 rfl ?_
          refine g_iconst X 1 dX8_next_63 rfl ?_
          refine g_put X in_X8 tyX8_ok nmX8 0 6 (wR (gEo Γ) ad (R_sort_s u5 1)) rfl rfl (by decide) q366 rfl rfl rfl rfl (Nat.le_of_ble_eq_true rfl) rfl dX8_next_64 ?_
          refine g_gs (wR (gEo Γ) ad) hf (fun s17 hf => ?_)
          exact w_X8_next_b67 X hno hE1 300 s17 hf
      · refine g_aload_n X 0 dX8_next_43 rfl ?_
        refine g_iconst X 0 dX8_next_44 rfl ?_
        refine g_put X in_X8 tyX8_ok nmX8 0 6 (wR (gEo Γ) ad (R_sort_s s3 0)) rfl rfl (by decide) q366 rfl rfl rfl rfl (Nat.le_of_ble_eq_true rfl) rfl dX8_next_45 ?_
        refine g_gs (wR (gEo Γ) ad) hf (fun s18 hf => ?_)
        refine g_goto X 237 dX8_next_48 rfl ?_
        exact g_xvret X rfl dX8_next_237 hf
    · refine g_aload_n X 0 dX8_next_11 rfl ?_
      refine g_dup X dX8_next_12 rfl ?_
      refine g_get X in_X8 0 4 rfl rfl (by decide) q364 rfl dX8_next_13 ?_
      refine g_iconst X 1 dX8_next_16 rfl ?_
      refine g_iadd X dX8_next_17 ?_
      refine g_topi hf (fun v19 hf => ?_)
      refine g_put X in_X8 tyX8_ok nmX8 0 4 (wR (gEo Γ) ad (R_at_s u2 v19)) rfl rfl (by decide) q364 rfl rfl rfl rfl (Nat.le_of_ble_eq_true rfl) rfl dX8_next_18 ?_
      refine g_gs (wR (gEo Γ) ad) hf (fun s20 hf => ?_)
      refine g_goto X 0 dX8_next_21 rfl ?_
      exact ih s20 hf
set_option maxHeartbeats 4000000 in
theorem m_X8_next (l : Launch) (E : gE) (hE1 : gEx1 E) (ad : Nat → Nat) (σ : gRd) (z : gR gRd) (hf : f_X8_next σ = some z) (sz : Nat) : MetX l yX8_next (ws_ yX8_next cX8_next 1 none) rm_X8_next (gPc [.ref (ad 0)] E (wR E ad σ) sz) (gXQ E (wR E ad) true z (va_A (wR E ad σ) sz)) (va_A (wR E ad σ) sz) := by
  refine gMetX (Qx := gXQ E (wR E ad) true z) (by decide) (Nat.le_of_ble_eq_true rfl) (fun Γ X hno hl hE => ?_)
  subst hl; subst hE
  unfold f_X8_next at hf
  show gW Γ (gMQX Γ (gXQ (gEo Γ) (wR (gEo Γ) ad) true z (gAo Γ))) (wR (gEo Γ) ad σ) 1 0 0 0 [(0, .ref (ad 0))] []
  exact w_X8_next_b0 X hno hE1 300 σ hf
def f_X8_looked_b14 (σ : gRd) (x1 : Int32) (x2 : Int32) (t0 : Int32) : Option (gR gRd) :=
  gcx (f_X8_need σ t0 2) id fun r1 u2 => (f_X0_in ((R_value u2).toInt64) (x1.toInt64) (x2.toInt64)).bind fun (r3, _) => gcx (f_X8_need u2 r3 3) id fun r5 u6 => some (.inl ((R_value u6), u6))
def f_X8_looked (σ : gRd) (x1 : Int32) (x2 : Int32) : Option (gR gRd) :=
  if (R_sort σ) = 2 then (f_X8_looked_b14 σ x1 x2 1) else (f_X8_looked_b14 σ x1 x2 0)
abbrev rm_X8_looked : Room := { frames := 6, cells := 1, slots := 8, locals := 147 }
set_option maxHeartbeats 4000000 in
theorem w_X8_looked_b14 {Γ : gG} {ad : Nat → Nat} {z : gR gRd} (X : gCX Γ cX8_looked 3 (some .int) RX8 rm_X8_looked) (hno : gNo Γ) (hE1 : gEx1 (gEo Γ)) : ∀ (σ : gRd) (x1 : Int32) (x2 : Int32) (t0 : Int32), f_X8_looked_b14 σ x1 x2 t0 = some z → gW Γ (gMQX Γ (gXQ (gEo Γ) (wR (gEo Γ) ad) false z (gAo Γ))) (wR (gEo Γ) ad σ) 3 0 0 14 [(0, .ref (ad 0)), (1, .int x1), (2, .int x2)] [.int t0, .ref (ad 0)] := by
  intro σ x1 x2 t0 hf
  unfold f_X8_looked_b14 at hf
  refine g_iconst X 2 dX8_looked_14 rfl ?_
  refine g_callXV (lift := id) X true 2 (As := [.int t0, .int 2]) (rest := []) (wfc := wR (gEo Γ) ad) (lw_V q271 q273 qs2 q68 q274) (by decide +kernel) (fun z_ h_ sz_ => m_X8_need (gl Γ) (gEo Γ) hE1 ad σ t0 2 z_ h_ sz_) (rq := 0) rfl rfl rfl ⟨by decide, by decide⟩ rfl (Nat.le_of_ble_eq_true rfl) ⟨by decide, by decide⟩ [0, 1, 2, 3, 4, 5, 6] [] [0, 1, 2, 3, 4, 5, 6] (fun u2 => wR (gEo Γ) ad u2) rfl rfl rfl rfl (by decide) rfl (fun _ => rfl) dX8_looked_15 hf (fun r1 u2 hf => ?_) (fun _ _ _ _ _ hz h6 h7 => g_xleave X hno h6 h7 hz rfl)
  refine g_aload_n X 0 dX8_looked_18 rfl ?_
  refine g_aload_n X 0 dX8_looked_19 rfl ?_
  refine g_get X in_X8 0 7 rfl rfl (by decide) q367 rfl dX8_looked_20 ?_
  refine g_i2l X dX8_looked_23 ?_
  refine g_iload_n X 1 dX8_looked_24 rfl ?_
  refine g_i2l X dX8_looked_25 ?_
  refine g_iload_n X 2 dX8_looked_26 rfl ?_
  refine g_i2l X dX8_looked_27 ?_
  refine g_call0Ni X 3 (As := [.long ((R_value u2).toInt64), .long (x1.toInt64), .long (x2.toInt64)]) q245 10 rfl q60 q244 (by decide +kernel) (fun r_ u_ h_ sz_ => m_X0_in (gl Γ) (gEo Γ) ((R_value u2).toInt64) (x1.toInt64) (x2.toInt64) r_ u_ h_ sz_) rfl rfl ⟨by decide, by decide⟩ rfl (Nat.le_of_ble_eq_true rfl) ⟨Nat.zero_le _, Nat.zero_le _⟩ dX8_looked_28 hf (fun r3 _ hf => ?_)
  refine g_iconst X 3 dX8_looked_31 rfl ?_
  refine g_callXV (lift := id) X true 2 (As := [.int r3, .int 3]) (rest := []) (wfc := wR (gEo Γ) ad) (lw_V q271 q273 qs2 q68 q274) (by decide +kernel) (fun z_ h_ sz_ => m_X8_need (gl Γ) (gEo Γ) hE1 ad u2 r3 3 z_ h_ sz_) (rq := 0) rfl rfl rfl ⟨by decide, by decide⟩ rfl (Nat.le_of_ble_eq_true rfl) ⟨by decide, by decide⟩ [0, 1, 2, 3, 4, 5, 6] [] [0, 1, 2, 3, 4, 5, 6] (fun u6 => wR (gEo Γ) ad u6) rfl rfl rfl rfl (by decide) rfl (fun _ => rfl) dX8_looked_32 hf (fun r5 u6 hf => ?_) (fun _ _ _ _ _ hz h6 h7 => g_xleave X hno h6 h7 hz rfl)
  refine g_aload_n X 0 dX8_looked_35 rfl ?_
  refine g_get X in_X8 0 7 rfl rfl (by decide) q367 rfl dX8_looked_36 ?_
  exact g_xiret X rfl dX8_looked_39 hf
set_option maxHeartbeats 4000000 in
theorem m_X8_looked (l : Launch) (E : gE) (hE1 : gEx1 E) (ad : Nat → Nat) (σ : gRd) (x1 : Int32) (x2 : Int32) (z : gR gRd) (hf : f_X8_looked σ x1 x2 = some z) (sz : Nat) : MetX l yX8_looked (ws_ yX8_looked cX8_looked 3 (some .int)) rm_X8_looked (gPc [.ref (ad 0), .int x1, .int x2] E (wR E ad σ) sz) (gXQ E (wR E ad) false z (va_A (wR E ad σ) sz)) (va_A (wR E ad σ) sz) := by
  refine gMetX (Qx := gXQ E (wR E ad) false z) (by decide) (Nat.le_of_ble_eq_true rfl) (fun Γ X hno hl hE => ?_)
  subst hl; subst hE
  unfold f_X8_looked at hf
  show gW Γ (gMQX Γ (gXQ (gEo Γ) (wR (gEo Γ) ad) false z (gAo Γ))) (wR (gEo Γ) ad σ) 3 0 0 0 [(0, .ref (ad 0)), (1, .int x1), (2, .int x2)] []
  refine g_aload_n X 0 dX8_looked_0 rfl ?_
  refine g_aload_n X 0 dX8_looked_1 rfl ?_
  refine g_get X in_X8 0 6 rfl rfl (by decide) q366 rfl dX8_looked_2 ?_
  refine g_iconst X 2 dX8_looked_5 rfl ?_
  refine g_icmp_ne X 13 dX8_looked_6 rfl hf (fun hf => ?_) (fun hf => ?_)
  · refine g_iconst X 0 dX8_looked_13 rfl ?_
    exact w_X8_looked_b14 X hno hE1 σ x1 x2 0 hf
  · refine g_iconst X 1 dX8_looked_9 rfl ?_
    refine g_goto X 14 dX8_looked_10 rfl ?_
    exact w_X8_looked_b14 X hno hE1 σ x1 x2 1 hf
def f_X8_taken (σ : gRd) (x1 : Int32) (x2 : Int32) : Option (gR gRd) :=
  gcx (f_X8_looked σ x1 x2) id fun r1 u2 => gcx (f_X8_next u2) id fun r3 u4 => some (.inl (r1, u4))
abbrev rm_X8_taken : Room := { frames := 7, cells := 1, slots := 8, locals := 169 }
set_option maxHeartbeats 4000000 in
theorem m_X8_taken (l : Launch) (E : gE) (hE1 : gEx1 E) (ad : Nat → Nat) (σ : gRd) (x1 : Int32) (x2 : Int32) (z : gR gRd) (hf : f_X8_taken σ x1 x2 = some z) (sz : Nat) : MetX l yX8_taken (ws_ yX8_taken cX8_taken 4 (some .int)) rm_X8_taken (gPc [.ref (ad 0), .int x1, .int x2] E (wR E ad σ) sz) (gXQ E (wR E ad) false z (va_A (wR E ad σ) sz)) (va_A (wR E ad σ) sz) := by
  refine gMetX (Qx := gXQ E (wR E ad) false z) (by decide) (Nat.le_of_ble_eq_true rfl) (fun Γ X hno hl hE => ?_)
  subst hl; subst hE
  unfold f_X8_taken at hf
  show gW Γ (gMQX Γ (gXQ (gEo Γ) (wR (gEo Γ) ad) false z (gAo Γ))) (wR (gEo Γ) ad σ) 4 0 0 0 [(0, .ref (ad 0)), (1, .int x1), (2, .int x2)] []
  refine g_aload_n X 0 dX8_taken_0 rfl ?_
  refine g_iload_n X 1 dX8_taken_1 rfl ?_
  refine g_iload_n X 2 dX8_taken_2 rfl ?_
  refine g_callXV (lift := id) X false 2 (As := [.int x1, .int x2]) (rest := []) (wfc := wR (gEo Γ) ad) (lw_V q470 q472 qs10 q68 q473) (by decide +kernel) (fun z_ h_ sz_ => m_X8_looked (gl Γ) (gEo Γ) hE1 ad σ x1 x2 z_ h_ sz_) (rq := 0) rfl rfl rfl ⟨by decide, by decide⟩ rfl (Nat.le_of_ble_eq_true rfl) ⟨by decide, by decide⟩ [0, 1, 2, 3, 4, 5, 6] [] [0, 1, 2, 3, 4, 5, 6] (fun u2 => wR (gEo Γ) ad u2) rfl rfl rfl rfl (by decide) rfl (fun _ => rfl) dX8_taken_3 hf (fun r1 u2 hf => ?_) (fun _ _ _ _ _ hz h6 h7 => g_xleave X hno h6 h7 hz rfl)
  refine g_istore_n X [(3, .int r1), (0, .ref (ad 0)), (1, .int x1), (2, .int x2)] dX8_taken_6 (by decide) rfl ?_
  refine g_aload_n X 1 dX8_taken_7 rfl ?_
  refine g_callXV (lift := id) X true 0 (As := []) (rest := []) (wfc := wR (gEo Γ) ad) (lw_V q263 q265 qs0 q68 q266) (by decide +kernel) (fun z_ h_ sz_ => m_X8_next (gl Γ) (gEo Γ) hE1 ad u2 z_ h_ sz_) (rq := 0) rfl rfl rfl ⟨by decide, by decide⟩ rfl (Nat.le_of_ble_eq_true rfl) ⟨by decide, by decide⟩ [0, 1, 2, 3, 4, 5, 6] [] [0, 1, 2, 3, 4, 5, 6] (fun u4 => wR (gEo Γ) ad u4) rfl rfl rfl rfl (by decide) rfl (fun _ => rfl) dX8_taken_8 hf (fun r3 u4 hf => ?_) (fun _ _ _ _ _ hz h6 h7 => g_xleave X hno h6 h7 hz rfl)
  refine g_iload_n X 0 dX8_taken_11 rfl ?_
  exact g_xiret X rfl dX8_taken_12 hf
def f_X8_plan_b54 (k0 : gRd → Option (gR gRd)) (σ : gRd) (x1 : Int32) (t0 : Int32) (t1 : Int32) : Option (gR gRd) :=
  gv (if t1 < t0 then t0 else t1) fun v5 => gs (R_highest_s σ v5) fun s6 => gst 8 (S_plan (R_made s6)) ((S_planned (R_made s6))) (vp_nar .byte (x1.toInt8.toInt32)) fun g7 => gs (R_made_s s6 (S_plan_s (R_made s6) g7)) fun s8 => gv (((S_planned (R_made s8))) + 1) fun v9 => gs (R_made_s s8 (S_planned_s (R_made s8) v9)) fun s10 => gcx (f_X8_next s10) id fun r11 u12 => k0 u12
def f_X8_plan_b26 (k0 : gRd → Option (gR gRd)) (σ : gRd) (t0 : Int32) : Option (gR gRd) :=
  gcx (f_X8_need σ t0 5) id fun r1 u2 => gcx (f_X8_looked u2 0 6) id fun r3 u4 => if 5 ≤ r3 then (f_X8_plan_b54 k0 u4 r3 (-4) (R_highest u4)) else (f_X8_plan_b54 k0 u4 r3 r3 (R_highest u4))
def f_X8_plan_b0 : Nat → gRd → Option (gR gRd)
  | 0 => fun _ => none
  | n_ + 1 => fun σ  =>
    if (R_sort σ) = 2 then (if 8 ≤ ((S_planned (R_made σ))) then (f_X8_plan_b26 (f_X8_plan_b0 n_) σ 0) else (f_X8_plan_b26 (f_X8_plan_b0 n_) σ 1)) else (some (.inl (0, σ)))
def f_X8_plan (σ : gRd) : Option (gR gRd) :=
  f_X8_plan_b0 300 σ
abbrev rm_X8_plan : Room := { frames := 7, cells := 1, slots := 8, locals := 169 }
set_option maxHeartbeats 4000000 in
theorem w_X8_plan_b54 {Γ : gG} {ad : Nat → Nat} {z : gR gRd} (X : gCX Γ cX8_plan 2 none RX8 rm_X8_plan) (hno : gNo Γ) (hE1 : gEx1 (gEo Γ)) {k0 : gRd → Option (gR gRd)} (H0 : ∀ (σ : gRd), k0 σ = some z → gW Γ (gMQX Γ (gXQ (gEo Γ) (wR (gEo Γ) ad) true z (gAo Γ))) (wR (gEo Γ) ad σ) 2 0 0 0 [(0, .ref (ad 0))] []) : ∀ (σ : gRd) (x1 : Int32) (t0 : Int32) (t1 : Int32), f_X8_plan_b54 k0 σ x1 t0 t1 = some z → gW Γ (gMQX Γ (gXQ (gEo Γ) (wR (gEo Γ) ad) true z (gAo Γ))) (wR (gEo Γ) ad σ) 2 0 0 54 [(0, .ref (ad 0)), (1, .int x1)] [.int t0, .int t1, .ref (ad 0)] := by
  intro σ x1 t0 t1 hf
  unfold f_X8_plan_b54 at hf
  refine g_max X q479 q480 q76 q481 (by decide) (Nat.le_of_ble_eq_true rfl) (by decide) dX8_plan_54 ?_
  refine g_topi hf (fun v5 hf => ?_)
  refine g_put X in_X8 tyX8_ok nmX8 0 3 (wR (gEo Γ) ad (R_highest_s σ v5)) rfl rfl (by decide) q363 rfl rfl rfl rfl (Nat.le_of_ble_eq_true rfl) rfl dX8_plan_57 ?_
  refine g_gs (wR (gEo Γ) ad) hf (fun s6 hf => ?_)
  refine g_aload_n X 0 dX8_plan_60 rfl ?_
  refine g_get X in_X8 0 1 rfl rfl (by decide) q360 rfl dX8_plan_61 ?_
  refine g_getN X in_X5 1 7 rfl rfl (by decide) 15 rfl rfl dX8_plan_64 ?_
  refine g_aload_n X 0 dX8_plan_67 rfl ?_
  refine g_get X in_X8 0 1 rfl rfl (by decide) q360 rfl dX8_plan_68 ?_
  refine g_getN X in_X5 1 6 rfl rfl (by decide) 14 rfl rfl dX8_plan_71 ?_
  refine g_iload_n X 1 dX8_plan_74 rfl ?_
  refine g_i2b X dX8_plan_75 ?_
  refine g_bast X 4 (fun g7 => wR (gEo Γ) ad (R_made_s s6 (S_plan_s (R_made s6) g7))) rfl (fun _ => rfl) dX8_plan_76 hf (fun g7 hf => ?_)
  refine g_gs (wR (gEo Γ) ad) hf (fun s8 hf => ?_)
  refine g_aload_n X 0 dX8_plan_77 rfl ?_
  refine g_get X in_X8 0 1 rfl rfl (by decide) q360 rfl dX8_plan_78 ?_
  refine g_dup X dX8_plan_81 rfl ?_
  refine g_getN X in_X5 1 6 rfl rfl (by decide) 14 rfl rfl dX8_plan_82 ?_
  refine g_iconst X 1 dX8_plan_85 rfl ?_
  refine g_iadd X dX8_plan_86 ?_
  refine g_topi hf (fun v9 hf => ?_)
  refine g_putN X in_X5 tyX5_ok nmX5 1 6 (wR (gEo Γ) ad (R_made_s s8 (S_planned_s (R_made s8) v9))) rfl rfl (by decide) 14 rfl rfl rfl rfl rfl (Nat.le_of_ble_eq_true rfl) rfl dX8_plan_87 ?_
  refine g_gs (wR (gEo Γ) ad) hf (fun s10 hf => ?_)
  refine g_aload_n X 0 dX8_plan_90 rfl ?_
  refine g_callXV (lift := id) X true 0 (As := []) (rest := []) (wfc := wR (gEo Γ) ad) (lw_V q263 q265 qs0 q68 q266) (by decide +kernel) (fun z_ h_ sz_ => m_X8_next (gl Γ) (gEo Γ) hE1 ad s10 z_ h_ sz_) (rq := 0) rfl rfl rfl ⟨by decide, by decide⟩ rfl (Nat.le_of_ble_eq_true rfl) ⟨by decide, by decide⟩ [0, 1, 2, 3, 4, 5, 6] [] [0, 1, 2, 3, 4, 5, 6] (fun u12 => wR (gEo Γ) ad u12) rfl rfl rfl rfl (by decide) rfl (fun _ => rfl) dX8_plan_91 hf (fun r11 u12 hf => ?_) (fun _ _ _ _ _ hz h6 h7 => g_xleave X hno h6 h7 hz rfl)
  refine g_goto X 0 dX8_plan_94 rfl ?_
  refine g_sub [0] [(0, .ref (ad 0))] rfl ?_
  exact H0 u12 hf
set_option maxHeartbeats 4000000 in
theorem w_X8_plan_b26 {Γ : gG} {ad : Nat → Nat} {z : gR gRd} (X : gCX Γ cX8_plan 2 none RX8 rm_X8_plan) (hno : gNo Γ) (hE1 : gEx1 (gEo Γ)) {k0 : gRd → Option (gR gRd)} (H0 : ∀ (σ : gRd), k0 σ = some z → gW Γ (gMQX Γ (gXQ (gEo Γ) (wR (gEo Γ) ad) true z (gAo Γ))) (wR (gEo Γ) ad σ) 2 0 0 0 [(0, .ref (ad 0))] []) : ∀ (σ : gRd) (t0 : Int32), f_X8_plan_b26 k0 σ t0 = some z → gW Γ (gMQX Γ (gXQ (gEo Γ) (wR (gEo Γ) ad) true z (gAo Γ))) (wR (gEo Γ) ad σ) 2 0 0 26 [(0, .ref (ad 0))] [.int t0, .ref (ad 0)] := by
  intro σ t0 hf
  unfold f_X8_plan_b26 at hf
  refine g_iconst X 5 dX8_plan_26 rfl ?_
  refine g_callXV (lift := id) X true 2 (As := [.int t0, .int 5]) (rest := []) (wfc := wR (gEo Γ) ad) (lw_V q271 q273 qs2 q68 q274) (by decide +kernel) (fun z_ h_ sz_ => m_X8_need (gl Γ) (gEo Γ) hE1 ad σ t0 5 z_ h_ sz_) (rq := 0) rfl rfl rfl ⟨by decide, by decide⟩ rfl (Nat.le_of_ble_eq_true rfl) ⟨by decide, by decide⟩ [0, 1, 2, 3, 4, 5, 6] [] [0, 1, 2, 3, 4, 5, 6] (fun u2 => wR (gEo Γ) ad u2) rfl rfl rfl rfl (by decide) rfl (fun _ => rfl) dX8_plan_27 hf (fun r1 u2 hf => ?_) (fun _ _ _ _ _ hz h6 h7 => g_xleave X hno h6 h7 hz rfl)
  refine g_aload_n X 0 dX8_plan_30 rfl ?_
  refine g_iconst X 0 dX8_plan_31 rfl ?_
  refine g_bipush X 6 dX8_plan_32 rfl ?_
  refine g_callXV (lift := id) X false 2 (As := [.int 0, .int 6]) (rest := []) (wfc := wR (gEo Γ) ad) (lw_V q470 q472 qs10 q68 q473) (by decide +kernel) (fun z_ h_ sz_ => m_X8_looked (gl Γ) (gEo Γ) hE1 ad u2 0 6 z_ h_ sz_) (rq := 0) rfl rfl rfl ⟨by decide, by decide⟩ rfl (Nat.le_of_ble_eq_true rfl) ⟨by decide, by decide⟩ [0, 1, 2, 3, 4, 5, 6] [] [0, 1, 2, 3, 4, 5, 6] (fun u4 => wR (gEo Γ) ad u4) rfl rfl rfl rfl (by decide) rfl (fun _ => rfl) dX8_plan_34 hf (fun r3 u4 hf => ?_) (fun _ _ _ _ _ hz h6 h7 => g_xleave X hno h6 h7 hz rfl)
  refine g_istore_n X [(1, .int r3), (0, .ref (ad 0))] dX8_plan_37 (by decide) rfl ?_
  refine g_aload_n X 1 dX8_plan_38 rfl ?_
  refine g_aload_n X 1 dX8_plan_39 rfl ?_
  refine g_get X in_X8 0 3 rfl rfl (by decide) q363 rfl dX8_plan_40 ?_
  refine g_iload_n X 0 dX8_plan_43 rfl ?_
  refine g_iconst X 5 dX8_plan_44 rfl ?_
  refine g_icmp_ge X 52 dX8_plan_45 rfl hf (fun hf => ?_) (fun hf => ?_)
  · refine g_bipush X (-4) dX8_plan_52 rfl ?_
    refine g_sub [1, 0] [(0, .ref (ad 0)), (1, .int r3)] rfl ?_
    exact w_X8_plan_b54 X hno hE1 H0 u4 r3 (-4) (R_highest u4) hf
  · refine g_iload_n X 0 dX8_plan_48 rfl ?_
    refine g_goto X 54 dX8_plan_49 rfl ?_
    refine g_sub [1, 0] [(0, .ref (ad 0)), (1, .int r3)] rfl ?_
    exact w_X8_plan_b54 X hno hE1 H0 u4 r3 r3 (R_highest u4) hf
set_option maxHeartbeats 4000000 in
theorem w_X8_plan_b0 {Γ : gG} {ad : Nat → Nat} {z : gR gRd} (X : gCX Γ cX8_plan 2 none RX8 rm_X8_plan) (hno : gNo Γ) (hE1 : gEx1 (gEo Γ)) : ∀ (n_ : Nat) (σ : gRd), f_X8_plan_b0 n_ σ  = some z → gW Γ (gMQX Γ (gXQ (gEo Γ) (wR (gEo Γ) ad) true z (gAo Γ))) (wR (gEo Γ) ad σ) 2 0 0 0 [(0, .ref (ad 0))] [] := by
  intro n_
  induction n_ with
  | zero => intro σ  hf; cases hf
  | succ n_ ih =>
    intro σ  hf
    simp only [f_X8_plan_b0] at hf
    refine g_aload_n X 0 dX8_plan_0 rfl ?_
    refine g_get X in_X8 0 6 rfl rfl (by decide) q366 rfl dX8_plan_1 ?_
    refine g_iconst X 2 dX8_plan_4 rfl ?_
    refine g_icmp_ne X 97 dX8_plan_5 rfl hf (fun hf => ?_) (fun hf => ?_)
    · exact g_xvret X rfl dX8_plan_97 hf
    · refine g_aload_n X 0 dX8_plan_8 rfl ?_
      refine g_aload_n X 0 dX8_plan_9 rfl ?_
      refine g_get X in_X8 0 1 rfl rfl (by decide) q360 rfl dX8_plan_10 ?_
      refine g_getN X in_X5 1 6 rfl rfl (by decide) 14 rfl rfl dX8_plan_13 ?_
      refine g_bipush X 8 dX8_plan_16 rfl ?_
      refine g_icmp_ge X 25 dX8_plan_18 rfl hf (fun hf => ?_) (fun hf => ?_)
      · refine g_iconst X 0 dX8_plan_25 rfl ?_
        exact w_X8_plan_b26 X hno hE1 ih σ 0 hf
      · refine g_iconst X 1 dX8_plan_21 rfl ?_
        refine g_goto X 26 dX8_plan_22 rfl ?_
        exact w_X8_plan_b26 X hno hE1 ih σ 1 hf
set_option maxHeartbeats 4000000 in
theorem m_X8_plan (l : Launch) (E : gE) (hE1 : gEx1 E) (ad : Nat → Nat) (σ : gRd) (z : gR gRd) (hf : f_X8_plan σ = some z) (sz : Nat) : MetX l yX8_plan (ws_ yX8_plan cX8_plan 2 none) rm_X8_plan (gPc [.ref (ad 0)] E (wR E ad σ) sz) (gXQ E (wR E ad) true z (va_A (wR E ad σ) sz)) (va_A (wR E ad σ) sz) := by
  refine gMetX (Qx := gXQ E (wR E ad) true z) (by decide) (Nat.le_of_ble_eq_true rfl) (fun Γ X hno hl hE => ?_)
  subst hl; subst hE
  unfold f_X8_plan at hf
  show gW Γ (gMQX Γ (gXQ (gEo Γ) (wR (gEo Γ) ad) true z (gAo Γ))) (wR (gEo Γ) ad σ) 2 0 0 0 [(0, .ref (ad 0))] []
  exact w_X8_plan_b0 X hno hE1 300 σ hf
def f_X8_told_b115 (σ : gRd) (t0 : Int32) (t1 : Int32) (t2 : Int32) : Option (gR gRd) :=
  (f_X5_becomes (R_made σ) t2 t1 t0).bind fun u15 => gs (R_made_s σ u15) fun s16 => gv (((S_people (R_made s16))) + 1) fun v17 => gs (R_made_s s16 (S_people_s (R_made s16) v17)) fun s18 => some (.inl (0, s18))
def f_X8_told (σ : gRd) (x1 : Int32) : Option (gR gRd) :=
  gswL 4 3 x1 (fun k => match k with | 0 => (gcx (f_X8_taken σ 1 5) id fun r1 u2 => gs (R_made_s u2 (S_room_s (R_made u2) r1)) fun s3 => some (.inl (0, s3))) | 1 => (gcx (f_X8_taken σ 1 9) id fun r4 u5 => gs (R_made_s u5 (S_think_s (R_made u5) r4)) fun s6 => some (.inl (0, s6))) | 2 => (gcx (f_X8_plan σ) id fun r7 u8 => some (.inl (0, u8))) | _ => none) ((f_X5_becomes (R_made σ) ((S_people (R_made σ))) 0 x1).bind fun u10 => gs (R_made_s σ u10) fun s11 => if (R_sort s11) = 2 then (gcx (f_X8_taken s11 0 40) id fun r12 u13 => f_X8_told_b115 u13 r12 1 ((S_people (R_made s11)))) else (f_X8_told_b115 s11 0 1 ((S_people (R_made s11)))))
abbrev rm_X8_told : Room := { frames := 8, cells := 1, slots := 8, locals := 192 }
set_option maxHeartbeats 4000000 in
theorem w_X8_told_b115 {Γ : gG} {ad : Nat → Nat} {z : gR gRd} (X : gCX Γ cX8_told 2 none RX8 rm_X8_told) (hno : gNo Γ) (hE1 : gEx1 (gEo Γ)) : ∀ (σ : gRd) (t0 : Int32) (t1 : Int32) (t2 : Int32), f_X8_told_b115 σ t0 t1 t2 = some z → gW Γ (gMQX Γ (gXQ (gEo Γ) (wR (gEo Γ) ad) true z (gAo Γ))) (wR (gEo Γ) ad σ) 2 0 0 115 [(0, .ref (ad 0))] [.int t0, .int t1, .int t2, .ref (ad 1)] := by
  intro σ t0 t1 t2 hf
  unfold f_X8_told_b115 at hf
  refine g_callVv X 3 (As := [.int t2, .int t1, .int t0]) (wfc := wS (gEo Γ) (fun i => ad (i + 1))) (lw_V q482 q483 q484 q65 q485) (by decide +kernel) (fun u_ h_ sz_ => m_X5_becomes (gl Γ) (gEo Γ) (fun i => ad (i + 1)) (R_made σ) t2 t1 t0 u_ h_ sz_) (rq := 0) rfl rfl rfl rfl rfl ⟨by decide, by decide⟩ rfl (Nat.le_of_ble_eq_true rfl) ⟨Nat.zero_le _, Nat.zero_le _⟩ [1, 2, 3, 4] [0, 5, 6] [0, 3, 4, 5, 6, 1, 2] (fun u15 => wR (gEo Γ) ad (R_made_s σ u15)) rfl rfl rfl rfl (by decide) rfl (fun _ => rfl) dX8_told_115 hf (fun u15 _ hf => ?_)
  refine g_gs (wR (gEo Γ) ad) hf (fun s16 hf => ?_)
  refine g_aload_n X 0 dX8_told_118 rfl ?_
  refine g_get X in_X8 0 1 rfl rfl (by decide) q360 rfl dX8_told_119 ?_
  refine g_dup X dX8_told_122 rfl ?_
  refine g_getN X in_X5 1 0 rfl rfl (by decide) 11 rfl rfl dX8_told_123 ?_
  refine g_iconst X 1 dX8_told_126 rfl ?_
  refine g_iadd X dX8_told_127 ?_
  refine g_topi hf (fun v17 hf => ?_)
  refine g_putN X in_X5 tyX5_ok nmX5 1 0 (wR (gEo Γ) ad (R_made_s s16 (S_people_s (R_made s16) v17))) rfl rfl (by decide) 11 rfl rfl rfl rfl rfl (Nat.le_of_ble_eq_true rfl) rfl dX8_told_128 ?_
  refine g_gs (wR (gEo Γ) ad) hf (fun s18 hf => ?_)
  exact g_xvret X rfl dX8_told_131 hf
set_option maxHeartbeats 4000000 in
theorem m_X8_told (l : Launch) (E : gE) (hE1 : gEx1 E) (ad : Nat → Nat) (σ : gRd) (x1 : Int32) (z : gR gRd) (hf : f_X8_told σ x1 = some z) (sz : Nat) : MetX l yX8_told (ws_ yX8_told cX8_told 2 none) rm_X8_told (gPc [.ref (ad 0), .int x1] E (wR E ad σ) sz) (gXQ E (wR E ad) true z (va_A (wR E ad σ) sz)) (va_A (wR E ad σ) sz) := by
  refine gMetX (Qx := gXQ E (wR E ad) true z) (by decide) (Nat.le_of_ble_eq_true rfl) (fun Γ X hno hl hE => ?_)
  subst hl; subst hE
  unfold f_X8_told at hf
  show gW Γ (gMQX Γ (gXQ (gEo Γ) (wR (gEo Γ) ad) true z (gAo Γ))) (wR (gEo Γ) ad σ) 2 0 0 0 [(0, .ref (ad 0)), (1, .int x1)] []
  refine g_iload_n X 1 dX8_told_0 rfl ?_
  refine g_tswL X 4 3 (fun k => match k with | 0 => 28 | 1 => 44 | 2 => 61 | _ => 0) 68 dX8_told_1 rfl (fun k hk => ?_) rfl hf (fun k hk hf => ?_) (fun hf => ?_)
  · match k, hk with
    | 0, _ => exact ⟨_, rfl, rfl⟩
    | 1, _ => exact ⟨_, rfl, rfl⟩
    | 2, _ => exact ⟨_, rfl, rfl⟩
    | k + 3, hk => exact absurd hk (by omega)
  · match k, hk, hf with
    | 0, _, hf =>
      refine g_aload_n X 0 dX8_told_28 rfl ?_
      refine g_get X in_X8 0 1 rfl rfl (by decide) q360 rfl dX8_told_29 ?_
      refine g_aload_n X 0 dX8_told_32 rfl ?_
      refine g_iconst X 1 dX8_told_33 rfl ?_
      refine g_iconst X 5 dX8_told_34 rfl ?_
      refine g_callXV (lift := id) X false 2 (As := [.int 1, .int 5]) (rest := [.ref (ad 1)]) (wfc := wR (gEo Γ) ad) (lw_V q466 q468 qs9 q68 q469) (by decide +kernel) (fun z_ h_ sz_ => m_X8_taken (gl Γ) (gEo Γ) hE1 ad σ 1 5 z_ h_ sz_) (rq := 0) rfl rfl rfl ⟨by decide, by decide⟩ rfl (Nat.le_of_ble_eq_true rfl) ⟨by decide, by decide⟩ [0, 1, 2, 3, 4, 5, 6] [] [0, 1, 2, 3, 4, 5, 6] (fun u2 => wR (gEo Γ) ad u2) rfl rfl rfl rfl (by decide) rfl (fun _ => rfl) dX8_told_35 hf (fun r1 u2 hf => ?_) (fun _ _ _ _ _ hz h6 h7 => g_xleave X hno h6 h7 hz rfl)
      refine g_putN X in_X5 tyX5_ok nmX5 1 4 (wR (gEo Γ) ad (R_made_s u2 (S_room_s (R_made u2) r1))) rfl rfl (by decide) 12 rfl rfl rfl rfl rfl (Nat.le_of_ble_eq_true rfl) rfl dX8_told_38 ?_
      refine g_gs (wR (gEo Γ) ad) hf (fun s3 hf => ?_)
      refine g_goto X 131 dX8_told_41 rfl ?_
      exact g_xvret X rfl dX8_told_131 hf
    | 1, _, hf =>
      refine g_aload_n X 0 dX8_told_44 rfl ?_
      refine g_get X in_X8 0 1 rfl rfl (by decide) q360 rfl dX8_told_45 ?_
      refine g_aload_n X 0 dX8_told_48 rfl ?_
      refine g_iconst X 1 dX8_told_49 rfl ?_
      refine g_bipush X 9 dX8_told_50 rfl ?_
      refine g_callXV (lift := id) X false 2 (As := [.int 1, .int 9]) (rest := [.ref (ad 1)]) (wfc := wR (gEo Γ) ad) (lw_V q466 q468 qs9 q68 q469) (by decide +kernel) (fun z_ h_ sz_ => m_X8_taken (gl Γ) (gEo Γ) hE1 ad σ 1 9 z_ h_ sz_) (rq := 0) rfl rfl rfl ⟨by decide, by decide⟩ rfl (Nat.le_of_ble_eq_true rfl) ⟨by decide, by decide⟩ [0, 1, 2, 3, 4, 5, 6] [] [0, 1, 2, 3, 4, 5, 6] (fun u5 => wR (gEo Γ) ad u5) rfl rfl rfl rfl (by decide) rfl (fun _ => rfl) dX8_told_52 hf (fun r4 u5 hf => ?_) (fun _ _ _ _ _ hz h6 h7 => g_xleave X hno h6 h7 hz rfl)
      refine g_putN X in_X5 tyX5_ok nmX5 1 5 (wR (gEo Γ) ad (R_made_s u5 (S_think_s (R_made u5) r4))) rfl rfl (by decide) 13 rfl rfl rfl rfl rfl (Nat.le_of_ble_eq_true rfl) rfl dX8_told_55 ?_
      refine g_gs (wR (gEo Γ) ad) hf (fun s6 hf => ?_)
      refine g_goto X 131 dX8_told_58 rfl ?_
      exact g_xvret X rfl dX8_told_131 hf
    | 2, _, hf =>
      refine g_aload_n X 0 dX8_told_61 rfl ?_
      refine g_callXV (lift := id) X true 0 (As := []) (rest := []) (wfc := wR (gEo Γ) ad) (lw_V q475 q477 qs11 q68 q478) (by decide +kernel) (fun z_ h_ sz_ => m_X8_plan (gl Γ) (gEo Γ) hE1 ad σ z_ h_ sz_) (rq := 0) rfl rfl rfl ⟨by decide, by decide⟩ rfl (Nat.le_of_ble_eq_true rfl) ⟨by decide, by decide⟩ [0, 1, 2, 3, 4, 5, 6] [] [0, 1, 2, 3, 4, 5, 6] (fun u8 => wR (gEo Γ) ad u8) rfl rfl rfl rfl (by decide) rfl (fun _ => rfl) dX8_told_62 hf (fun r7 u8 hf => ?_) (fun _ _ _ _ _ hz h6 h7 => g_xleave X hno h6 h7 hz rfl)
      refine g_goto X 131 dX8_told_65 rfl ?_
      exact g_xvret X rfl dX8_told_131 hf
    | k + 3, hk, _ =>
      exact absurd hk (by omega)
  · refine g_aload_n X 0 dX8_told_68 rfl ?_
    refine g_get X in_X8 0 1 rfl rfl (by decide) q360 rfl dX8_told_69 ?_
    refine g_aload_n X 0 dX8_told_72 rfl ?_
    refine g_get X in_X8 0 1 rfl rfl (by decide) q360 rfl dX8_told_73 ?_
    refine g_getN X in_X5 1 0 rfl rfl (by decide) 11 rfl rfl dX8_told_76 ?_
    refine g_iconst X 0 dX8_told_79 rfl ?_
    refine g_iload_n X 1 dX8_told_80 rfl ?_
    refine g_callVv X 3 (As := [.int ((S_people (R_made σ))), .int 0, .int x1]) (wfc := wS (gEo Γ) (fun i => ad (i + 1))) (lw_V q482 q483 q484 q65 q485) (by decide +kernel) (fun u_ h_ sz_ => m_X5_becomes (gl Γ) (gEo Γ) (fun i => ad (i + 1)) (R_made σ) ((S_people (R_made σ))) 0 x1 u_ h_ sz_) (rq := 0) rfl rfl rfl rfl rfl ⟨by decide, by decide⟩ rfl (Nat.le_of_ble_eq_true rfl) ⟨Nat.zero_le _, Nat.zero_le _⟩ [1, 2, 3, 4] [0, 5, 6] [0, 3, 4, 5, 6, 1, 2] (fun u10 => wR (gEo Γ) ad (R_made_s σ u10)) rfl rfl rfl rfl (by decide) rfl (fun _ => rfl) dX8_told_81 hf (fun u10 _ hf => ?_)
    refine g_gs (wR (gEo Γ) ad) hf (fun s11 hf => ?_)
    refine g_aload_n X 0 dX8_told_84 rfl ?_
    refine g_get X in_X8 0 1 rfl rfl (by decide) q360 rfl dX8_told_85 ?_
    refine g_aload_n X 0 dX8_told_88 rfl ?_
    refine g_get X in_X8 0 1 rfl rfl (by decide) q360 rfl dX8_told_89 ?_
    refine g_getN X in_X5 1 0 rfl rfl (by decide) 11 rfl rfl dX8_told_92 ?_
    refine g_iconst X 1 dX8_told_95 rfl ?_
    refine g_aload_n X 0 dX8_told_96 rfl ?_
    refine g_get X in_X8 0 6 rfl rfl (by decide) q366 rfl dX8_told_97 ?_
    refine g_iconst X 2 dX8_told_100 rfl ?_
    refine g_icmp_ne X 114 dX8_told_101 rfl hf (fun hf => ?_) (fun hf => ?_)
    · refine g_iconst X 0 dX8_told_114 rfl ?_
      refine g_sub [0] [(0, .ref (ad 0))] rfl ?_
      exact w_X8_told_b115 X hno hE1 s11 0 1 ((S_people (R_made s11))) hf
    · refine g_aload_n X 0 dX8_told_104 rfl ?_
      refine g_iconst X 0 dX8_told_105 rfl ?_
      refine g_bipush X 40 dX8_told_106 rfl ?_
      refine g_callXV (lift := id) X false 2 (As := [.int 0, .int 40]) (rest := [.int 1, .int ((S_people (R_made s11))), .ref (ad 1)]) (wfc := wR (gEo Γ) ad) (lw_V q466 q468 qs9 q68 q469) (by decide +kernel) (fun z_ h_ sz_ => m_X8_taken (gl Γ) (gEo Γ) hE1 ad s11 0 40 z_ h_ sz_) (rq := 0) rfl rfl rfl ⟨by decide, by decide⟩ rfl (Nat.le_of_ble_eq_true rfl) ⟨by decide, by decide⟩ [0, 1, 2, 3, 4, 5, 6] [] [0, 1, 2, 3, 4, 5, 6] (fun u13 => wR (gEo Γ) ad u13) rfl rfl rfl rfl (by decide) rfl (fun _ => rfl) dX8_told_108 hf (fun r12 u13 hf => ?_) (fun _ _ _ _ _ hz h6 h7 => g_xleave X hno h6 h7 hz rfl)
      refine g_goto X 115 dX8_told_111 rfl ?_
      refine g_sub [0] [(0, .ref (ad 0))] rfl ?_
      exact w_X8_told_b115 X hno hE1 u13 r12 1 ((S_people (R_made s11))) hf
