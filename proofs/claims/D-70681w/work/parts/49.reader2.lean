set_option maxRecDepth 100000
def f_X8_is_b81 (k39 : gRd → Int32 → Int32 → Int32 → Option (Int32 × gRd)) (σ : gRd) (x1 : Int32) (x4 : Int32) (t0 : Int32) : Option (Int32 × gRd) :=
  gv (x4 + 1) fun v3 => k39 σ x1 t0 v3
def f_X8_is_b39 : Nat → gRd → Int32 → Int32 → Int32 → Option (Int32 × gRd)
  | 0 => fun _ _ _ _ => none
  | n_ + 1 => fun σ x1 x3 x4 =>
    if x3 = 0 then (gzr x3 σ) else (if (Int32.ofNat (gsLen.getD (gsIx x1) 0)) ≤ x4 then (gzr x3 σ) else (gld 160 (R_tape σ) ((R_from σ) + x4) fun v1 => gch (gsIx x1) x4 fun v2 => if v1 = v2 then (f_X8_is_b81 (f_X8_is_b39 n_) σ x1 x4 1) else (f_X8_is_b81 (f_X8_is_b39 n_) σ x1 x4 0)))
def f_X8_is_b35 (σ : gRd) (x1 : Int32) (t0 : Int32) : Option (Int32 × gRd) :=
  f_X8_is_b39 10 σ x1 t0 0
def f_X8_is_b34 (σ : gRd) (x1 : Int32) : Option (Int32 × gRd) :=
  f_X8_is_b35 σ x1 0
def f_X8_is (σ : gRd) (x1 : Int32) : Option (Int32 × gRd) :=
  if (R_sort σ) = 1 then (if ((R_at σ) - (R_from σ)) = (Int32.ofNat (gsLen.getD (gsIx x1) 0)) then (f_X8_is_b35 σ x1 1) else (f_X8_is_b34 σ x1)) else (f_X8_is_b34 σ x1)
abbrev rm_X8_is : Room := { frames := 5, cells := 0, slots := 0, locals := 131 }
set_option maxHeartbeats 4000000 in
theorem w_X8_is_b81 {Γ : gG} {ad : Nat → Nat} {r : Int32} {u : gRd} (X : gCX Γ cX8_is 5 (some .boolean) RX8 rm_X8_is) {aK aV : Nat → Nat} (hZ : gSt (gEo Γ) aK aV) {k39 : gRd → Int32 → Int32 → Int32 → Option (Int32 × gRd)} (H39 : ∀ (σ : gRd) (x1 : Int32) (x3 : Int32) (x4 : Int32), k39 σ x1 x3 x4 = some (r, u) → gW Γ (gMQ Γ (gPi (gEo Γ) (wR (gEo Γ) ad) r u (gAo Γ)) 0 0) (wR (gEo Γ) ad σ) 5 0 0 39 [(0, .ref (ad 0)), (1, .int x1), (2, .ref (aK (gsIx x1))), (3, .int x3), (4, .int x4)] []) : ∀ (σ : gRd) (x1 : Int32) (x4 : Int32) (t0 : Int32), f_X8_is_b81 k39 σ x1 x4 t0 = some (r, u) → gW Γ (gMQ Γ (gPi (gEo Γ) (wR (gEo Γ) ad) r u (gAo Γ)) 0 0) (wR (gEo Γ) ad σ) 5 0 0 81 [(0, .ref (ad 0)), (1, .int x1), (2, .ref (aK (gsIx x1))), (4, .int x4)] [.int t0] := by
  intro σ x1 x4 t0 hf
  unfold f_X8_is_b81 at hf
  refine g_istore_n X [(3, .int t0), (0, .ref (ad 0)), (1, .int x1), (2, .ref (aK (gsIx x1))), (4, .int x4)] dX8_is_81 (by decide) rfl ?_
  refine g_iincV X 1 4 (fun v3 => [(4, .int v3), (3, .int t0), (0, .ref (ad 0)), (1, .int x1), (2, .ref (aK (gsIx x1)))]) dX8_is_82 rfl rfl (by decide) (fun _ => rfl) hf (fun v3 hf => ?_)
  refine g_goto X 39 dX8_is_85 rfl ?_
  refine g_sub [2, 3, 4, 1, 0] [(0, .ref (ad 0)), (1, .int x1), (2, .ref (aK (gsIx x1))), (3, .int t0), (4, .int v3)] rfl ?_
  exact H39 σ x1 t0 v3 hf
set_option maxHeartbeats 4000000 in
theorem w_X8_is_b39 {Γ : gG} {ad : Nat → Nat} {r : Int32} {u : gRd} (X : gCX Γ cX8_is 5 (some .boolean) RX8 rm_X8_is) {aK aV : Nat → Nat} (hZ : gSt (gEo Γ) aK aV) : ∀ (n_ : Nat) (σ : gRd) (x1 : Int32) (x3 : Int32) (x4 : Int32), f_X8_is_b39 n_ σ x1 x3 x4 = some (r, u) → gW Γ (gMQ Γ (gPi (gEo Γ) (wR (gEo Γ) ad) r u (gAo Γ)) 0 0) (wR (gEo Γ) ad σ) 5 0 0 39 [(0, .ref (ad 0)), (1, .int x1), (2, .ref (aK (gsIx x1))), (3, .int x3), (4, .int x4)] [] := by
  intro n_
  induction n_ with
  | zero => intro σ x1 x3 x4 hf; cases hf
  | succ n_ ih =>
    intro σ x1 x3 x4 hf
    simp only [f_X8_is_b39] at hf
    refine g_iload_n X 3 dX8_is_39 rfl ?_
    refine g_if_eq X 88 dX8_is_40 rfl hf (fun hf => ?_) (fun hf => ?_)
    · refine g_iload_n X 3 dX8_is_88 rfl ?_
      exact g_zret X rfl dX8_is_89 hf
    · refine g_iload X 4 dX8_is_43 rfl ?_
      refine g_aload_n X 2 dX8_is_45 rfl ?_
      refine g_strlen X hZ (gsIx_lt _) (by decide) (Nat.le_of_ble_eq_true rfl) ⟨Nat.zero_le _, Nat.zero_le _⟩ dX8_is_46 ?_
      refine g_icmp_ge X 88 dX8_is_49 rfl hf (fun hf => ?_) (fun hf => ?_)
      · refine g_iload_n X 3 dX8_is_88 rfl ?_
        exact g_zret X rfl dX8_is_89 hf
      · refine g_aload_n X 0 dX8_is_52 rfl ?_
        refine g_get X in_X8 0 8 rfl rfl (by decide) q368 rfl dX8_is_53 ?_
        refine g_getN X in_X0 5 10 rfl rfl (by decide) 16 rfl rfl dX8_is_56 ?_
        refine g_aload_n X 0 dX8_is_59 rfl ?_
        refine g_get X in_X8 0 5 rfl rfl (by decide) q365 rfl dX8_is_60 ?_
        refine g_iload X 4 dX8_is_63 rfl ?_
        refine g_iadd X dX8_is_65 ?_
        refine g_bald X 6 rfl dX8_is_66 hf (fun v1 hf => ?_)
        refine g_aload_n X 2 dX8_is_67 rfl ?_
        refine g_iload X 4 dX8_is_68 rfl ?_
        refine g_charAt X hZ (gsIx_lt _) (by decide) (Nat.le_of_ble_eq_true rfl) ⟨Nat.zero_le _, Nat.zero_le _⟩ dX8_is_70 hf (fun v2 hf => ?_)
        refine g_icmp_ne X 80 dX8_is_73 rfl hf (fun hf => ?_) (fun hf => ?_)
        · refine g_iconst X 0 dX8_is_80 rfl ?_
          refine g_sub [0, 1, 2, 4] [(0, .ref (ad 0)), (1, .int x1), (2, .ref (aK (gsIx x1))), (4, .int x4)] rfl ?_
          exact w_X8_is_b81 X hZ ih σ x1 x4 0 hf
        · refine g_iconst X 1 dX8_is_76 rfl ?_
          refine g_goto X 81 dX8_is_77 rfl ?_
          refine g_sub [0, 1, 2, 4] [(0, .ref (ad 0)), (1, .int x1), (2, .ref (aK (gsIx x1))), (4, .int x4)] rfl ?_
          exact w_X8_is_b81 X hZ ih σ x1 x4 1 hf
set_option maxHeartbeats 4000000 in
theorem w_X8_is_b35 {Γ : gG} {ad : Nat → Nat} {r : Int32} {u : gRd} (X : gCX Γ cX8_is 5 (some .boolean) RX8 rm_X8_is) {aK aV : Nat → Nat} (hZ : gSt (gEo Γ) aK aV) : ∀ (σ : gRd) (x1 : Int32) (t0 : Int32), f_X8_is_b35 σ x1 t0 = some (r, u) → gW Γ (gMQ Γ (gPi (gEo Γ) (wR (gEo Γ) ad) r u (gAo Γ)) 0 0) (wR (gEo Γ) ad σ) 5 0 0 35 [(0, .ref (ad 0)), (1, .int x1), (2, .ref (aK (gsIx x1)))] [.int t0] := by
  intro σ x1 t0 hf
  unfold f_X8_is_b35 at hf
  refine g_istore_n X [(3, .int t0), (0, .ref (ad 0)), (1, .int x1), (2, .ref (aK (gsIx x1)))] dX8_is_35 (by decide) rfl ?_
  refine g_iconst X 0 dX8_is_36 rfl ?_
  refine g_istore X [(4, .int 0), (3, .int t0), (0, .ref (ad 0)), (1, .int x1), (2, .ref (aK (gsIx x1)))] dX8_is_37 (by decide) rfl ?_
  refine g_sub [2, 3, 4, 1, 0] [(0, .ref (ad 0)), (1, .int x1), (2, .ref (aK (gsIx x1))), (3, .int t0), (4, .int 0)] rfl ?_
  exact w_X8_is_b39 X hZ 10 σ x1 t0 0 hf
set_option maxHeartbeats 4000000 in
theorem w_X8_is_b34 {Γ : gG} {ad : Nat → Nat} {r : Int32} {u : gRd} (X : gCX Γ cX8_is 5 (some .boolean) RX8 rm_X8_is) {aK aV : Nat → Nat} (hZ : gSt (gEo Γ) aK aV) : ∀ (σ : gRd) (x1 : Int32), f_X8_is_b34 σ x1 = some (r, u) → gW Γ (gMQ Γ (gPi (gEo Γ) (wR (gEo Γ) ad) r u (gAo Γ)) 0 0) (wR (gEo Γ) ad σ) 5 0 0 34 [(0, .ref (ad 0)), (1, .int x1), (2, .ref (aK (gsIx x1)))] [] := by
  intro σ x1 hf
  unfold f_X8_is_b34 at hf
  refine g_iconst X 0 dX8_is_34 rfl ?_
  exact w_X8_is_b35 X hZ σ x1 0 hf
set_option maxHeartbeats 4000000 in
theorem m_X8_is (l : Launch) (E : gE) (aK aV : Nat → Nat) (hZ : gSt E aK aV) (ad : Nat → Nat) (σ : gRd) (x1 : Int32) (r : Int32) (u : gRd) (hf : f_X8_is σ x1 = some (r, u)) (sz : Nat) : Met l yX8_is (ws_ yX8_is cX8_is 5 (some .boolean)) rm_X8_is (gPc [.ref (ad 0), .int x1] E (wR E ad σ) sz) (gPi E (wR E ad) r u (va_A (wR E ad σ) sz)) 0 0 (va_A (wR E ad σ) sz) := by
  refine gMet (Qc := gPi E (wR E ad) r u) (by decide) (Nat.le_of_ble_eq_true rfl) (fun Γ X hl hE => ?_)
  subst hl; subst hE
  unfold f_X8_is at hf
  show gW Γ (gMQ Γ (gPi (gEo Γ) (wR (gEo Γ) ad) r u (gAo Γ)) 0 0) (wR (gEo Γ) ad σ) 5 0 0 0 [(0, .ref (ad 0)), (1, .int x1)] []
  refine g_aload_n X 0 dX8_is_0 rfl ?_
  refine g_iload_n X 1 dX8_is_1 rfl ?_
  refine g_callName X hZ 0 rfl (by decide) (Nat.le_of_ble_eq_true rfl) ⟨Nat.zero_le _, Nat.zero_le _⟩ dX8_is_2 ?_
  refine g_astore_n X [(2, .ref (aK (gsIx x1))), (0, .ref (ad 0)), (1, .int x1)] dX8_is_5 (by decide) rfl ?_
  refine g_aload_n X 1 dX8_is_6 rfl ?_
  refine g_get X in_X8 0 6 rfl rfl (by decide) q366 rfl dX8_is_7 ?_
  refine g_iconst X 1 dX8_is_10 rfl ?_
  refine g_icmp_ne X 34 dX8_is_11 rfl hf (fun hf => ?_) (fun hf => ?_)
  · refine g_sub [1, 2, 0] [(0, .ref (ad 0)), (1, .int x1), (2, .ref (aK (gsIx x1)))] rfl ?_
    exact w_X8_is_b34 X hZ σ x1 hf
  · refine g_aload_n X 1 dX8_is_14 rfl ?_
    refine g_get X in_X8 0 4 rfl rfl (by decide) q364 rfl dX8_is_15 ?_
    refine g_aload_n X 1 dX8_is_18 rfl ?_
    refine g_get X in_X8 0 5 rfl rfl (by decide) q365 rfl dX8_is_19 ?_
    refine g_isub X dX8_is_22 ?_
    refine g_aload_n X 0 dX8_is_23 rfl ?_
    refine g_strlen X hZ (gsIx_lt _) (by decide) (Nat.le_of_ble_eq_true rfl) ⟨Nat.zero_le _, Nat.zero_le _⟩ dX8_is_24 ?_
    refine g_icmp_ne X 34 dX8_is_27 rfl hf (fun hf => ?_) (fun hf => ?_)
    · refine g_sub [1, 2, 0] [(0, .ref (ad 0)), (1, .int x1), (2, .ref (aK (gsIx x1)))] rfl ?_
      exact w_X8_is_b34 X hZ σ x1 hf
    · refine g_iconst X 1 dX8_is_30 rfl ?_
      refine g_goto X 35 dX8_is_31 rfl ?_
      refine g_sub [1, 2, 0] [(0, .ref (ad 0)), (1, .int x1), (2, .ref (aK (gsIx x1)))] rfl ?_
      exact w_X8_is_b35 X hZ σ x1 1 hf
def f_X8_line_b125 (σ : gRd) (t0 : Int32) : Option (gR gRd) :=
  gcx (f_X8_need σ t0 2) id fun r18 u19 => gcx (f_X8_next u19) id fun r20 u21 => some (.inl (0, u21))
def f_X8_line_b86 (σ : gRd) (x1 : Int32) (t0 : Int32) : Option (gR gRd) :=
  gcx (f_X8_need σ t0 4) id fun r10 u11 => gv ((R_lines u11) ||| ((1 : Int32) <<< (x1 &&& 31))) fun v12 => gs (R_lines_s u11 v12) fun s13 => gcx (f_X8_next s13) id fun r14 u15 => gcx (f_X8_told u15 x1) id fun r16 u17 => if (R_sort u17) = 3 then (f_X8_line_b125 u17 1) else (f_X8_line_b125 u17 0)
def f_X8_line_b81 (σ : gRd) (x1 : Int32) : Option (gR gRd) :=
  f_X8_line_b86 σ x1 1
def f_X8_line_b60 (σ : gRd) (x1 : Int32) (t0 : Int32) : Option (gR gRd) :=
  gcx (f_X8_need σ t0 5) id fun r6 u7 => if x1 < 4 then (f_X8_line_b81 u7 x1) else ((f_X0_has (R_lines u7) x1).bind fun (r8, _) => if r8 = 0 then (f_X8_line_b81 u7 x1) else (f_X8_line_b86 u7 x1 0))
def f_X8_line_b55 (σ : gRd) (x1 : Int32) : Option (gR gRd) :=
  f_X8_line_b60 σ x1 1
def f_X8_line_b34 (σ : gRd) (x1 : Int32) (t0 : Int32) : Option (gR gRd) :=
  gcx (f_X8_need σ t0 2) id fun r4 u5 => if 4 ≤ x1 then (f_X8_line_b55 u5 x1) else (if 5 ≤ ((S_people (R_made u5))) then (f_X8_line_b60 u5 x1 0) else (f_X8_line_b55 u5 x1))
def f_X8_line_b22 (σ : gRd) (x1 : Int32) : Option (gR gRd) :=
  if 6 < x1 then (f_X8_line_b34 σ x1 0) else (f_X8_line_b34 σ x1 1)
def f_X8_line_b2 : Nat → gRd → Int32 → Option (gR gRd)
  | 0 => fun _ _ => none
  | n_ + 1 => fun σ x1 =>
    if 6 < x1 then (f_X8_line_b22 σ x1) else ((f_X8_is σ x1).bind fun (r1, u2) => if r1 = 0 then (gv (x1 + 1) fun v3 => (f_X8_line_b2 n_) u2 v3) else (f_X8_line_b22 u2 x1))
def f_X8_line (σ : gRd) : Option (gR gRd) :=
  f_X8_line_b2 10 σ 0
abbrev rm_X8_line : Room := { frames := 9, cells := 1, slots := 8, locals := 213 }
set_option maxHeartbeats 4000000 in
theorem w_X8_line_b125 {Γ : gG} {ad : Nat → Nat} {z : gR gRd} (X : gCX Γ cX8_line 2 none RX8 rm_X8_line) (hno : gNo Γ) (hE1 : gEx1 (gEo Γ)) {aK aV : Nat → Nat} (hZ : gSt (gEo Γ) aK aV) : ∀ (σ : gRd) (t0 : Int32), f_X8_line_b125 σ t0 = some z → gW Γ (gMQX Γ (gXQ (gEo Γ) (wR (gEo Γ) ad) true z (gAo Γ))) (wR (gEo Γ) ad σ) 2 0 0 125 [(0, .ref (ad 0))] [.int t0, .ref (ad 0)] := by
  intro σ t0 hf
  unfold f_X8_line_b125 at hf
  refine g_iconst X 2 dX8_line_125 rfl ?_
  refine g_callXV (lift := id) X true 2 (As := [.int t0, .int 2]) (rest := []) (wfc := wR (gEo Γ) ad) (lw_V q271 q273 qs2 q68 q274) (by decide +kernel) (fun z_ h_ sz_ => m_X8_need (gl Γ) (gEo Γ) hE1 ad σ t0 2 z_ h_ sz_) (rq := 0) rfl rfl rfl ⟨by decide, by decide⟩ rfl (Nat.le_of_ble_eq_true rfl) ⟨by decide, by decide⟩ [0, 1, 2, 3, 4, 5, 6] [] [0, 1, 2, 3, 4, 5, 6] (fun u19 => wR (gEo Γ) ad u19) rfl rfl rfl rfl (by decide) rfl (fun _ => rfl) dX8_line_126 hf (fun r18 u19 hf => ?_) (fun _ _ _ _ _ hz h6 h7 => g_xleave X hno h6 h7 hz rfl)
  refine g_aload_n X 0 dX8_line_129 rfl ?_
  refine g_callXV (lift := id) X true 0 (As := []) (rest := []) (wfc := wR (gEo Γ) ad) (lw_V q263 q265 qs0 q68 q266) (by decide +kernel) (fun z_ h_ sz_ => m_X8_next (gl Γ) (gEo Γ) hE1 ad u19 z_ h_ sz_) (rq := 0) rfl rfl rfl ⟨by decide, by decide⟩ rfl (Nat.le_of_ble_eq_true rfl) ⟨by decide, by decide⟩ [0, 1, 2, 3, 4, 5, 6] [] [0, 1, 2, 3, 4, 5, 6] (fun u21 => wR (gEo Γ) ad u21) rfl rfl rfl rfl (by decide) rfl (fun _ => rfl) dX8_line_130 hf (fun r20 u21 hf => ?_) (fun _ _ _ _ _ hz h6 h7 => g_xleave X hno h6 h7 hz rfl)
  exact g_xvret X rfl dX8_line_133 hf
set_option maxHeartbeats 4000000 in
theorem w_X8_line_b86 {Γ : gG} {ad : Nat → Nat} {z : gR gRd} (X : gCX Γ cX8_line 2 none RX8 rm_X8_line) (hno : gNo Γ) (hE1 : gEx1 (gEo Γ)) {aK aV : Nat → Nat} (hZ : gSt (gEo Γ) aK aV) : ∀ (σ : gRd) (x1 : Int32) (t0 : Int32), f_X8_line_b86 σ x1 t0 = some z → gW Γ (gMQX Γ (gXQ (gEo Γ) (wR (gEo Γ) ad) true z (gAo Γ))) (wR (gEo Γ) ad σ) 2 0 0 86 [(0, .ref (ad 0)), (1, .int x1)] [.int t0, .ref (ad 0)] := by
  intro σ x1 t0 hf
  unfold f_X8_line_b86 at hf
  refine g_iconst X 4 dX8_line_86 rfl ?_
  refine g_callXV (lift := id) X true 2 (As := [.int t0, .int 4]) (rest := []) (wfc := wR (gEo Γ) ad) (lw_V q271 q273 qs2 q68 q274) (by decide +kernel) (fun z_ h_ sz_ => m_X8_need (gl Γ) (gEo Γ) hE1 ad σ t0 4 z_ h_ sz_) (rq := 0) rfl rfl rfl ⟨by decide, by decide⟩ rfl (Nat.le_of_ble_eq_true rfl) ⟨by decide, by decide⟩ [0, 1, 2, 3, 4, 5, 6] [] [0, 1, 2, 3, 4, 5, 6] (fun u11 => wR (gEo Γ) ad u11) rfl rfl rfl rfl (by decide) rfl (fun _ => rfl) dX8_line_87 hf (fun r10 u11 hf => ?_) (fun _ _ _ _ _ hz h6 h7 => g_xleave X hno h6 h7 hz rfl)
  refine g_aload_n X 0 dX8_line_90 rfl ?_
  refine g_dup X dX8_line_91 rfl ?_
  refine g_get X in_X8 0 2 rfl rfl (by decide) q362 rfl dX8_line_92 ?_
  refine g_iconst X 1 dX8_line_95 rfl ?_
  refine g_iload_n X 1 dX8_line_96 rfl ?_
  refine g_ishl X dX8_line_97 ?_
  refine g_ior X dX8_line_98 ?_
  refine g_topi hf (fun v12 hf => ?_)
  refine g_put X in_X8 tyX8_ok nmX8 0 2 (wR (gEo Γ) ad (R_lines_s u11 v12)) rfl rfl (by decide) q362 rfl rfl rfl rfl (Nat.le_of_ble_eq_true rfl) rfl dX8_line_99 ?_
  refine g_gs (wR (gEo Γ) ad) hf (fun s13 hf => ?_)
  refine g_aload_n X 0 dX8_line_102 rfl ?_
  refine g_callXV (lift := id) X true 0 (As := []) (rest := []) (wfc := wR (gEo Γ) ad) (lw_V q263 q265 qs0 q68 q266) (by decide +kernel) (fun z_ h_ sz_ => m_X8_next (gl Γ) (gEo Γ) hE1 ad s13 z_ h_ sz_) (rq := 0) rfl rfl rfl ⟨by decide, by decide⟩ rfl (Nat.le_of_ble_eq_true rfl) ⟨by decide, by decide⟩ [0, 1, 2, 3, 4, 5, 6] [] [0, 1, 2, 3, 4, 5, 6] (fun u15 => wR (gEo Γ) ad u15) rfl rfl rfl rfl (by decide) rfl (fun _ => rfl) dX8_line_103 hf (fun r14 u15 hf => ?_) (fun _ _ _ _ _ hz h6 h7 => g_xleave X hno h6 h7 hz rfl)
  refine g_aload_n X 0 dX8_line_106 rfl ?_
  refine g_iload_n X 1 dX8_line_107 rfl ?_
  refine g_callXV (lift := id) X true 1 (As := [.int x1]) (rest := []) (wfc := wR (gEo Γ) ad) (lw_V q462 q464 qs8 q68 q465) (by decide +kernel) (fun z_ h_ sz_ => m_X8_told (gl Γ) (gEo Γ) hE1 ad u15 x1 z_ h_ sz_) (rq := 0) rfl rfl rfl ⟨by decide, by decide⟩ rfl (Nat.le_of_ble_eq_true rfl) ⟨by decide, by decide⟩ [0, 1, 2, 3, 4, 5, 6] [] [0, 1, 2, 3, 4, 5, 6] (fun u17 => wR (gEo Γ) ad u17) rfl rfl rfl rfl (by decide) rfl (fun _ => rfl) dX8_line_108 hf (fun r16 u17 hf => ?_) (fun _ _ _ _ _ hz h6 h7 => g_xleave X hno h6 h7 hz rfl)
  refine g_aload_n X 0 dX8_line_111 rfl ?_
  refine g_aload_n X 0 dX8_line_112 rfl ?_
  refine g_get X in_X8 0 6 rfl rfl (by decide) q366 rfl dX8_line_113 ?_
  refine g_iconst X 3 dX8_line_116 rfl ?_
  refine g_icmp_ne X 124 dX8_line_117 rfl hf (fun hf => ?_) (fun hf => ?_)
  · refine g_iconst X 0 dX8_line_124 rfl ?_
    refine g_sub [0] [(0, .ref (ad 0))] rfl ?_
    exact w_X8_line_b125 X hno hE1 hZ u17 0 hf
  · refine g_iconst X 1 dX8_line_120 rfl ?_
    refine g_goto X 125 dX8_line_121 rfl ?_
    refine g_sub [0] [(0, .ref (ad 0))] rfl ?_
    exact w_X8_line_b125 X hno hE1 hZ u17 1 hf
set_option maxHeartbeats 4000000 in
theorem w_X8_line_b81 {Γ : gG} {ad : Nat → Nat} {z : gR gRd} (X : gCX Γ cX8_line 2 none RX8 rm_X8_line) (hno : gNo Γ) (hE1 : gEx1 (gEo Γ)) {aK aV : Nat → Nat} (hZ : gSt (gEo Γ) aK aV) : ∀ (σ : gRd) (x1 : Int32), f_X8_line_b81 σ x1 = some z → gW Γ (gMQX Γ (gXQ (gEo Γ) (wR (gEo Γ) ad) true z (gAo Γ))) (wR (gEo Γ) ad σ) 2 0 0 81 [(0, .ref (ad 0)), (1, .int x1)] [.ref (ad 0)] := by
  intro σ x1 hf
  unfold f_X8_line_b81 at hf
  refine g_iconst X 1 dX8_line_81 rfl ?_
  refine g_goto X 86 dX8_line_82 rfl ?_
  exact w_X8_line_b86 X hno hE1 hZ σ x1 1 hf
set_option maxHeartbeats 4000000 in
theorem w_X8_line_b60 {Γ : gG} {ad : Nat → Nat} {z : gR gRd} (X : gCX Γ cX8_line 2 none RX8 rm_X8_line) (hno : gNo Γ) (hE1 : gEx1 (gEo Γ)) {aK aV : Nat → Nat} (hZ : gSt (gEo Γ) aK aV) : ∀ (σ : gRd) (x1 : Int32) (t0 : Int32), f_X8_line_b60 σ x1 t0 = some z → gW Γ (gMQX Γ (gXQ (gEo Γ) (wR (gEo Γ) ad) true z (gAo Γ))) (wR (gEo Γ) ad σ) 2 0 0 60 [(0, .ref (ad 0)), (1, .int x1)] [.int t0, .ref (ad 0)] := by
  intro σ x1 t0 hf
  unfold f_X8_line_b60 at hf
  refine g_iconst X 5 dX8_line_60 rfl ?_
  refine g_callXV (lift := id) X true 2 (As := [.int t0, .int 5]) (rest := []) (wfc := wR (gEo Γ) ad) (lw_V q271 q273 qs2 q68 q274) (by decide +kernel) (fun z_ h_ sz_ => m_X8_need (gl Γ) (gEo Γ) hE1 ad σ t0 5 z_ h_ sz_) (rq := 0) rfl rfl rfl ⟨by decide, by decide⟩ rfl (Nat.le_of_ble_eq_true rfl) ⟨by decide, by decide⟩ [0, 1, 2, 3, 4, 5, 6] [] [0, 1, 2, 3, 4, 5, 6] (fun u7 => wR (gEo Γ) ad u7) rfl rfl rfl rfl (by decide) rfl (fun _ => rfl) dX8_line_61 hf (fun r6 u7 hf => ?_) (fun _ _ _ _ _ hz h6 h7 => g_xleave X hno h6 h7 hz rfl)
  refine g_aload_n X 0 dX8_line_64 rfl ?_
  refine g_iload_n X 1 dX8_line_65 rfl ?_
  refine g_iconst X 4 dX8_line_66 rfl ?_
  refine g_icmp_lt X 81 dX8_line_67 rfl hf (fun hf => ?_) (fun hf => ?_)
  · exact w_X8_line_b81 X hno hE1 hZ u7 x1 hf
  · refine g_aload_n X 0 dX8_line_70 rfl ?_
    refine g_get X in_X8 0 2 rfl rfl (by decide) q362 rfl dX8_line_71 ?_
    refine g_iload_n X 1 dX8_line_74 rfl ?_
    refine g_call0Ni X 2 (As := [.int (R_lines u7), .int x1]) q461 9 rfl q60 q460 (by decide +kernel) (fun r_ u_ h_ sz_ => m_X0_has (gl Γ) (gEo Γ) (R_lines u7) x1 r_ u_ h_ sz_) rfl rfl ⟨by decide, by decide⟩ rfl (Nat.le_of_ble_eq_true rfl) ⟨Nat.zero_le _, Nat.zero_le _⟩ dX8_line_75 hf (fun r8 _ hf => ?_)
    refine g_if_ne X 85 dX8_line_78 rfl hf (fun hf => ?_) (fun hf => ?_)
    · refine g_iconst X 0 dX8_line_85 rfl ?_
      exact w_X8_line_b86 X hno hE1 hZ u7 x1 0 hf
    · exact w_X8_line_b81 X hno hE1 hZ u7 x1 hf
set_option maxHeartbeats 4000000 in
theorem w_X8_line_b55 {Γ : gG} {ad : Nat → Nat} {z : gR gRd} (X : gCX Γ cX8_line 2 none RX8 rm_X8_line) (hno : gNo Γ) (hE1 : gEx1 (gEo Γ)) {aK aV : Nat → Nat} (hZ : gSt (gEo Γ) aK aV) : ∀ (σ : gRd) (x1 : Int32), f_X8_line_b55 σ x1 = some z → gW Γ (gMQX Γ (gXQ (gEo Γ) (wR (gEo Γ) ad) true z (gAo Γ))) (wR (gEo Γ) ad σ) 2 0 0 55 [(0, .ref (ad 0)), (1, .int x1)] [.ref (ad 0)] := by
  intro σ x1 hf
  unfold f_X8_line_b55 at hf
  refine g_iconst X 1 dX8_line_55 rfl ?_
  refine g_goto X 60 dX8_line_56 rfl ?_
  exact w_X8_line_b60 X hno hE1 hZ σ x1 1 hf
set_option maxHeartbeats 4000000 in
theorem w_X8_line_b34 {Γ : gG} {ad : Nat → Nat} {z : gR gRd} (X : gCX Γ cX8_line 2 none RX8 rm_X8_line) (hno : gNo Γ) (hE1 : gEx1 (gEo Γ)) {aK aV : Nat → Nat} (hZ : gSt (gEo Γ) aK aV) : ∀ (σ : gRd) (x1 : Int32) (t0 : Int32), f_X8_line_b34 σ x1 t0 = some z → gW Γ (gMQX Γ (gXQ (gEo Γ) (wR (gEo Γ) ad) true z (gAo Γ))) (wR (gEo Γ) ad σ) 2 0 0 34 [(0, .ref (ad 0)), (1, .int x1)] [.int t0, .ref (ad 0)] := by
  intro σ x1 t0 hf
  unfold f_X8_line_b34 at hf
  refine g_iconst X 2 dX8_line_34 rfl ?_
  refine g_callXV (lift := id) X true 2 (As := [.int t0, .int 2]) (rest := []) (wfc := wR (gEo Γ) ad) (lw_V q271 q273 qs2 q68 q274) (by decide +kernel) (fun z_ h_ sz_ => m_X8_need (gl Γ) (gEo Γ) hE1 ad σ t0 2 z_ h_ sz_) (rq := 0) rfl rfl rfl ⟨by decide, by decide⟩ rfl (Nat.le_of_ble_eq_true rfl) ⟨by decide, by decide⟩ [0, 1, 2, 3, 4, 5, 6] [] [0, 1, 2, 3, 4, 5, 6] (fun u5 => wR (gEo Γ) ad u5) rfl rfl rfl rfl (by decide) rfl (fun _ => rfl) dX8_line_35 hf (fun r4 u5 hf => ?_) (fun _ _ _ _ _ hz h6 h7 => g_xleave X hno h6 h7 hz rfl)
  refine g_aload_n X 0 dX8_line_38 rfl ?_
  refine g_iload_n X 1 dX8_line_39 rfl ?_
  refine g_iconst X 4 dX8_line_40 rfl ?_
  refine g_icmp_ge X 55 dX8_line_41 rfl hf (fun hf => ?_) (fun hf => ?_)
  · exact w_X8_line_b55 X hno hE1 hZ u5 x1 hf
  · refine g_aload_n X 0 dX8_line_44 rfl ?_
    refine g_get X in_X8 0 1 rfl rfl (by decide) q360 rfl dX8_line_45 ?_
    refine g_getN X in_X5 1 0 rfl rfl (by decide) 11 rfl rfl dX8_line_48 ?_
    refine g_iconst X 5 dX8_line_51 rfl ?_
    refine g_icmp_ge X 59 dX8_line_52 rfl hf (fun hf => ?_) (fun hf => ?_)
    · refine g_iconst X 0 dX8_line_59 rfl ?_
      exact w_X8_line_b60 X hno hE1 hZ u5 x1 0 hf
    · exact w_X8_line_b55 X hno hE1 hZ u5 x1 hf
set_option maxHeartbeats 4000000 in
theorem w_X8_line_b22 {Γ : gG} {ad : Nat → Nat} {z : gR gRd} (X : gCX Γ cX8_line 2 none RX8 rm_X8_line) (hno : gNo Γ) (hE1 : gEx1 (gEo Γ)) {aK aV : Nat → Nat} (hZ : gSt (gEo Γ) aK aV) : ∀ (σ : gRd) (x1 : Int32), f_X8_line_b22 σ x1 = some z → gW Γ (gMQX Γ (gXQ (gEo Γ) (wR (gEo Γ) ad) true z (gAo Γ))) (wR (gEo Γ) ad σ) 2 0 0 22 [(0, .ref (ad 0)), (1, .int x1)] [] := by
  intro σ x1 hf
  unfold f_X8_line_b22 at hf
  refine g_aload_n X 0 dX8_line_22 rfl ?_
  refine g_iload_n X 1 dX8_line_23 rfl ?_
  refine g_bipush X 6 dX8_line_24 rfl ?_
  refine g_icmp_gt X 33 dX8_line_26 rfl hf (fun hf => ?_) (fun hf => ?_)
  · refine g_iconst X 0 dX8_line_33 rfl ?_
    exact w_X8_line_b34 X hno hE1 hZ σ x1 0 hf
  · refine g_iconst X 1 dX8_line_29 rfl ?_
    refine g_goto X 34 dX8_line_30 rfl ?_
    exact w_X8_line_b34 X hno hE1 hZ σ x1 1 hf
set_option maxHeartbeats 4000000 in
theorem w_X8_line_b2 {Γ : gG} {ad : Nat → Nat} {z : gR gRd} (X : gCX Γ cX8_line 2 none RX8 rm_X8_line) (hno : gNo Γ) (hE1 : gEx1 (gEo Γ)) {aK aV : Nat → Nat} (hZ : gSt (gEo Γ) aK aV) : ∀ (n_ : Nat) (σ : gRd) (x1 : Int32), f_X8_line_b2 n_ σ x1 = some z → gW Γ (gMQX Γ (gXQ (gEo Γ) (wR (gEo Γ) ad) true z (gAo Γ))) (wR (gEo Γ) ad σ) 2 0 0 2 [(0, .ref (ad 0)), (1, .int x1)] [] := by
  intro n_
  induction n_ with
  | zero => intro σ x1 hf; cases hf
  | succ n_ ih =>
    intro σ x1 hf
    simp only [f_X8_line_b2] at hf
    refine g_iload_n X 1 dX8_line_2 rfl ?_
    refine g_bipush X 6 dX8_line_3 rfl ?_
    refine g_icmp_gt X 22 dX8_line_5 rfl hf (fun hf => ?_) (fun hf => ?_)
    · exact w_X8_line_b22 X hno hE1 hZ σ x1 hf
    · refine g_aload_n X 0 dX8_line_8 rfl ?_
      refine g_iload_n X 1 dX8_line_9 rfl ?_
      refine g_callVi X 1 (As := [.int x1]) (wfc := wR (gEo Γ) ad) (lw_V q396 q398 qs6 q68 q399) (by decide +kernel) (fun r_ u_ h_ sz_ => m_X8_is (gl Γ) (gEo Γ) aK aV hZ ad σ x1 r_ u_ h_ sz_) (rq := 0) rfl rfl rfl rfl rfl ⟨by decide, by decide⟩ rfl (Nat.le_of_ble_eq_true rfl) ⟨Nat.zero_le _, Nat.zero_le _⟩ [0, 1, 2, 3, 4, 5, 6] [] [0, 1, 2, 3, 4, 5, 6] (fun u2 => wR (gEo Γ) ad u2) rfl rfl rfl rfl (by decide) rfl (fun _ => rfl) dX8_line_10 hf (fun r1 u2 _ hf => ?_)
      refine g_if_ne X 22 dX8_line_13 rfl hf (fun hf => ?_) (fun hf => ?_)
      · exact w_X8_line_b22 X hno hE1 hZ u2 x1 hf
      · refine g_iincV X 1 1 (fun v3 => [(1, .int v3), (0, .ref (ad 0))]) dX8_line_16 rfl rfl (by decide) (fun _ => rfl) hf (fun v3 hf => ?_)
        refine g_goto X 2 dX8_line_19 rfl ?_
        refine g_sub [1, 0] [(0, .ref (ad 0)), (1, .int v3)] rfl ?_
        exact ih u2 v3 hf
set_option maxHeartbeats 4000000 in
theorem m_X8_line (l : Launch) (E : gE) (hE1 : gEx1 E) (aK aV : Nat → Nat) (hZ : gSt E aK aV) (ad : Nat → Nat) (σ : gRd) (z : gR gRd) (hf : f_X8_line σ = some z) (sz : Nat) : MetX l yX8_line (ws_ yX8_line cX8_line 2 none) rm_X8_line (gPc [.ref (ad 0)] E (wR E ad σ) sz) (gXQ E (wR E ad) true z (va_A (wR E ad σ) sz)) (va_A (wR E ad σ) sz) := by
  refine gMetX (Qx := gXQ E (wR E ad) true z) (by decide) (Nat.le_of_ble_eq_true rfl) (fun Γ X hno hl hE => ?_)
  subst hl; subst hE
  unfold f_X8_line at hf
  show gW Γ (gMQX Γ (gXQ (gEo Γ) (wR (gEo Γ) ad) true z (gAo Γ))) (wR (gEo Γ) ad σ) 2 0 0 0 [(0, .ref (ad 0))] []
  refine g_iconst X 0 dX8_line_0 rfl ?_
  refine g_istore_n X [(1, .int 0), (0, .ref (ad 0))] dX8_line_1 (by decide) rfl ?_
  refine g_sub [1, 0] [(0, .ref (ad 0)), (1, .int 0)] rfl ?_
  exact w_X8_line_b2 X hno hE1 hZ 10 σ 0 hf
def f_X8_lines_b39 (σ : gRd) (x1 : Int32) (t0 : Int32) : Option (gR gRd) :=
  gcx (f_X8_need σ t0 6) id fun r4 u5 => some (.inl (x1, u5))
def f_X8_lines_b2 : Nat → gRd → Int32 → Option (gR gRd)
  | 0 => fun _ _ => none
  | n_ + 1 => fun σ x1 =>
    if (R_sort σ) = 0 then (if ((S_people (R_made σ))) ≤ (R_highest σ) then (f_X8_lines_b39 σ x1 0) else (f_X8_lines_b39 σ x1 1)) else (gcx (f_X8_line σ) id fun r1 u2 => gv (x1 + 1) fun v3 => (f_X8_lines_b2 n_) u2 v3)
def f_X8_lines (σ : gRd) : Option (gR gRd) :=
  f_X8_lines_b2 300 σ 0
abbrev rm_X8_lines : Room := { frames := 10, cells := 1, slots := 8, locals := 234 }
set_option maxHeartbeats 4000000 in
theorem w_X8_lines_b39 {Γ : gG} {ad : Nat → Nat} {z : gR gRd} (X : gCX Γ cX8_lines 2 (some .int) RX8 rm_X8_lines) (hno : gNo Γ) (hE1 : gEx1 (gEo Γ)) {aK aV : Nat → Nat} (hZ : gSt (gEo Γ) aK aV) : ∀ (σ : gRd) (x1 : Int32) (t0 : Int32), f_X8_lines_b39 σ x1 t0 = some z → gW Γ (gMQX Γ (gXQ (gEo Γ) (wR (gEo Γ) ad) false z (gAo Γ))) (wR (gEo Γ) ad σ) 2 0 0 39 [(1, .int x1)] [.int t0, .ref (ad 0)] := by
  intro σ x1 t0 hf
  unfold f_X8_lines_b39 at hf
  refine g_bipush X 6 dX8_lines_39 rfl ?_
  refine g_callXV (lift := id) X true 2 (As := [.int t0, .int 6]) (rest := []) (wfc := wR (gEo Γ) ad) (lw_V q271 q273 qs2 q68 q274) (by decide +kernel) (fun z_ h_ sz_ => m_X8_need (gl Γ) (gEo Γ) hE1 ad σ t0 6 z_ h_ sz_) (rq := 0) rfl rfl rfl ⟨by decide, by decide⟩ rfl (Nat.le_of_ble_eq_true rfl) ⟨by decide, by decide⟩ [0, 1, 2, 3, 4, 5, 6] [] [0, 1, 2, 3, 4, 5, 6] (fun u5 => wR (gEo Γ) ad u5) rfl rfl rfl rfl (by decide) rfl (fun _ => rfl) dX8_lines_41 hf (fun r4 u5 hf => ?_) (fun _ _ _ _ _ hz h6 h7 => g_xleave X hno h6 h7 hz rfl)
  refine g_iload_n X 0 dX8_lines_44 rfl ?_
  exact g_xiret X rfl dX8_lines_45 hf
set_option maxHeartbeats 4000000 in
theorem w_X8_lines_b2 {Γ : gG} {ad : Nat → Nat} {z : gR gRd} (X : gCX Γ cX8_lines 2 (some .int) RX8 rm_X8_lines) (hno : gNo Γ) (hE1 : gEx1 (gEo Γ)) {aK aV : Nat → Nat} (hZ : gSt (gEo Γ) aK aV) : ∀ (n_ : Nat) (σ : gRd) (x1 : Int32), f_X8_lines_b2 n_ σ x1 = some z → gW Γ (gMQX Γ (gXQ (gEo Γ) (wR (gEo Γ) ad) false z (gAo Γ))) (wR (gEo Γ) ad σ) 2 0 0 2 [(0, .ref (ad 0)), (1, .int x1)] [] := by
  intro n_
  induction n_ with
  | zero => intro σ x1 hf; cases hf
  | succ n_ ih =>
    intro σ x1 hf
    simp only [f_X8_lines_b2] at hf
    refine g_aload_n X 0 dX8_lines_2 rfl ?_
    refine g_get X in_X8 0 6 rfl rfl (by decide) q366 rfl dX8_lines_3 ?_
    refine g_if_eq X 19 dX8_lines_6 rfl hf (fun hf => ?_) (fun hf => ?_)
    · refine g_aload_n X 0 dX8_lines_19 rfl ?_
      refine g_aload_n X 0 dX8_lines_20 rfl ?_
      refine g_get X in_X8 0 3 rfl rfl (by decide) q363 rfl dX8_lines_21 ?_
      refine g_aload_n X 0 dX8_lines_24 rfl ?_
      refine g_get X in_X8 0 1 rfl rfl (by decide) q360 rfl dX8_lines_25 ?_
      refine g_getN X in_X5 1 0 rfl rfl (by decide) 11 rfl rfl dX8_lines_28 ?_
      refine g_icmp_ge X 38 dX8_lines_31 rfl hf (fun hf => ?_) (fun hf => ?_)
      · refine g_iconst X 0 dX8_lines_38 rfl ?_
        refine g_sub [1] [(1, .int x1)] rfl ?_
        exact w_X8_lines_b39 X hno hE1 hZ σ x1 0 hf
      · refine g_iconst X 1 dX8_lines_34 rfl ?_
        refine g_goto X 39 dX8_lines_35 rfl ?_
        refine g_sub [1] [(1, .int x1)] rfl ?_
        exact w_X8_lines_b39 X hno hE1 hZ σ x1 1 hf
    · refine g_aload_n X 0 dX8_lines_9 rfl ?_
      refine g_callXV (lift := id) X true 0 (As := []) (rest := []) (wfc := wR (gEo Γ) ad) (lw_V q392 q394 qs5 q68 q395) (by decide +kernel) (fun z_ h_ sz_ => m_X8_line (gl Γ) (gEo Γ) hE1 aK aV hZ ad σ z_ h_ sz_) (rq := 0) rfl rfl rfl ⟨by decide, by decide⟩ rfl (Nat.le_of_ble_eq_true rfl) ⟨by decide, by decide⟩ [0, 1, 2, 3, 4, 5, 6] [] [0, 1, 2, 3, 4, 5, 6] (fun u2 => wR (gEo Γ) ad u2) rfl rfl rfl rfl (by decide) rfl (fun _ => rfl) dX8_lines_10 hf (fun r1 u2 hf => ?_) (fun _ _ _ _ _ hz h6 h7 => g_xleave X hno h6 h7 hz rfl)
      refine g_iincV X 1 1 (fun v3 => [(1, .int v3), (0, .ref (ad 0))]) dX8_lines_13 rfl rfl (by decide) (fun _ => rfl) hf (fun v3 hf => ?_)
      refine g_goto X 2 dX8_lines_16 rfl ?_
      refine g_sub [1, 0] [(0, .ref (ad 0)), (1, .int v3)] rfl ?_
      exact ih u2 v3 hf
set_option maxHeartbeats 4000000 in
theorem m_X8_lines (l : Launch) (E : gE) (hE1 : gEx1 E) (aK aV : Nat → Nat) (hZ : gSt E aK aV) (ad : Nat → Nat) (σ : gRd) (z : gR gRd) (hf : f_X8_lines σ = some z) (sz : Nat) : MetX l yX8_lines (ws_ yX8_lines cX8_lines 2 (some .int)) rm_X8_lines (gPc [.ref (ad 0)] E (wR E ad σ) sz) (gXQ E (wR E ad) false z (va_A (wR E ad σ) sz)) (va_A (wR E ad σ) sz) := by
  refine gMetX (Qx := gXQ E (wR E ad) false z) (by decide) (Nat.le_of_ble_eq_true rfl) (fun Γ X hno hl hE => ?_)
  subst hl; subst hE
  unfold f_X8_lines at hf
  show gW Γ (gMQX Γ (gXQ (gEo Γ) (wR (gEo Γ) ad) false z (gAo Γ))) (wR (gEo Γ) ad σ) 2 0 0 0 [(0, .ref (ad 0))] []
  refine g_iconst X 0 dX8_lines_0 rfl ?_
  refine g_istore_n X [(1, .int 0), (0, .ref (ad 0))] dX8_lines_1 (by decide) rfl ?_
  refine g_sub [1, 0] [(0, .ref (ad 0)), (1, .int 0)] rfl ?_
  exact w_X8_lines_b2 X hno hE1 hZ 300 σ 0 hf
