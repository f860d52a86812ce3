set_option maxRecDepth 100000
abbrev gXI : Type := Int32 × Int32 × Int32 × Int32 × Int32 × Int32 × Int32 × Int64 × Int64 × Int64 × Int32
def I_kept (σ : gXI) : Int32 := σ.1
def I_kept_s (σ : gXI) (v : Int32) : gXI := (v, σ.2.1, σ.2.2.1, σ.2.2.2.1, σ.2.2.2.2.1, σ.2.2.2.2.2.1, σ.2.2.2.2.2.2.1, σ.2.2.2.2.2.2.2.1, σ.2.2.2.2.2.2.2.2.1, σ.2.2.2.2.2.2.2.2.2.1, σ.2.2.2.2.2.2.2.2.2.2)
def I_seenMany (σ : gXI) : Int32 := σ.2.1
def I_seenMany_s (σ : gXI) (v : Int32) : gXI := (σ.1, v, σ.2.2.1, σ.2.2.2.1, σ.2.2.2.2.1, σ.2.2.2.2.2.1, σ.2.2.2.2.2.2.1, σ.2.2.2.2.2.2.2.1, σ.2.2.2.2.2.2.2.2.1, σ.2.2.2.2.2.2.2.2.2.1, σ.2.2.2.2.2.2.2.2.2.2)
def I_weepers (σ : gXI) : Int32 := σ.2.2.1
def I_weepers_s (σ : gXI) (v : Int32) : gXI := (σ.1, σ.2.1, v, σ.2.2.2.1, σ.2.2.2.2.1, σ.2.2.2.2.2.1, σ.2.2.2.2.2.2.1, σ.2.2.2.2.2.2.2.1, σ.2.2.2.2.2.2.2.2.1, σ.2.2.2.2.2.2.2.2.2.1, σ.2.2.2.2.2.2.2.2.2.2)
def I_often (σ : gXI) : Int32 := σ.2.2.2.1
def I_often_s (σ : gXI) (v : Int32) : gXI := (σ.1, σ.2.1, σ.2.2.1, v, σ.2.2.2.2.1, σ.2.2.2.2.2.1, σ.2.2.2.2.2.2.1, σ.2.2.2.2.2.2.2.1, σ.2.2.2.2.2.2.2.2.1, σ.2.2.2.2.2.2.2.2.2.1, σ.2.2.2.2.2.2.2.2.2.2)
def I_firstOver (σ : gXI) : Int32 := σ.2.2.2.2.1
def I_firstOver_s (σ : gXI) (v : Int32) : gXI := (σ.1, σ.2.1, σ.2.2.1, σ.2.2.2.1, v, σ.2.2.2.2.2.1, σ.2.2.2.2.2.2.1, σ.2.2.2.2.2.2.2.1, σ.2.2.2.2.2.2.2.2.1, σ.2.2.2.2.2.2.2.2.2.1, σ.2.2.2.2.2.2.2.2.2.2)
def I_taped (σ : gXI) : Int32 := σ.2.2.2.2.2.1
def I_taped_s (σ : gXI) (v : Int32) : gXI := (σ.1, σ.2.1, σ.2.2.1, σ.2.2.2.1, σ.2.2.2.2.1, v, σ.2.2.2.2.2.2.1, σ.2.2.2.2.2.2.2.1, σ.2.2.2.2.2.2.2.2.1, σ.2.2.2.2.2.2.2.2.2.1, σ.2.2.2.2.2.2.2.2.2.2)
def I_fault (σ : gXI) : Int32 := σ.2.2.2.2.2.2.1
def I_fault_s (σ : gXI) (v : Int32) : gXI := (σ.1, σ.2.1, σ.2.2.1, σ.2.2.2.1, σ.2.2.2.2.1, σ.2.2.2.2.2.1, v, σ.2.2.2.2.2.2.2.1, σ.2.2.2.2.2.2.2.2.1, σ.2.2.2.2.2.2.2.2.2.1, σ.2.2.2.2.2.2.2.2.2.2)
def I_goneSum (σ : gXI) : Int64 := σ.2.2.2.2.2.2.2.1
def I_goneSum_s (σ : gXI) (v : Int64) : gXI := (σ.1, σ.2.1, σ.2.2.1, σ.2.2.2.1, σ.2.2.2.2.1, σ.2.2.2.2.2.1, σ.2.2.2.2.2.2.1, v, σ.2.2.2.2.2.2.2.2.1, σ.2.2.2.2.2.2.2.2.2.1, σ.2.2.2.2.2.2.2.2.2.2)
def I_manySum (σ : gXI) : Int64 := σ.2.2.2.2.2.2.2.2.1
def I_manySum_s (σ : gXI) (v : Int64) : gXI := (σ.1, σ.2.1, σ.2.2.1, σ.2.2.2.1, σ.2.2.2.2.1, σ.2.2.2.2.2.1, σ.2.2.2.2.2.2.1, σ.2.2.2.2.2.2.2.1, v, σ.2.2.2.2.2.2.2.2.2.1, σ.2.2.2.2.2.2.2.2.2.2)
def I_allWays (σ : gXI) : Int64 := σ.2.2.2.2.2.2.2.2.2.1
def I_allWays_s (σ : gXI) (v : Int64) : gXI := (σ.1, σ.2.1, σ.2.2.1, σ.2.2.2.1, σ.2.2.2.2.1, σ.2.2.2.2.2.1, σ.2.2.2.2.2.2.1, σ.2.2.2.2.2.2.2.1, σ.2.2.2.2.2.2.2.2.1, v, σ.2.2.2.2.2.2.2.2.2.2)
def I_torn (σ : gXI) : Int32 := σ.2.2.2.2.2.2.2.2.2.2
def I_torn_s (σ : gXI) (v : Int32) : gXI := (σ.1, σ.2.1, σ.2.2.1, σ.2.2.2.1, σ.2.2.2.2.1, σ.2.2.2.2.2.1, σ.2.2.2.2.2.2.1, σ.2.2.2.2.2.2.2.1, σ.2.2.2.2.2.2.2.2.1, σ.2.2.2.2.2.2.2.2.2.1, v)
abbrev gO : Type := gXI
def O_xi (σ : gO) : gXI := σ
def O_xi_s (σ : gO) (v : gXI) : gO := v
def wO (E : gE) (ad : Nat → Nat) (σ : gO) : va_W := [(ad 0, .inr (0, [.ref (ad 1), .ref (ad 2), .ref (ad 3), .ref (ad 4), .int (I_kept (O_xi σ)), .ref (ad 5), .int (I_seenMany (O_xi σ)), .int (I_weepers (O_xi σ)), .int (I_often (O_xi σ)), .int (I_firstOver (O_xi σ)), .ref (ad 6), .int (I_taped (O_xi σ)), .int (I_fault (O_xi σ)), .ref (ad 7), .long (I_goneSum (O_xi σ)), .long (I_manySum (O_xi σ)), .long (I_allWays (O_xi σ)), .ref (ad 8), .int (I_torn (O_xi σ))]))]
abbrev gA : Type := gXI × gS
def A_xi (σ : gA) : gXI := σ.1
def A_xi_s (σ : gA) (v : gXI) : gA := (v, σ.2)
def A_s (σ : gA) : gS := σ.2
def A_s_s (σ : gA) (v : gS) : gA := (σ.1, v)
def wA (E : gE) (ad : Nat → Nat) (σ : gA) : va_W := [(ad 0, .inr (0, [.ref (ad 1), .ref (ad 10), .ref (ad 11), .ref (ad 12), .int (I_kept (A_xi σ)), .ref (ad 13), .int (I_seenMany (A_xi σ)), .int (I_weepers (A_xi σ)), .int (I_often (A_xi σ)), .int (I_firstOver (A_xi σ)), .ref (ad 14), .int (I_taped (A_xi σ)), .int (I_fault (A_xi σ)), .ref (ad 15), .long (I_goneSum (A_xi σ)), .long (I_manySum (A_xi σ)), .long (I_allWays (A_xi σ)), .ref (ad 16), .int (I_torn (A_xi σ))])), (ad 1, .inl (E.2.2.1 4, 4, .inr (.inr (.inr (.inr (fun k => match k with | 0 => some (ad 2) | 1 => some (ad 3) | 2 => some (ad 4) | 3 => some (ad 5) | _ => none)))))), (ad 2, .inr (1, [])), (ad 3, .inr (2, [])), (ad 4, .inr (3, [])), (ad 5, .inr (4, [])), (ad 6, .inr (5, [.int (S_people (A_s σ)), .ref (ad 7), .ref (ad 8), .int (S_minute (A_s σ)), .int (S_room (A_s σ)), .int (S_think (A_s σ)), .int (S_planned (A_s σ)), .ref (ad 9)])), (ad 7, .inl (E.2.2.1 0, 15, .inl (S_one (A_s σ)))), (ad 8, .inl (E.2.2.1 1, 5, .inl (S_wept (A_s σ)))), (ad 9, .inl (E.2.2.1 0, 8, .inl (S_plan (A_s σ))))]
abbrev gX : Type := gXI × gS × gS × gS × gS × (Nat → Int32) × (Nat → Int32) × (Nat → Int32) × (Nat → Option Nat)
def X_xi (σ : gX) : gXI := σ.1
def X_xi_s (σ : gX) (v : gXI) : gX := (v, σ.2.1, σ.2.2.1, σ.2.2.2.1, σ.2.2.2.2.1, σ.2.2.2.2.2.1, σ.2.2.2.2.2.2.1, σ.2.2.2.2.2.2.2.1, σ.2.2.2.2.2.2.2.2)
def X_now (σ : gX) : gS := σ.2.1
def X_now_s (σ : gX) (v : gS) : gX := (σ.1, v, σ.2.2.1, σ.2.2.2.1, σ.2.2.2.2.1, σ.2.2.2.2.2.1, σ.2.2.2.2.2.2.1, σ.2.2.2.2.2.2.2.1, σ.2.2.2.2.2.2.2.2)
def X_tried (σ : gX) : gS := σ.2.2.1
def X_tried_s (σ : gX) (v : gS) : gX := (σ.1, σ.2.1, v, σ.2.2.2.1, σ.2.2.2.2.1, σ.2.2.2.2.2.1, σ.2.2.2.2.2.2.1, σ.2.2.2.2.2.2.2.1, σ.2.2.2.2.2.2.2.2)
def X_im0 (σ : gX) : gS := σ.2.2.2.1
def X_im0_s (σ : gX) (v : gS) : gX := (σ.1, σ.2.1, σ.2.2.1, v, σ.2.2.2.2.1, σ.2.2.2.2.2.1, σ.2.2.2.2.2.2.1, σ.2.2.2.2.2.2.2.1, σ.2.2.2.2.2.2.2.2)
def X_im1 (σ : gX) : gS := σ.2.2.2.2.1
def X_im1_s (σ : gX) (v : gS) : gX := (σ.1, σ.2.1, σ.2.2.1, σ.2.2.2.1, v, σ.2.2.2.2.2.1, σ.2.2.2.2.2.2.1, σ.2.2.2.2.2.2.2.1, σ.2.2.2.2.2.2.2.2)
def X_seen (σ : gX) : Nat → Int32 := σ.2.2.2.2.2.1
def X_seen_s (σ : gX) (v : Nat → Int32) : gX := (σ.1, σ.2.1, σ.2.2.1, σ.2.2.2.1, σ.2.2.2.2.1, v, σ.2.2.2.2.2.2.1, σ.2.2.2.2.2.2.2.1, σ.2.2.2.2.2.2.2.2)
def X_tape (σ : gX) : Nat → Int32 := σ.2.2.2.2.2.2.1
def X_tape_s (σ : gX) (v : Nat → Int32) : gX := (σ.1, σ.2.1, σ.2.2.1, σ.2.2.2.1, σ.2.2.2.2.1, σ.2.2.2.2.2.1, v, σ.2.2.2.2.2.2.2.1, σ.2.2.2.2.2.2.2.2)
def X_row (σ : gX) : Nat → Int32 := σ.2.2.2.2.2.2.2.1
def X_row_s (σ : gX) (v : Nat → Int32) : gX := (σ.1, σ.2.1, σ.2.2.1, σ.2.2.2.1, σ.2.2.2.2.1, σ.2.2.2.2.2.1, σ.2.2.2.2.2.2.1, v, σ.2.2.2.2.2.2.2.2)
def X_rw (σ : gX) : Nat → Option Nat := σ.2.2.2.2.2.2.2.2
def X_rw_s (σ : gX) (v : Nat → Option Nat) : gX := (σ.1, σ.2.1, σ.2.2.1, σ.2.2.2.1, σ.2.2.2.2.1, σ.2.2.2.2.2.1, σ.2.2.2.2.2.2.1, σ.2.2.2.2.2.2.2.1, v)
def wX (E : gE) (ad : Nat → Nat) (σ : gX) : va_W := [(ad 0, .inr (0, [.ref (ad 1), .ref (ad 6), .ref (ad 10), .ref (ad 14), .int (I_kept (X_xi σ)), .ref (ad 23), .int (I_seenMany (X_xi σ)), .int (I_weepers (X_xi σ)), .int (I_often (X_xi σ)), .int (I_firstOver (X_xi σ)), .ref (ad 24), .int (I_taped (X_xi σ)), .int (I_fault (X_xi σ)), .ref (ad 25), .long (I_goneSum (X_xi σ)), .long (I_manySum (X_xi σ)), .long (I_allWays (X_xi σ)), .ref (ad 26), .int (I_torn (X_xi σ))])), (ad 1, .inl (E.2.2.1 4, 4, .inr (.inr (.inr (.inr (fun k => match k with | 0 => some (ad 2) | 1 => some (ad 3) | 2 => some (ad 4) | 3 => some (ad 5) | _ => none)))))), (ad 2, .inr (1, [])), (ad 3, .inr (2, [])), (ad 4, .inr (3, [])), (ad 5, .inr (4, [])), (ad 6, .inr (5, [.int (S_people (X_now σ)), .ref (ad 7), .ref (ad 8), .int (S_minute (X_now σ)), .int (S_room (X_now σ)), .int (S_think (X_now σ)), .int (S_planned (X_now σ)), .ref (ad 9)])), (ad 7, .inl (E.2.2.1 0, 15, .inl (S_one (X_now σ)))), (ad 8, .inl (E.2.2.1 1, 5, .inl (S_wept (X_now σ)))), (ad 9, .inl (E.2.2.1 0, 8, .inl (S_plan (X_now σ)))), (ad 10, .inr (5, [.int (S_people (X_tried σ)), .ref (ad 11), .ref (ad 12), .int (S_minute (X_tried σ)), .int (S_room (X_tried σ)), .int (S_think (X_tried σ)), .int (S_planned (X_tried σ)), .ref (ad 13)])), (ad 11, .inl (E.2.2.1 0, 15, .inl (S_one (X_tried σ)))), (ad 12, .inl (E.2.2.1 1, 5, .inl (S_wept (X_tried σ)))), (ad 13, .inl (E.2.2.1 0, 8, .inl (S_plan (X_tried σ)))), (ad 14, .inl (E.2.2.1 5, 2, .inr (.inr (.inr (.inr (fun k => match k with | 0 => some (ad 15) | 1 => some (ad 19) | _ => none)))))), (ad 15, .inr (5, [.int (S_people (X_im0 σ)), .ref (ad 16), .ref (ad 17), .int (S_minute (X_im0 σ)), .int (S_room (X_im0 σ)), .int (S_think (X_im0 σ)), .int (S_planned (X_im0 σ)), .ref (ad 18)])), (ad 16, .inl (E.2.2.1 0, 15, .inl (S_one (X_im0 σ)))), (ad 17, .inl (E.2.2.1 1, 5, .inl (S_wept (X_im0 σ)))), (ad 18, .inl (E.2.2.1 0, 8, .inl (S_plan (X_im0 σ)))), (ad 19, .inr (5, [.int (S_people (X_im1 σ)), .ref (ad 20), .ref (ad 21), .int (S_minute (X_im1 σ)), .int (S_room (X_im1 σ)), .int (S_think (X_im1 σ)), .int (S_planned (X_im1 σ)), .ref (ad 22)])), (ad 20, .inl (E.2.2.1 0, 15, .inl (S_one (X_im1 σ)))), (ad 21, .inl (E.2.2.1 1, 5, .inl (S_wept (X_im1 σ)))), (ad 22, .inl (E.2.2.1 0, 8, .inl (S_plan (X_im1 σ)))), (ad 23, .inl (E.2.2.1 0, 12, .inl (X_seen σ))), (ad 24, .inl (E.2.2.1 0, 160, .inl (X_tape σ))), (ad 25, .inl (E.2.2.1 0, 4, .inl (X_row σ))), (ad 26, .inl (E.2.2.1 6, 4, .inr (.inr (.inr (.inr (fun k => match k with | 0 => some (ad 27) | 1 => some (ad 28) | 2 => some (ad 29) | 3 => some (ad 30) | _ => none)))))), (ad 27, .inr (6, [va_rf ((X_rw σ) 0)])), (ad 28, .inr (6, [va_rf ((X_rw σ) 1)])), (ad 29, .inr (6, [va_rf ((X_rw σ) 2)])), (ad 30, .inr (6, [va_rf ((X_rw σ) 3)]))]
def f_J7_bitCount (x0 : Int32) : Option (Int32 × Unit) :=
  gv (x0 - (((x0.toUInt32 >>> ((1 : Int32).toUInt32 &&& Int32.toUInt32 31)).toInt32) &&& 1431655765)) fun v1 => gv ((v1 &&& 858993459) + (((v1.toUInt32 >>> ((2 : Int32).toUInt32 &&& Int32.toUInt32 31)).toInt32) &&& 858993459)) fun v2 => gv ((v2 + ((v2.toUInt32 >>> ((4 : Int32).toUInt32 &&& Int32.toUInt32 31)).toInt32)) &&& 252645135) fun v3 => gv (v3 + ((v3.toUInt32 >>> ((8 : Int32).toUInt32 &&& Int32.toUInt32 31)).toInt32)) fun v4 => gv (v4 + ((v4.toUInt32 >>> ((16 : Int32).toUInt32 &&& Int32.toUInt32 31)).toInt32)) fun v5 => some (v5 &&& 63, ())
abbrev rm_J7_bitCount : Room := { frames := 1, cells := 0, slots := 0, locals := 12 }
set_option maxHeartbeats 4000000 in
theorem m_J7_bitCount (l : Launch) (E : gE) (x0 : Int32) (r : Int32) (u : Unit) (hf : f_J7_bitCount x0 = some (r, u)) (sz : Nat) : Met l yJ7_bitCount (ws_ yJ7_bitCount cJ7_bitCount 1 (some .int)) rm_J7_bitCount (gPc [.int x0] E [] sz) (gPi E (fun _ => []) r u (va_A [] sz)) 0 0 (va_A [] sz) := by
  refine gMet (Qc := gPi E (fun _ => []) r u) (by decide) (Nat.le_of_ble_eq_true rfl) (fun Γ X hl hE => ?_)
  subst hl; subst hE
  unfold f_J7_bitCount at hf
  show gW Γ (gMQ Γ (gPi (gEo Γ) (fun _ => []) r u (gAo Γ)) 0 0) [] 1 0 0 0 [(0, .int x0)] []
  refine g_iload_n X 0 dJ7_bitCount_0 rfl ?_
  refine g_iload_n X 0 dJ7_bitCount_1 rfl ?_
  refine g_iconst X 1 dJ7_bitCount_2 rfl ?_
  refine g_iushr X dJ7_bitCount_3 ?_
  refine g_ldcw X dJ7_bitCount_4 q668 ?_
  refine g_iand X dJ7_bitCount_7 ?_
  refine g_isub X dJ7_bitCount_8 ?_
  refine g_topi hf (fun v1 hf => ?_)
  refine g_istore_n X [(0, .int v1)] dJ7_bitCount_9 (by decide) rfl ?_
  refine g_iload_n X 0 dJ7_bitCount_10 rfl ?_
  refine g_ldcw X dJ7_bitCount_11 q669 ?_
  refine g_iand X dJ7_bitCount_14 ?_
  refine g_iload_n X 0 dJ7_bitCount_15 rfl ?_
  refine g_iconst X 2 dJ7_bitCount_16 rfl ?_
  refine g_iushr X dJ7_bitCount_17 ?_
  refine g_ldcw X dJ7_bitCount_18 q669 ?_
  refine g_iand X dJ7_bitCount_21 ?_
  refine g_iadd X dJ7_bitCount_22 ?_
  refine g_topi hf (fun v2 hf => ?_)
  refine g_istore_n X [(0, .int v2)] dJ7_bitCount_23 (by decide) rfl ?_
  refine g_iload_n X 0 dJ7_bitCount_24 rfl ?_
  refine g_iload_n X 0 dJ7_bitCount_25 rfl ?_
  refine g_iconst X 4 dJ7_bitCount_26 rfl ?_
  refine g_iushr X dJ7_bitCount_27 ?_
  refine g_iadd X dJ7_bitCount_28 ?_
  refine g_ldcw X dJ7_bitCount_29 q670 ?_
  refine g_iand X dJ7_bitCount_32 ?_
  refine g_topi hf (fun v3 hf => ?_)
  refine g_istore_n X [(0, .int v3)] dJ7_bitCount_33 (by decide) rfl ?_
  refine g_iload_n X 0 dJ7_bitCount_34 rfl ?_
  refine g_iload_n X 0 dJ7_bitCount_35 rfl ?_
  refine g_bipush X 8 dJ7_bitCount_36 rfl ?_
  refine g_iushr X dJ7_bitCount_38 ?_
  refine g_iadd X dJ7_bitCount_39 ?_
  refine g_topi hf (fun v4 hf => ?_)
  refine g_istore_n X [(0, .int v4)] dJ7_bitCount_40 (by decide) rfl ?_
  refine g_iload_n X 0 dJ7_bitCount_41 rfl ?_
  refine g_iload_n X 0 dJ7_bitCount_42 rfl ?_
  refine g_bipush X 16 dJ7_bitCount_43 rfl ?_
  refine g_iushr X dJ7_bitCount_45 ?_
  refine g_iadd X dJ7_bitCount_46 ?_
  refine g_topi hf (fun v5 hf => ?_)
  refine g_istore_n X [(0, .int v5)] dJ7_bitCount_47 (by decide) rfl ?_
  refine g_iload_n X 0 dJ7_bitCount_48 rfl ?_
  refine g_bipush X 63 dJ7_bitCount_49 rfl ?_
  refine g_iand X dJ7_bitCount_51 ?_
  exact g_iret X rfl dJ7_bitCount_52 hf
def f_X0_feed (σ : gX) (x1 : Int32) : Option (Int32 × gX) :=
  (f_X0_in (x1.toInt64) 0 127).bind fun (r1, _) => if r1 = 0 then (some ((-1), σ)) else (if ((I_taped (X_xi σ))) = 160 then (some ((-3), σ)) else (gst 160 (X_tape σ) ((I_taped (X_xi σ))) (vp_nar .byte (x1.toInt8.toInt32)) fun g3 => gs (X_tape_s σ g3) fun s4 => gv (((I_taped (X_xi s4))) + 1) fun v5 => gs (X_xi_s s4 (I_taped_s (X_xi s4) v5)) fun s6 => some ((I_taped (X_xi s6)), s6)))
abbrev rm_X0_feed : Room := { frames := 2, cells := 0, slots := 0, locals := 37 }
set_option maxHeartbeats 4000000 in
theorem m_X0_feed (l : Launch) (E : gE) (ad : Nat → Nat) (σ : gX) (x1 : Int32) (r : Int32) (u : gX) (hf : f_X0_feed σ x1 = some (r, u)) (sz : Nat) : Met l yX0_feed (ws_ yX0_feed cX0_feed 2 (some .int)) rm_X0_feed (gPc [.ref (ad 0), .int x1] E (wX E ad σ) sz) (gPi E (wX E ad) r u (va_A (wX E ad σ) sz)) 0 0 (va_A (wX E ad σ) sz) := by
  refine gMet (Qc := gPi E (wX E ad) r u) (by decide) (Nat.le_of_ble_eq_true rfl) (fun Γ X hl hE => ?_)
  subst hl; subst hE
  unfold f_X0_feed at hf
  show gW Γ (gMQ Γ (gPi (gEo Γ) (wX (gEo Γ) ad) r u (gAo Γ)) 0 0) (wX (gEo Γ) ad σ) 2 0 0 0 [(0, .ref (ad 0)), (1, .int x1)] []
  refine g_iload_n X 1 dX0_feed_0 rfl ?_
  refine g_i2l X dX0_feed_1 ?_
  refine g_lconst X 0 dX0_feed_2 rfl ?_
  refine g_ldc2 X dX0_feed_3 q242 ?_
  refine g_call0i X 3 (As := [.long (x1.toInt64), .long 0, .long 127]) (lw_S q243 q244 q60 q245) (by decide +kernel) (fun r_ u_ h_ sz_ => m_X0_in (gl Γ) (gEo Γ) (x1.toInt64) 0 127 r_ u_ h_ sz_) rfl rfl ⟨by decide, by decide⟩ rfl (Nat.le_of_ble_eq_true rfl) ⟨Nat.zero_le _, Nat.zero_le _⟩ dX0_feed_6 hf (fun r1 _ hf => ?_)
  refine g_if_ne X 14 dX0_feed_9 rfl hf (fun hf => ?_) (fun hf => ?_)
  · refine g_aload_n X 0 dX0_feed_14 rfl ?_
    refine g_get X in_X0 0 11 rfl rfl (by decide) q191 rfl dX0_feed_15 ?_
    refine g_sipush X 160 dX0_feed_18 rfl ?_
    refine g_icmp_ne X 27 dX0_feed_21 rfl hf (fun hf => ?_) (fun hf => ?_)
    · refine g_aload_n X 0 dX0_feed_27 rfl ?_
      refine g_get X in_X0 0 10 rfl rfl (by decide) q190 rfl dX0_feed_28 ?_
      refine g_aload_n X 0 dX0_feed_31 rfl ?_
      refine g_get X in_X0 0 11 rfl rfl (by decide) q191 rfl dX0_feed_32 ?_
      refine g_iload_n X 1 dX0_feed_35 rfl ?_
      refine g_i2b X dX0_feed_36 ?_
      refine g_bast X 24 (fun g3 => wX (gEo Γ) ad (X_tape_s σ g3)) rfl (fun _ => rfl) dX0_feed_37 hf (fun g3 hf => ?_)
      refine g_gs (wX (gEo Γ) ad) hf (fun s4 hf => ?_)
      refine g_aload_n X 0 dX0_feed_38 rfl ?_
      refine g_dup X dX0_feed_39 rfl ?_
      refine g_get X in_X0 0 11 rfl rfl (by decide) q191 rfl dX0_feed_40 ?_
      refine g_iconst X 1 dX0_feed_43 rfl ?_
      refine g_iadd X dX0_feed_44 ?_
      refine g_topi hf (fun v5 hf => ?_)
      refine g_put X in_X0 tyX0_ok nmX0 0 11 (wX (gEo Γ) ad (X_xi_s s4 (I_taped_s (X_xi s4) v5))) rfl rfl (by decide) q191 rfl rfl rfl rfl (Nat.le_of_ble_eq_true rfl) rfl dX0_feed_45 ?_
      refine g_gs (wX (gEo Γ) ad) hf (fun s6 hf => ?_)
      refine g_aload_n X 0 dX0_feed_48 rfl ?_
      refine g_get X in_X0 0 11 rfl rfl (by decide) q191 rfl dX0_feed_49 ?_
      exact g_iret X rfl dX0_feed_52 hf
    · refine g_bipush X (-3) dX0_feed_24 rfl ?_
      exact g_iret X rfl dX0_feed_26 hf
  · refine g_iconst X (-1) dX0_feed_12 rfl ?_
    exact g_iret X rfl dX0_feed_13 hf
def f_X0_end (σ : gX) (x1 : Int32) : Option (Int32 × gX) :=
  (f_X0_in (x1.toInt64) 0 (((I_taped (X_xi σ))).toInt64)).bind fun (r1, _) => if r1 = 0 then (some ((-1), σ)) else (gv ((I_taped (X_xi σ))) fun v3 => gs (X_xi_s σ (I_taped_s (X_xi σ) x1)) fun s4 => some (v3, s4))
abbrev rm_X0_end : Room := { frames := 2, cells := 0, slots := 0, locals := 37 }
set_option maxHeartbeats 4000000 in
theorem m_X0_end (l : Launch) (E : gE) (ad : Nat → Nat) (σ : gX) (x1 : Int32) (r : Int32) (u : gX) (hf : f_X0_end σ x1 = some (r, u)) (sz : Nat) : Met l yX0_end (ws_ yX0_end cX0_end 3 (some .int)) rm_X0_end (gPc [.ref (ad 0), .int x1] E (wX E ad σ) sz) (gPi E (wX E ad) r u (va_A (wX E ad σ) sz)) 0 0 (va_A (wX E ad σ) sz) := by
  refine gMet (Qc := gPi E (wX E ad) r u) (by decide) (Nat.le_of_ble_eq_true rfl) (fun Γ X hl hE => ?_)
  subst hl; subst hE
  unfold f_X0_end at hf
  show gW Γ (gMQ Γ (gPi (gEo Γ) (wX (gEo Γ) ad) r u (gAo Γ)) 0 0) (wX (gEo Γ) ad σ) 3 0 0 0 [(0, .ref (ad 0)), (1, .int x1)] []
  refine g_iload_n X 1 dX0_end_0 rfl ?_
  refine g_i2l X dX0_end_1 ?_
  refine g_lconst X 0 dX0_end_2 rfl ?_
  refine g_aload_n X 0 dX0_end_3 rfl ?_
  refine g_get X in_X0 0 11 rfl rfl (by decide) q191 rfl dX0_end_4 ?_
  refine g_i2l X dX0_end_7 ?_
  refine g_call0i X 3 (As := [.long (x1.toInt64), .long 0, .long (((I_taped (X_xi σ))).toInt64)]) (lw_S q243 q244 q60 q245) (by decide +kernel) (fun r_ u_ h_ sz_ => m_X0_in (gl Γ) (gEo Γ) (x1.toInt64) 0 (((I_taped (X_xi σ))).toInt64) r_ u_ h_ sz_) rfl rfl ⟨by decide, by decide⟩ rfl (Nat.le_of_ble_eq_true rfl) ⟨Nat.zero_le _, Nat.zero_le _⟩ dX0_end_8 hf (fun r1 _ hf => ?_)
  refine g_if_ne X 16 dX0_end_11 rfl hf (fun hf => ?_) (fun hf => ?_)
  · refine g_aload_n X 0 dX0_end_16 rfl ?_
    refine g_get X in_X0 0 11 rfl rfl (by decide) q191 rfl dX0_end_17 ?_
    refine g_topi hf (fun v3 hf => ?_)
    refine g_istore_n X [(2, .int v3), (0, .ref (ad 0)), (1, .int x1)] dX0_end_20 (by decide) rfl ?_
    refine g_aload_n X 1 dX0_end_21 rfl ?_
    refine g_iload_n X 2 dX0_end_22 rfl ?_
    refine g_put X in_X0 tyX0_ok nmX0 0 11 (wX (gEo Γ) ad (X_xi_s σ (I_taped_s (X_xi σ) x1))) rfl rfl (by decide) q191 rfl rfl rfl rfl (Nat.le_of_ble_eq_true rfl) rfl dX0_end_23 ?_
    refine g_gs (wX (gEo Γ) ad) hf (fun s4 hf => ?_)
    refine g_iload_n X 0 dX0_end_26 rfl ?_
    exact g_iret X rfl dX0_end_27 hf
  · refine g_iconst X (-1) dX0_end_14 rfl ?_
    exact g_iret X rfl dX0_end_15 hf
def f_X0_fault (σ : gX) : Option (Int32 × gX) :=
  some ((I_fault (X_xi σ)), σ)
abbrev rm_X0_fault : Room := { frames := 1, cells := 0, slots := 0, locals := 12 }
set_option maxHeartbeats 4000000 in
theorem m_X0_fault (l : Launch) (E : gE) (ad : Nat → Nat) (σ : gX) (r : Int32) (u : gX) (hf : f_X0_fault σ = some (r, u)) (sz : Nat) : Met l yX0_fault (ws_ yX0_fault cX0_fault 1 (some .int)) rm_X0_fault (gPc [.ref (ad 0)] E (wX E ad σ) sz) (gPi E (wX E ad) r u (va_A (wX E ad σ) sz)) 0 0 (va_A (wX E ad σ) sz) := by
  refine gMet (Qc := gPi E (wX E ad) r u) (by decide) (Nat.le_of_ble_eq_true rfl) (fun Γ X hl hE => ?_)
  subst hl; subst hE
  unfold f_X0_fault at hf
  show gW Γ (gMQ Γ (gPi (gEo Γ) (wX (gEo Γ) ad) r u (gAo Γ)) 0 0) (wX (gEo Γ) ad σ) 1 0 0 0 [(0, .ref (ad 0))] []
  refine g_aload_n X 0 dX0_fault_0 rfl ?_
  refine g_get X in_X0 0 12 rfl rfl (by decide) q192 rfl dX0_fault_1 ?_
  exact g_iret X rfl dX0_fault_4 hf
def f_X0_rule (σ : gX) (x1 : Int32) : Option (Int32 × gX) :=
  gsw 7 x1 (fun k => match k with | 0 => (some ((S_people (X_now σ)), σ)) | 1 => (some ((S_minute (X_now σ)), σ)) | 2 => (some ((S_room (X_now σ)), σ)) | 3 => (some ((S_think (X_now σ)), σ)) | 4 => (some ((S_planned (X_now σ)), σ)) | 5 => ((f_X5_waiting (X_now σ)).bind fun (r1, u2) => gs (X_now_s σ u2) fun s3 => some (r1, s3)) | 6 => ((f_X5_sorrow (X_now σ)).bind fun (r4, u5) => gs (X_now_s σ u5) fun s6 => some (r4, s6)) | _ => none) (some ((-1), σ))
abbrev rm_X0_rule : Room := { frames := 4, cells := 0, slots := 0, locals := 77 }
set_option maxHeartbeats 4000000 in
theorem m_X0_rule (l : Launch) (E : gE) (ad : Nat → Nat) (σ : gX) (x1 : Int32) (r : Int32) (u : gX) (hf : f_X0_rule σ x1 = some (r, u)) (sz : Nat) : Met l yX0_rule (ws_ yX0_rule cX0_rule 2 (some .int)) rm_X0_rule (gPc [.ref (ad 0), .int x1] E (wX E ad σ) sz) (gPi E (wX E ad) r u (va_A (wX E ad σ) sz)) 0 0 (va_A (wX E ad σ) sz) := by
  refine gMet (Qc := gPi E (wX E ad) r u) (by decide) (Nat.le_of_ble_eq_true rfl) (fun Γ X hl hE => ?_)
  subst hl; subst hE
  unfold f_X0_rule at hf
  show gW Γ (gMQ Γ (gPi (gEo Γ) (wX (gEo Γ) ad) r u (gAo Γ)) 0 0) (wX (gEo Γ) ad σ) 2 0 0 0 [(0, .ref (ad 0)), (1, .int x1)] []
  refine g_iload_n X 1 dX0_rule_0 rfl ?_
  refine g_tsw X 7 (fun k => match k with | 0 => 44 | 1 => 52 | 2 => 60 | 3 => 68 | 4 => 76 | 5 => 84 | 6 => 92 | _ => 0) 100 dX0_rule_1 rfl (fun k hk => ?_) rfl hf (fun k hk hf => ?_) (fun hf => ?_)
  · match k, hk with
    | 0, _ => exact ⟨_, rfl, rfl⟩
    | 1, _ => exact ⟨_, rfl, rfl⟩
    | 2, _ => exact ⟨_, rfl, rfl⟩
    | 3, _ => exact ⟨_, rfl, rfl⟩
    | 4, _ => exact ⟨_, rfl, rfl⟩
    | 5, _ => exact ⟨_, rfl, rfl⟩
    | 6, _ => exact ⟨_, rfl, rfl⟩
    | k + 7, hk => exact absurd hk (by omega)
  · match k, hk, hf with
    | 0, _, hf =>
      refine g_aload_n X 0 dX0_rule_44 rfl ?_
      refine g_get X in_X0 0 1 rfl rfl (by decide) q180 rfl dX0_rule_45 ?_
      refine g_getN X in_X5 6 0 rfl rfl (by decide) 0 rfl rfl dX0_rule_48 ?_
      exact g_iret X rfl dX0_rule_51 hf
    | 1, _, hf =>
      refine g_aload_n X 0 dX0_rule_52 rfl ?_
      refine g_get X in_X0 0 1 rfl rfl (by decide) q180 rfl dX0_rule_53 ?_
      refine g_getN X in_X5 6 3 rfl rfl (by decide) 2 rfl rfl dX0_rule_56 ?_
      exact g_iret X rfl dX0_rule_59 hf
    | 2, _, hf =>
      refine g_aload_n X 0 dX0_rule_60 rfl ?_
      refine g_get X in_X0 0 1 rfl rfl (by decide) q180 rfl dX0_rule_61 ?_
      refine g_getN X in_X5 6 4 rfl rfl (by decide) 3 rfl rfl dX0_rule_64 ?_
      exact g_iret X rfl dX0_rule_67 hf
    | 3, _, hf =>
      refine g_aload_n X 0 dX0_rule_68 rfl ?_
      refine g_get X in_X0 0 1 rfl rfl (by decide) q180 rfl dX0_rule_69 ?_
      refine g_getN X in_X5 6 5 rfl rfl (by decide) 4 rfl rfl dX0_rule_72 ?_
      exact g_iret X rfl dX0_rule_75 hf
    | 4, _, hf =>
      refine g_aload_n X 0 dX0_rule_76 rfl ?_
      refine g_get X in_X0 0 1 rfl rfl (by decide) q180 rfl dX0_rule_77 ?_
      refine g_getN X in_X5 6 6 rfl rfl (by decide) 5 rfl rfl dX0_rule_80 ?_
      exact g_iret X rfl dX0_rule_83 hf
    | 5, _, hf =>
      refine g_aload_n X 0 dX0_rule_84 rfl ?_
      refine g_get X in_X0 0 1 rfl rfl (by decide) q180 rfl dX0_rule_85 ?_
      refine g_callVi X 0 (As := []) (wfc := wS (gEo Γ) (fun i => ad (i + 6))) (lw_V q501 q502 q503 q65 q504) (by decide +kernel) (fun r_ u_ h_ sz_ => m_X5_waiting (gl Γ) (gEo Γ) (fun i => ad (i + 6)) (X_now σ) r_ u_ h_ sz_) (rq := 0) rfl rfl rfl rfl rfl ⟨by decide, by decide⟩ rfl (Nat.le_of_ble_eq_true rfl) ⟨Nat.zero_le _, Nat.zero_le _⟩ [6, 7, 8, 9] [0, 1, 2, 3, 4, 5, 10, 11, 12, 13, 14, 15, 16, 17, 18, 19, 20, 21, 22, 23, 24, 25, 26, 27, 28, 29, 30] [0, 1, 2, 3, 4, 5, 27, 28, 29, 30, 6, 7, 8, 9, 10, 11, 12, 13, 14, 15, 16, 17, 18, 19, 20, 21, 22, 23, 24, 25, 26] (fun u2 => wX (gEo Γ) ad (X_now_s σ u2)) rfl rfl rfl rfl (by decide) rfl (fun _ => rfl) dX0_rule_88 hf (fun r1 u2 _ hf => ?_)
      refine g_gs (wX (gEo Γ) ad) hf (fun s3 hf => ?_)
      exact g_iret X rfl dX0_rule_91 hf
    | 6, _, hf =>
      refine g_aload_n X 0 dX0_rule_92 rfl ?_
      refine g_get X in_X0 0 1 rfl rfl (by decide) q180 rfl dX0_rule_93 ?_
      refine g_callVi X 0 (As := []) (wfc := wS (gEo Γ) (fun i => ad (i + 6))) (lw_V q513 q514 q515 q65 q516) (by decide +kernel) (fun r_ u_ h_ sz_ => m_X5_sorrow (gl Γ) (gEo Γ) (fun i => ad (i + 6)) (X_now σ) r_ u_ h_ sz_) (rq := 0) rfl rfl rfl rfl rfl ⟨by decide, by decide⟩ rfl (Nat.le_of_ble_eq_true rfl) ⟨Nat.zero_le _, Nat.zero_le _⟩ [6, 7, 8, 9] [0, 1, 2, 3, 4, 5, 10, 11, 12, 13, 14, 15, 16, 17, 18, 19, 20, 21, 22, 23, 24, 25, 26, 27, 28, 29, 30] [0, 1, 2, 3, 4, 5, 27, 28, 29, 30, 6, 7, 8, 9, 10, 11, 12, 13, 14, 15, 16, 17, 18, 19, 20, 21, 22, 23, 24, 25, 26] (fun u5 => wX (gEo Γ) ad (X_now_s σ u5)) rfl rfl rfl rfl (by decide) rfl (fun _ => rfl) dX0_rule_96 hf (fun r4 u5 _ hf => ?_)
      refine g_gs (wX (gEo Γ) ad) hf (fun s6 hf => ?_)
      exact g_iret X rfl dX0_rule_99 hf
    | k + 7, hk, _ =>
      exact absurd hk (by omega)
  · refine g_iconst X (-1) dX0_rule_100 rfl ?_
    exact g_iret X rfl dX0_rule_101 hf
def f_X0_brim (σ : gA) (x2 : Int32) : Option (Int32 × gA) :=
  (f_X5_of (A_s σ) x2 0).bind fun (r1, u2) => gs (A_s_s σ u2) fun s3 => gix 4 r1 (fun k => match k with | 0 => (some (10, s3)) | 1 => (some (5, s3)) | 2 => (some (4, s3)) | 3 => (some (20, s3)) | _ => none)
abbrev rm_X0_brim : Room := { frames := 4, cells := 0, slots := 0, locals := 90 }
set_option maxHeartbeats 4000000 in
theorem m_X0_brim (l : Launch) (E : gE) (ad : Nat → Nat) (σ : gA) (x2 : Int32) (r : Int32) (u : gA) (hf : f_X0_brim σ x2 = some (r, u)) (sz : Nat) : Met l yX0_brim (ws_ yX0_brim cX0_brim 3 (some .int)) rm_X0_brim (gPc [.ref (ad 0), .ref (ad 6), .int x2] E (wA E ad σ) sz) (gPi E (wA E ad) r u (va_A (wA E ad σ) sz)) 0 0 (va_A (wA E ad σ) sz) := by
  refine gMet (Qc := gPi E (wA E ad) r u) (by decide) (Nat.le_of_ble_eq_true rfl) (fun Γ X hl hE => ?_)
  subst hl; subst hE
  unfold f_X0_brim at hf
  show gW Γ (gMQ Γ (gPi (gEo Γ) (wA (gEo Γ) ad) r u (gAo Γ)) 0 0) (wA (gEo Γ) ad σ) 3 0 0 0 [(0, .ref (ad 0)), (1, .ref (ad 6)), (2, .int x2)] []
  refine g_aload_n X 0 dX0_brim_0 rfl ?_
  refine g_get X in_X0 0 0 rfl rfl (by decide) q179 rfl dX0_brim_1 ?_
  refine g_aload_n X 1 dX0_brim_4 rfl ?_
  refine g_iload_n X 2 dX0_brim_5 rfl ?_
  refine g_iconst X 0 dX0_brim_6 rfl ?_
  refine g_callVi X 2 (As := [.int x2, .int 0]) (wfc := wS (gEo Γ) (fun i => ad (i + 6))) (lw_V q525 q510 q511 q65 q512) (by decide +kernel) (fun r_ u_ h_ sz_ => m_X5_of (gl Γ) (gEo Γ) (fun i => ad (i + 6)) (A_s σ) x2 0 r_ u_ h_ sz_) (rq := 0) rfl rfl rfl rfl rfl ⟨by decide, by decide⟩ rfl (Nat.le_of_ble_eq_true rfl) ⟨Nat.zero_le _, Nat.zero_le _⟩ [6, 7, 8, 9] [0, 1, 2, 3, 4, 5] [0, 1, 2, 3, 4, 5, 6, 7, 8, 9] (fun u2 => wA (gEo Γ) ad (A_s_s σ u2)) rfl rfl rfl rfl (by decide) rfl (fun _ => rfl) dX0_brim_7 hf (fun r1 u2 _ hf => ?_)
  refine g_gs (wA (gEo Γ) ad) hf (fun s3 hf => ?_)
  refine g_aaldq X 1 4 rfl rfl dX0_brim_10 hf (fun k hk hf => ?_)
  match k, hk, hf with
  | 0, _, hf =>
    refine g_callVi (α := Int32 × Unit) (z := (10, ())) (K := fun q => some q) (fc := some (10, ())) X 0 (As := []) (wfc := fun _ : Unit => [(ad 2, .inr (1, []))]) (lw_V q530 q531 q532 q61 q546) (by decide +kernel) (fun r_ u_ h_ sz_ => by cases h_; exact m_X1_brim (gl Γ) (gEo Γ) (ad 2) 1 sz_) (rq := 0) rfl rfl rfl rfl rfl ⟨by decide, by decide⟩ rfl (Nat.le_of_ble_eq_true rfl) ⟨Nat.zero_le _, Nat.zero_le _⟩ [2] [0, 1, 3, 4, 5, 6, 7, 8, 9] [0, 1, 9, 2, 3, 4, 5, 6, 7, 8] (fun _ => wA (gEo Γ) ad s3) rfl rfl rfl rfl (by decide) rfl (fun _ => rfl) dX0_brim_11 rfl (fun r_ u_ h_ _ => ?_)
    cases h_
    exact g_iret X rfl dX0_brim_14 hf
  | 1, _, hf =>
    refine g_callUi (C := RX2) (owner := RX1) (x := yX1_brim) (α := Int32 × Unit) (z := (5, ())) (K := fun q => some q) (fc := some (5, ())) X 0 (As := []) (wfc := fun _ : Unit => [(ad 3, .inr (2, []))]) (lw_app (lw_in _ [530, 533, 531, 545, 542, 62] (by decide +kernel) (by decide +kernel)) (lw_meth q543)) q546 (by decide +kernel) (fun r_ u_ h_ sz_ => by cases h_; exact m_X2_brim (gl Γ) (gEo Γ) (ad 3) 2 (C := RX2) (T := gT0) (N := 0) rfl sz_) (rq := 0) rfl rfl rfl rfl rfl ⟨by decide, by decide⟩ rfl (Nat.le_of_ble_eq_true rfl) ⟨Nat.zero_le _, Nat.zero_le _⟩ [3] [0, 1, 2, 4, 5, 6, 7, 8, 9] [0, 1, 2, 9, 3, 4, 5, 6, 7, 8] (fun _ => wA (gEo Γ) ad s3) rfl rfl rfl rfl (by decide) rfl (fun _ => rfl) dX0_brim_11 rfl (fun r_ u_ h_ _ => ?_)
    cases h_
    exact g_iret X rfl dX0_brim_14 hf
  | 2, _, hf =>
    refine g_callUi (C := RX3) (owner := RX1) (x := yX1_brim) (α := Int32 × Unit) (z := (4, ())) (K := fun q => some q) (fc := some (4, ())) X 0 (As := []) (wfc := fun _ : Unit => [(ad 4, .inr (3, []))]) (lw_app (lw_in _ [530, 533, 531, 538, 539, 63] (by decide +kernel) (by decide +kernel)) (lw_meth q540)) q546 (by decide +kernel) (fun r_ u_ h_ sz_ => by cases h_; exact m_X3_brim (gl Γ) (gEo Γ) (ad 4) 3 (C := RX3) (T := gT0) (N := 0) rfl sz_) (rq := 0) rfl rfl rfl rfl rfl ⟨by decide, by decide⟩ rfl (Nat.le_of_ble_eq_true rfl) ⟨Nat.zero_le _, Nat.zero_le _⟩ [4] [0, 1, 2, 3, 5, 6, 7, 8, 9] [0, 1, 2, 3, 9, 4, 5, 6, 7, 8] (fun _ => wA (gEo Γ) ad s3) rfl rfl rfl rfl (by decide) rfl (fun _ => rfl) dX0_brim_11 rfl (fun r_ u_ h_ _ => ?_)
    cases h_
    exact g_iret X rfl dX0_brim_14 hf
  | 3, _, hf =>
    refine g_callUi (C := RX4) (owner := RX1) (x := yX1_brim) (α := Int32 × Unit) (z := (20, ())) (K := fun q => some q) (fc := some (20, ())) X 0 (As := []) (wfc := fun _ : Unit => [(ad 5, .inr (4, []))]) (lw_app (lw_in _ [530, 533, 531, 534, 535, 64] (by decide +kernel) (by decide +kernel)) (lw_meth q536)) q546 (by decide +kernel) (fun r_ u_ h_ sz_ => by cases h_; exact m_X4_brim (gl Γ) (gEo Γ) (ad 5) 4 (C := RX4) (T := gT0) (N := 0) rfl sz_) (rq := 0) rfl rfl rfl rfl rfl ⟨by decide, by decide⟩ rfl (Nat.le_of_ble_eq_true rfl) ⟨Nat.zero_le _, Nat.zero_le _⟩ [5] [0, 1, 2, 3, 4, 6, 7, 8, 9] [0, 1, 2, 3, 4, 9, 5, 6, 7, 8] (fun _ => wA (gEo Γ) ad s3) rfl rfl rfl rfl (by decide) rfl (fun _ => rfl) dX0_brim_11 rfl (fun r_ u_ h_ _ => ?_)
    cases h_
    exact g_iret X rfl dX0_brim_14 hf
  | k + 4, hk, _ =>
    exact absurd hk (by omega)
def f_X0_isOne (σ : gX) (x1 : Int32) : Option (Int32 × gX) :=
  (f_X0_in (x1.toInt64) 0 ((((S_people (X_now σ))) - 1).toInt64)).bind fun (r1, _) => gzr r1 σ
abbrev rm_X0_isOne : Room := { frames := 2, cells := 0, slots := 0, locals := 37 }
set_option maxHeartbeats 4000000 in
theorem m_X0_isOne (l : Launch) (E : gE) (ad : Nat → Nat) (σ : gX) (x1 : Int32) (r : Int32) (u : gX) (hf : f_X0_isOne σ x1 = some (r, u)) (sz : Nat) : Met l yX0_isOne (ws_ yX0_isOne cX0_isOne 2 (some .boolean)) rm_X0_isOne (gPc [.ref (ad 0), .int x1] E (wX E ad σ) sz) (gPi E (wX E ad) r u (va_A (wX E ad σ) sz)) 0 0 (va_A (wX E ad σ) sz) := by
  refine gMet (Qc := gPi E (wX E ad) r u) (by decide) (Nat.le_of_ble_eq_true rfl) (fun Γ X hl hE => ?_)
  subst hl; subst hE
  unfold f_X0_isOne at hf
  show gW Γ (gMQ Γ (gPi (gEo Γ) (wX (gEo Γ) ad) r u (gAo Γ)) 0 0) (wX (gEo Γ) ad σ) 2 0 0 0 [(0, .ref (ad 0)), (1, .int x1)] []
  refine g_iload_n X 1 dX0_isOne_0 rfl ?_
  refine g_i2l X dX0_isOne_1 ?_
  refine g_lconst X 0 dX0_isOne_2 rfl ?_
  refine g_aload_n X 0 dX0_isOne_3 rfl ?_
  refine g_get X in_X0 0 1 rfl rfl (by decide) q180 rfl dX0_isOne_4 ?_
  refine g_getN X in_X5 6 0 rfl rfl (by decide) 0 rfl rfl dX0_isOne_7 ?_
  refine g_iconst X 1 dX0_isOne_10 rfl ?_
  refine g_isub X dX0_isOne_11 ?_
  refine g_i2l X dX0_isOne_12 ?_
  refine g_call0i X 3 (As := [.long (x1.toInt64), .long 0, .long ((((S_people (X_now σ))) - 1).toInt64)]) (lw_S q243 q244 q60 q245) (by decide +kernel) (fun r_ u_ h_ sz_ => m_X0_in (gl Γ) (gEo Γ) (x1.toInt64) 0 ((((S_people (X_now σ))) - 1).toInt64) r_ u_ h_ sz_) rfl rfl ⟨by decide, by decide⟩ rfl (Nat.le_of_ble_eq_true rfl) ⟨Nat.zero_le _, Nat.zero_le _⟩ dX0_isOne_13 hf (fun r1 _ hf => ?_)
  exact g_zret X rfl dX0_isOne_16 hf
def f_X0_one_b44 (σ : gX) (x1 : Int32) (x2 : Int32) : Option (Int32 × gX) :=
  (f_X5_of (X_now σ) x1 x2).bind fun (r10, u11) => gs (X_now_s σ u11) fun s12 => some (r10, s12)
def f_X0_one (σ : gX) (x1 : Int32) (x2 : Int32) : Option (Int32 × gX) :=
  (f_X0_isOne σ x1).bind fun (r1, u2) => if r1 = 0 then (some ((-1), u2)) else (gsw 5 x2 (fun k => match k with | 0 => (f_X0_one_b44 u2 x1 x2) | 1 => (f_X0_one_b44 u2 x1 x2) | 2 => (gld 5 (S_wept (X_now u2)) x1 fun v3 => some (v3, u2)) | 3 => ((f_X0_brim ((X_xi u2), (X_now u2)) x1).bind fun (r4, u5) => gs (X_now_s (X_xi_s u2 u5.1) u5.2) fun s6 => some (r4, s6)) | 4 => ((f_X5_of (X_now u2) x1 2).bind fun (r7, u8) => gs (X_now_s u2 u8) fun s9 => some (r7, s9)) | _ => none) (some ((-1), u2)))
abbrev rm_X0_one : Room := { frames := 5, cells := 0, slots := 0, locals := 112 }
set_option maxHeartbeats 4000000 in
theorem w_X0_one_b44 {Γ : gG} {ad : Nat → Nat} {r : Int32} {u : gX} (X : gCX Γ cX0_one 3 (some .int) RX0 rm_X0_one) : ∀ (σ : gX) (x1 : Int32) (x2 : Int32), f_X0_one_b44 σ x1 x2 = some (r, u) → gW Γ (gMQ Γ (gPi (gEo Γ) (wX (gEo Γ) ad) r u (gAo Γ)) 0 0) (wX (gEo Γ) ad σ) 3 0 0 44 [(0, .ref (ad 0)), (1, .int x1), (2, .int x2)] [] := by
  intro σ x1 x2 hf
  unfold f_X0_one_b44 at hf
  refine g_aload_n X 0 dX0_one_44 rfl ?_
  refine g_get X in_X0 0 1 rfl rfl (by decide) q180 rfl dX0_one_45 ?_
  refine g_iload_n X 1 dX0_one_48 rfl ?_
  refine g_iload_n X 2 dX0_one_49 rfl ?_
  refine g_callVi X 2 (As := [.int x1, .int x2]) (wfc := wS (gEo Γ) (fun i => ad (i + 6))) (lw_V q525 q510 q511 q65 q512) (by decide +kernel) (fun r_ u_ h_ sz_ => m_X5_of (gl Γ) (gEo Γ) (fun i => ad (i + 6)) (X_now σ) x1 x2 r_ u_ h_ sz_) (rq := 0) rfl rfl rfl rfl rfl ⟨by decide, by decide⟩ rfl (Nat.le_of_ble_eq_true rfl) ⟨Nat.zero_le _, Nat.zero_le _⟩ [6, 7, 8, 9] [0, 1, 2, 3, 4, 5, 10, 11, 12, 13, 14, 15, 16, 17, 18, 19, 20, 21, 22, 23, 24, 25, 26, 27, 28, 29, 30] [0, 1, 2, 3, 4, 5, 27, 28, 29, 30, 6, 7, 8, 9, 10, 11, 12, 13, 14, 15, 16, 17, 18, 19, 20, 21, 22, 23, 24, 25, 26] (fun u11 => wX (gEo Γ) ad (X_now_s σ u11)) rfl rfl rfl rfl (by decide) rfl (fun _ => rfl) dX0_one_50 hf (fun r10 u11 _ hf => ?_)
  refine g_gs (wX (gEo Γ) ad) hf (fun s12 hf => ?_)
  exact g_iret X rfl dX0_one_53 hf
set_option maxHeartbeats 4000000 in
theorem m_X0_one (l : Launch) (E : gE) (ad : Nat → Nat) (σ : gX) (x1 : Int32) (x2 : Int32) (r : Int32) (u : gX) (hf : f_X0_one σ x1 x2 = some (r, u)) (sz : Nat) : Met l yX0_one (ws_ yX0_one cX0_one 3 (some .int)) rm_X0_one (gPc [.ref (ad 0), .int x1, .int x2] E (wX E ad σ) sz) (gPi E (wX E ad) r u (va_A (wX E ad σ) sz)) 0 0 (va_A (wX E ad σ) sz) := by
  refine gMet (Qc := gPi E (wX E ad) r u) (by decide) (Nat.le_of_ble_eq_true rfl) (fun Γ X hl hE => ?_)
  subst hl; subst hE
  unfold f_X0_one at hf
  show gW Γ (gMQ Γ (gPi (gEo Γ) (wX (gEo Γ) ad) r u (gAo Γ)) 0 0) (wX (gEo Γ) ad σ) 3 0 0 0 [(0, .ref (ad 0)), (1, .int x1), (2, .int x2)] []
  refine g_aload_n X 0 dX0_one_0 rfl ?_
  refine g_iload_n X 1 dX0_one_1 rfl ?_
  refine g_callVi X 1 (As := [.int x1]) (wfc := wX (gEo Γ) ad) (lw_V q521 q523 qs12 q60 q524) (by decide +kernel) (fun r_ u_ h_ sz_ => m_X0_isOne (gl Γ) (gEo Γ) ad σ x1 r_ u_ h_ sz_) (rq := 0) rfl rfl rfl rfl rfl ⟨by decide, by decide⟩ rfl (Nat.le_of_ble_eq_true rfl) ⟨Nat.zero_le _, Nat.zero_le _⟩ [0, 1, 2, 3, 4, 5, 6, 7, 8, 9, 10, 11, 12, 13, 14, 15, 16, 17, 18, 19, 20, 21, 22, 23, 24, 25, 26, 27, 28, 29, 30] [] [0, 1, 2, 3, 4, 5, 6, 7, 8, 9, 10, 11, 12, 13, 14, 15, 16, 17, 18, 19, 20, 21, 22, 23, 24, 25, 26, 27, 28, 29, 30] (fun u2 => wX (gEo Γ) ad u2) rfl rfl rfl rfl (by decide) rfl (fun _ => rfl) dX0_one_2 hf (fun r1 u2 _ hf => ?_)
  refine g_if_ne X 10 dX0_one_5 rfl hf (fun hf => ?_) (fun hf => ?_)
  · refine g_iload_n X 2 dX0_one_10 rfl ?_
    refine g_tsw X 5 (fun k => match k with | 0 => 44 | 1 => 44 | 2 => 54 | 3 => 64 | 4 => 74 | _ => 0) 84 dX0_one_11 rfl (fun k hk => ?_) rfl hf (fun k hk hf => ?_) (fun hf => ?_)
    · match k, hk with
      | 0, _ => exact ⟨_, rfl, rfl⟩
      | 1, _ => exact ⟨_, rfl, rfl⟩
      | 2, _ => exact ⟨_, rfl, rfl⟩
      | 3, _ => exact ⟨_, rfl, rfl⟩
      | 4, _ => exact ⟨_, rfl, rfl⟩
      | k + 5, hk => exact absurd hk (by omega)
    · match k, hk, hf with
      | 0, _, hf =>
        exact w_X0_one_b44 X u2 x1 x2 hf
      | 1, _, hf =>
        exact w_X0_one_b44 X u2 x1 x2 hf
      | 2, _, hf =>
        refine g_aload_n X 0 dX0_one_54 rfl ?_
        refine g_get X in_X0 0 1 rfl rfl (by decide) q180 rfl dX0_one_55 ?_
        refine g_getN X in_X5 6 2 rfl rfl (by decide) 1 rfl rfl dX0_one_58 ?_
        refine g_iload_n X 1 dX0_one_61 rfl ?_
        refine g_sald X 8 rfl dX0_one_62 hf (fun v3 hf => ?_)
        exact g_iret X rfl dX0_one_63 hf
      | 3, _, hf =>
        refine g_aload_n X 0 dX0_one_64 rfl ?_
        refine g_aload_n X 0 dX0_one_65 rfl ?_
        refine g_get X in_X0 0 1 rfl rfl (by decide) q180 rfl dX0_one_66 ?_
        refine g_iload_n X 1 dX0_one_69 rfl ?_
        refine g_callVi X 2 (As := [.ref (ad 6), .int x1]) (wfc := wA (gEo Γ) (fun i => ad ([0, 1, 2, 3, 4, 5, 6, 7, 8, 9, 6, 10, 14, 23, 24, 25, 26].getD i 0))) (lw_V q526 q528 qs13 q60 q529) (by decide +kernel) (fun r_ u_ h_ sz_ => m_X0_brim (gl Γ) (gEo Γ) (fun i => ad ([0, 1, 2, 3, 4, 5, 6, 7, 8, 9, 6, 10, 14, 23, 24, 25, 26].getD i 0)) ((X_xi u2), (X_now u2)) x1 r_ u_ h_ sz_) (rq := 0) rfl rfl rfl rfl rfl ⟨by decide, by decide⟩ rfl (Nat.le_of_ble_eq_true rfl) ⟨Nat.zero_le _, Nat.zero_le _⟩ [0, 1, 2, 3, 4, 5, 6, 7, 8, 9] [10, 11, 12, 13, 14, 15, 16, 17, 18, 19, 20, 21, 22, 23, 24, 25, 26, 27, 28, 29, 30] [21, 22, 23, 24, 25, 26, 27, 28, 29, 30, 0, 1, 2, 3, 4, 5, 6, 7, 8, 9, 10, 11, 12, 13, 14, 15, 16, 17, 18, 19, 20] (fun u5 => wX (gEo Γ) ad (X_now_s (X_xi_s u2 u5.1) u5.2)) rfl rfl rfl rfl (by decide) rfl (fun _ => rfl) dX0_one_70 hf (fun r4 u5 _ hf => ?_)
        refine g_gs (wX (gEo Γ) ad) hf (fun s6 hf => ?_)
        exact g_iret X rfl dX0_one_73 hf
      | 4, _, hf =>
        refine g_aload_n X 0 dX0_one_74 rfl ?_
        refine g_get X in_X0 0 1 rfl rfl (by decide) q180 rfl dX0_one_75 ?_
        refine g_iload_n X 1 dX0_one_78 rfl ?_
        refine g_iconst X 2 dX0_one_79 rfl ?_
        refine g_callVi X 2 (As := [.int x1, .int 2]) (wfc := wS (gEo Γ) (fun i => ad (i + 6))) (lw_V q525 q510 q511 q65 q512) (by decide +kernel) (fun r_ u_ h_ sz_ => m_X5_of (gl Γ) (gEo Γ) (fun i => ad (i + 6)) (X_now u2) x1 2 r_ u_ h_ sz_) (rq := 0) rfl rfl rfl rfl rfl ⟨by decide, by decide⟩ rfl (Nat.le_of_ble_eq_true rfl) ⟨Nat.zero_le _, Nat.zero_le _⟩ [6, 7, 8, 9] [0, 1, 2, 3, 4, 5, 10, 11, 12, 13, 14, 15, 16, 17, 18, 19, 20, 21, 22, 23, 24, 25, 26, 27, 28, 29, 30] [0, 1, 2, 3, 4, 5, 27, 28, 29, 30, 6, 7, 8, 9, 10, 11, 12, 13, 14, 15, 16, 17, 18, 19, 20, 21, 22, 23, 24, 25, 26] (fun u8 => wX (gEo Γ) ad (X_now_s u2 u8)) rfl rfl rfl rfl (by decide) rfl (fun _ => rfl) dX0_one_80 hf (fun r7 u8 _ hf => ?_)
        refine g_gs (wX (gEo Γ) ad) hf (fun s9 hf => ?_)
        exact g_iret X rfl dX0_one_83 hf
      | k + 5, hk, _ =>
        exact absurd hk (by omega)
    · refine g_iconst X (-1) dX0_one_84 rfl ?_
      exact g_iret X rfl dX0_one_85 hf
  · refine g_iconst X (-1) dX0_one_8 rfl ?_
    exact g_iret X rfl dX0_one_9 hf
def f_X0_act (σ : gX) (x1 : Int32) : Option (Int32 × gX) :=
  (f_X0_in (x1.toInt64) 0 ((((S_planned (X_now σ))) - 1).toInt64)).bind fun (r1, _) => if r1 = 0 then (some ((-1), σ)) else (gld 8 (S_plan (X_now σ)) x1 fun v3 => some (v3, σ))
abbrev rm_X0_act : Room := { frames := 2, cells := 0, slots := 0, locals := 37 }
set_option maxHeartbeats 4000000 in
theorem m_X0_act (l : Launch) (E : gE) (ad : Nat → Nat) (σ : gX) (x1 : Int32) (r : Int32) (u : gX) (hf : f_X0_act σ x1 = some (r, u)) (sz : Nat) : Met l yX0_act (ws_ yX0_act cX0_act 2 (some .int)) rm_X0_act (gPc [.ref (ad 0), .int x1] E (wX E ad σ) sz) (gPi E (wX E ad) r u (va_A (wX E ad σ) sz)) 0 0 (va_A (wX E ad σ) sz) := by
  refine gMet (Qc := gPi E (wX E ad) r u) (by decide) (Nat.le_of_ble_eq_true rfl) (fun Γ X hl hE => ?_)
  subst hl; subst hE
  unfold f_X0_act at hf
  show gW Γ (gMQ Γ (gPi (gEo Γ) (wX (gEo Γ) ad) r u (gAo Γ)) 0 0) (wX (gEo Γ) ad σ) 2 0 0 0 [(0, .ref (ad 0)), (1, .int x1)] []
  refine g_iload_n X 1 dX0_act_0 rfl ?_
  refine g_i2l X dX0_act_1 ?_
  refine g_lconst X 0 dX0_act_2 rfl ?_
  refine g_aload_n X 0 dX0_act_3 rfl ?_
  refine g_get X in_X0 0 1 rfl rfl (by decide) q180 rfl dX0_act_4 ?_
  refine g_getN X in_X5 6 6 rfl rfl (by decide) 5 rfl rfl dX0_act_7 ?_
  refine g_iconst X 1 dX0_act_10 rfl ?_
  refine g_isub X dX0_act_11 ?_
  refine g_i2l X dX0_act_12 ?_
  refine g_call0i X 3 (As := [.long (x1.toInt64), .long 0, .long ((((S_planned (X_now σ))) - 1).toInt64)]) (lw_S q243 q244 q60 q245) (by decide +kernel) (fun r_ u_ h_ sz_ => m_X0_in (gl Γ) (gEo Γ) (x1.toInt64) 0 ((((S_planned (X_now σ))) - 1).toInt64) r_ u_ h_ sz_) rfl rfl ⟨by decide, by decide⟩ rfl (Nat.le_of_ble_eq_true rfl) ⟨Nat.zero_le _, Nat.zero_le _⟩ dX0_act_13 hf (fun r1 _ hf => ?_)
  refine g_if_eq X 31 dX0_act_16 rfl hf (fun hf => ?_) (fun hf => ?_)
  · refine g_iconst X (-1) dX0_act_31 rfl ?_
    exact g_iret X rfl dX0_act_32 hf
  · refine g_aload_n X 0 dX0_act_19 rfl ?_
    refine g_get X in_X0 0 1 rfl rfl (by decide) q180 rfl dX0_act_20 ?_
    refine g_getN X in_X5 6 7 rfl rfl (by decide) 6 rfl rfl dX0_act_23 ?_
    refine g_iload_n X 1 dX0_act_26 rfl ?_
    refine g_bald X 9 rfl dX0_act_27 hf (fun v3 hf => ?_)
    refine g_goto X 32 dX0_act_28 rfl ?_
    exact g_iret X rfl dX0_act_32 hf
def f_X0_queue (σ : gX) (x1 : Int32) : Option (Int32 × gX) :=
  (f_X0_in (x1.toInt64) 0 4).bind fun (r1, _) => if r1 = 0 then (some ((-1), σ)) else ((f_X5_waiting (X_now σ)).bind fun (r3, u4) => gs (X_now_s σ u4) fun s5 => (f_X5_firstOnes (X_now s5) x1).bind fun (r6, u7) => gs (X_now_s s5 u7) fun s8 => (f_X5_firstOf (X_now s8) (r3 &&& (r6 ^^^ (-1)))).bind fun (r9, u10) => gs (X_now_s s8 u10) fun s11 => some (r9, s11))
abbrev rm_X0_queue : Room := { frames := 6, cells := 0, slots := 0, locals := 123 }
set_option maxHeartbeats 4000000 in
theorem m_X0_queue (l : Launch) (E : gE) (ad : Nat → Nat) (σ : gX) (x1 : Int32) (r : Int32) (u : gX) (hf : f_X0_queue σ x1 = some (r, u)) (sz : Nat) : Met l yX0_queue (ws_ yX0_queue cX0_queue 2 (some .int)) rm_X0_queue (gPc [.ref (ad 0), .int x1] E (wX E ad σ) sz) (gPi E (wX E ad) r u (va_A (wX E ad σ) sz)) 0 0 (va_A (wX E ad σ) sz) := by
  refine gMet (Qc := gPi E (wX E ad) r u) (by decide) (Nat.le_of_ble_eq_true rfl) (fun Γ X hl hE => ?_)
  subst hl; subst hE
  unfold f_X0_queue at hf
  show gW Γ (gMQ Γ (gPi (gEo Γ) (wX (gEo Γ) ad) r u (gAo Γ)) 0 0) (wX (gEo Γ) ad σ) 2 0 0 0 [(0, .ref (ad 0)), (1, .int x1)] []
  refine g_iload_n X 1 dX0_queue_0 rfl ?_
  refine g_i2l X dX0_queue_1 ?_
  refine g_lconst X 0 dX0_queue_2 rfl ?_
  refine g_ldc2 X dX0_queue_3 q555 ?_
  refine g_call0i X 3 (As := [.long (x1.toInt64), .long 0, .long 4]) (lw_S q243 q244 q60 q245) (by decide +kernel) (fun r_ u_ h_ sz_ => m_X0_in (gl Γ) (gEo Γ) (x1.toInt64) 0 4 r_ u_ h_ sz_) rfl rfl ⟨by decide, by decide⟩ rfl (Nat.le_of_ble_eq_true rfl) ⟨Nat.zero_le _, Nat.zero_le _⟩ dX0_queue_6 hf (fun r1 _ hf => ?_)
  refine g_if_eq X 40 dX0_queue_9 rfl hf (fun hf => ?_) (fun hf => ?_)
  · refine g_iconst X (-1) dX0_queue_40 rfl ?_
    exact g_iret X rfl dX0_queue_41 hf
  · refine g_aload_n X 0 dX0_queue_12 rfl ?_
    refine g_get X in_X0 0 1 rfl rfl (by decide) q180 rfl dX0_queue_13 ?_
    refine g_aload_n X 0 dX0_queue_16 rfl ?_
    refine g_get X in_X0 0 1 rfl rfl (by decide) q180 rfl dX0_queue_17 ?_
    refine g_callVi X 0 (As := []) (wfc := wS (gEo Γ) (fun i => ad (i + 6))) (lw_V q501 q502 q503 q65 q504) (by decide +kernel) (fun r_ u_ h_ sz_ => m_X5_waiting (gl Γ) (gEo Γ) (fun i => ad (i + 6)) (X_now σ) r_ u_ h_ sz_) (rq := 0) rfl rfl rfl rfl rfl ⟨by decide, by decide⟩ rfl (Nat.le_of_ble_eq_true rfl) ⟨Nat.zero_le _, Nat.zero_le _⟩ [6, 7, 8, 9] [0, 1, 2, 3, 4, 5, 10, 11, 12, 13, 14, 15, 16, 17, 18, 19, 20, 21, 22, 23, 24, 25, 26, 27, 28, 29, 30] [0, 1, 2, 3, 4, 5, 27, 28, 29, 30, 6, 7, 8, 9, 10, 11, 12, 13, 14, 15, 16, 17, 18, 19, 20, 21, 22, 23, 24, 25, 26] (fun u4 => wX (gEo Γ) ad (X_now_s σ u4)) rfl rfl rfl rfl (by decide) rfl (fun _ => rfl) dX0_queue_20 hf (fun r3 u4 _ hf => ?_)
    refine g_gs (wX (gEo Γ) ad) hf (fun s5 hf => ?_)
    refine g_aload_n X 0 dX0_queue_23 rfl ?_
    refine g_get X in_X0 0 1 rfl rfl (by decide) q180 rfl dX0_queue_24 ?_
    refine g_iload_n X 1 dX0_queue_27 rfl ?_
    refine g_callVi X 1 (As := [.int x1]) (wfc := wS (gEo Γ) (fun i => ad (i + 6))) (lw_V q556 q557 q558 q65 q559) (by decide +kernel) (fun r_ u_ h_ sz_ => m_X5_firstOnes (gl Γ) (gEo Γ) (fun i => ad (i + 6)) (X_now s5) x1 r_ u_ h_ sz_) (rq := 0) rfl rfl rfl rfl rfl ⟨by decide, by decide⟩ rfl (Nat.le_of_ble_eq_true rfl) ⟨Nat.zero_le _, Nat.zero_le _⟩ [6, 7, 8, 9] [0, 1, 2, 3, 4, 5, 10, 11, 12, 13, 14, 15, 16, 17, 18, 19, 20, 21, 22, 23, 24, 25, 26, 27, 28, 29, 30] [0, 1, 2, 3, 4, 5, 27, 28, 29, 30, 6, 7, 8, 9, 10, 11, 12, 13, 14, 15, 16, 17, 18, 19, 20, 21, 22, 23, 24, 25, 26] (fun u7 => wX (gEo Γ) ad (X_now_s s5 u7)) rfl rfl rfl rfl (by decide) rfl (fun _ => rfl) dX0_queue_28 hf (fun r6 u7 _ hf => ?_)
    refine g_gs (wX (gEo Γ) ad) hf (fun s8 hf => ?_)
    refine g_iconst X (-1) dX0_queue_31 rfl ?_
    refine g_ixor X dX0_queue_32 ?_
    refine g_iand X dX0_queue_33 ?_
    refine g_callVi X 1 (As := [.int (r3 &&& (r6 ^^^ (-1)))]) (wfc := wS (gEo Γ) (fun i => ad (i + 6))) (lw_V q574 q562 q563 q65 q564) (by decide +kernel) (fun r_ u_ h_ sz_ => m_X5_firstOf (gl Γ) (gEo Γ) (fun i => ad (i + 6)) (X_now s8) (r3 &&& (r6 ^^^ (-1))) r_ u_ h_ sz_) (rq := 0) rfl rfl rfl rfl rfl ⟨by decide, by decide⟩ rfl (Nat.le_of_ble_eq_true rfl) ⟨Nat.zero_le _, Nat.zero_le _⟩ [6, 7, 8, 9] [0, 1, 2, 3, 4, 5, 10, 11, 12, 13, 14, 15, 16, 17, 18, 19, 20, 21, 22, 23, 24, 25, 26, 27, 28, 29, 30] [0, 1, 2, 3, 4, 5, 27, 28, 29, 30, 6, 7, 8, 9, 10, 11, 12, 13, 14, 15, 16, 17, 18, 19, 20, 21, 22, 23, 24, 25, 26] (fun u10 => wX (gEo Γ) ad (X_now_s s8 u10)) rfl rfl rfl rfl (by decide) rfl (fun _ => rfl) dX0_queue_34 hf (fun r9 u10 _ hf => ?_)
    refine g_gs (wX (gEo Γ) ad) hf (fun s11 hf => ?_)
    refine g_goto X 41 dX0_queue_37 rfl ?_
    exact g_iret X rfl dX0_queue_41 hf
