set_option maxRecDepth 100000
def gsIx (k : Int32) : Nat := if 0 ≤ k.toInt ∧ k.toInt < 6 then k.toInt.toNat else 6
theorem gsIx_lt (k : Int32) : gsIx k < 7 := by
  unfold gsIx
  split
  · omega
  · decide
def gPr (a0 : Nat) (A : Nat → Prop) := va_Qr (fun _ : Unit => True) (fun _ a _ => a = a0) A
theorem g_aretr {Γ : gG} {w : va_W} {nL cells slots pc : Nat} {lv : List (Nat × Value)} {cc : ByteArray} {own C : String} {rm : Room} {a : Nat} (X : gCX Γ cc nL (some (.object C)) own rm) (hd : decode cc pc = .ok (.areturn, 1)) : gW Γ (gMQ Γ (gPr a (gAo Γ)) cells slots) w nL cells slots pc lv [.ref a] := by
  obtain ⟨p, l, e, R, s, m, args, below, meth, c, E, A⟩ := Γ
  obtain ⟨hx, hb, hr, hlk, hml, hown, hts, hK, hA, hA0, hO, hR⟩ := X
  intro H locs ls hP hD hS hl
  exact W.aret hx hb hr (Or.inl ⟨C, rfl⟩) (Or.inr ⟨a, rfl⟩) (fun t ht hW => ⟨⟨(), a, rfl, trivial, rfl⟩, hS.F ht⟩) hS.2.2 hd
abbrev rm_X8_name : Room := { frames := 1, cells := 0, slots := 0, locals := 12 }
set_option maxHeartbeats 4000000 in
theorem m_X8_name (l : Launch) (E : gE) (aK aV : Nat → Nat) (hZ : gSt E aK aV) (a : Nat) (k : Int32) (sz : Nat) : Met l yX8_name (ws_ yX8_name cX8_name 2 (some (.object "java/lang/String"))) rm_X8_name (gPc [.ref a, .int k] E [] sz) (gPr (aK (gsIx k)) (va_A [] sz)) 0 0 (va_A [] sz) := by
  refine gMet (Qc := gPr (aK (gsIx k))) (by decide) (Nat.le_of_ble_eq_true rfl) (fun Γ X hl hE => ?_)
  subst hl; subst hE
  show gW Γ _ _ 2 0 0 0 [(0, .ref a), (1, .int k)] []
  refine g_iload_n X 1 dX8_name_0 rfl ?_
  refine g_tsw (α := Nat) (z := gsIx k) (F := fun j => some j) (D := some 6) X 6 (fun k => match k with | 0 => 40 | 1 => 43 | 2 => 46 | 3 => 49 | 4 => 52 | 5 => 55 | _ => 0) 58 dX8_name_1 rfl (fun k hk => ?_) rfl ?_ (fun j hj hf => ?_) (fun hf => ?_)
  · match k, hk with
    | 0, _ => exact ⟨_, rfl, rfl⟩
    | 1, _ => exact ⟨_, rfl, rfl⟩
    | 2, _ => exact ⟨_, rfl, rfl⟩
    | 3, _ => exact ⟨_, rfl, rfl⟩
    | 4, _ => exact ⟨_, rfl, rfl⟩
    | 5, _ => exact ⟨_, rfl, rfl⟩
    | k + 6, hk => exact absurd hk (by omega)
  · show (if 0 ≤ k.toInt ∧ k.toInt < 6 then some k.toInt.toNat else some 6) = some (gsIx k)
    unfold gsIx
    split <;> rfl
  · have hf := (Option.some.inj hf).symm
    rw [hf]
    match j, hj with
    | 0, _ =>
      refine g_ldcS (i := 0) X hZ (by decide) rfl dX8_name_40 ?_
      exact g_aretr X dX8_name_42
    | 1, _ =>
      refine g_ldcS (i := 1) X hZ (by decide) rfl dX8_name_43 ?_
      exact g_aretr X dX8_name_45
    | 2, _ =>
      refine g_ldcS (i := 2) X hZ (by decide) rfl dX8_name_46 ?_
      exact g_aretr X dX8_name_48
    | 3, _ =>
      refine g_ldcS (i := 3) X hZ (by decide) rfl dX8_name_49 ?_
      exact g_aretr X dX8_name_51
    | 4, _ =>
      refine g_ldcS (i := 4) X hZ (by decide) rfl dX8_name_52 ?_
      exact g_aretr X dX8_name_54
    | 5, _ =>
      refine g_ldcS (i := 5) X hZ (by decide) rfl dX8_name_55 ?_
      exact g_aretr X dX8_name_57
    | j + 6, hj => exact absurd hj (by omega)
  · have hf := (Option.some.inj hf).symm
    rw [hf]
    refine g_ldcS (i := 6) X hZ (by decide) rfl dX8_name_58 ?_
    exact g_aretr X dX8_name_60
theorem g_callName {Γ : gG} {Q : State → Prop} {w : va_W} {nL cells slots pc : Nat} {lv : List (Nat × Value)} {st : List Value} {cc : ByteArray} {ret : Option FieldType} {rm : Room} {aK aV : Nat → Nat} (X : gCX Γ cc nL ret RX8 rm) (hZ : gSt (gEo Γ) aK aV) {b : Nat} {k : Int32} (rq : Nat) {vfs : List Value} (hrv : w[rq]? = some (b, .inr (8, vfs))) (hRm : 2 ≤ rm.frames ∧ 33 ≤ rm.locals) (hst : (st.map fun v => v.category).sum ≤ 8) (hcs : cells + 0 ≤ rm.cells ∧ slots + 0 ≤ rm.slots) (hd : decode cc pc = .ok (.invokevirtual 61, 3)) (kk : gW Γ Q w nL cells slots (pc + 3) lv (.ref (aK (gsIx k)) :: st)) : gW Γ Q w nL cells slots pc lv (.int k :: .ref b :: st) := by
  obtain ⟨p, l, e, R, s, m, args, below, meth, c, E, A⟩ := Γ
  obtain ⟨hx, hb, hr, hlk, hml, hown, hts, hK, hA, hA0, hO, hR⟩ := X
  intro H locs ls hP hD hS hl
  subst hR
  have hOc : gOld E H := g_old hS hA0 hO
  have hF : ∀ q, va_A [] H.size q → A q := fun q h => by
    rcases h with ⟨k, e, h⟩ | h
    · cases h
    · exact hA q (Nat.le_trans hS.1 h)
  refine va_callr (va_runV (As := [.int k]) (rest := st) ⟨hx, hb, hml, hown, hts⟩ (m_X8_name l E aK aV hZ b k H.size) (cwV 1 hts (lw_V q400 q402 qs7 q68 q403) rfl rfl rfl (by decide +kernel) ⟨hRm.1, hRm.2⟩) ⟨gPc.blind, va_recv hK.1 hP (ci := 8) rfl hrv, fun U hU hW => ⟨rfl, by rw [hU], (fun k q hk => (by cases hk)), hK.warm hW, ⟨fun i j p q h => (by cases h), fun k q hk => (by cases hk)⟩, by rw [hU]; exact hOc⟩⟩ rfl rfl hl.1 rfl (lv_room hst) hd hcs) hS (fun q _ h => hF q h) hF (fun u2 ra t H1 locs1 ht hvm hw1 hB hz1 hk1 hS1 => ?_)
  have hB : ra = aK (gsIx k) := hB
  subst hB
  refine kk H1 locs1 ls (hP.kept (fun k q hk => hk1 q.1 (hP k q hk).lt (fun h => ?_))) hD hS1 hl
  rcases h with ⟨k', e', h⟩ | h
  · cases h
  · exact absurd (hP k q hk).lt (Nat.not_lt.mpr h)
/-- a letter of a name -/
def gch (i : Nat) (j : Int32) {α : Type} (K : Int32 → Option α) : Option α := if j < 0 ∨ gsLen.getD i 0 ≤ j.toNatClampNeg then none else K ((gsByt.getD i []).getD j.toNatClampNeg 0)
theorem g_charAt {Γ : gG} {Q : State → Prop} {w : va_W} {nL cells slots pc : Nat} {lv : List (Nat × Value)} {st : List Value} {cc : ByteArray} {ret : Option FieldType} {rm : Room} {aK aV : Nat → Nat} {i : Nat} {α : Type} {z : α} (X : gCX Γ cc nL ret RX8 rm) (hZ : gSt (gEo Γ) aK aV) (hi : i < 7) {j : Int32} {F : Int32 → Option α} (hRm : 5 ≤ rm.frames ∧ 131 ≤ rm.locals) (hst : (st.map fun v => v.category).sum ≤ 8) (hcs : cells + 0 ≤ rm.cells ∧ slots + 0 ≤ rm.slots) (hd : decode cc pc = .ok (.invokevirtual 74, 3)) (hf : gch i j F = some z) (kk : ∀ v, F v = some z → gW Γ Q w nL cells slots (pc + 3) lv (.int v :: st)) : gW Γ Q w nL cells slots pc lv (.int j :: .ref (aK i) :: st) := by
  obtain ⟨hc, hf⟩ := g_ob hf
  exact g_callV0i X hZ hi 1 (As := [.int j]) (lw_V q421 q422 q423 q72 q424) (by decide +kernel) (fun sz_ => m_J2_charAt (gl Γ) (gEo Γ) aK aV hZ i hi j hc sz_) rfl rfl ⟨hRm.1, hRm.2⟩ rfl hst hcs hd (kk _ hf)
theorem g_strlen {Γ : gG} {Q : State → Prop} {w : va_W} {nL cells slots pc : Nat} {lv : List (Nat × Value)} {st : List Value} {cc : ByteArray} {ret : Option FieldType} {rm : Room} {aK aV : Nat → Nat} {i : Nat} (X : gCX Γ cc nL ret RX8 rm) (hZ : gSt (gEo Γ) aK aV) (hi : i < 7) (hRm : 3 ≤ rm.frames ∧ 60 ≤ rm.locals) (hst : (st.map fun v => v.category).sum ≤ 8) (hcs : cells + 0 ≤ rm.cells ∧ slots + 0 ≤ rm.slots) (hd : decode cc pc = .ok (.invokevirtual 68, 3)) (kk : gW Γ Q w nL cells slots (pc + 3) lv (.int (Int32.ofNat (gsLen.getD i 0)) :: st)) : gW Γ Q w nL cells slots pc lv (.ref (aK i) :: st) :=
  g_callV0i X hZ hi 0 (As := []) (lw_V q411 q412 q413 q72 q414) (by decide +kernel) (fun sz_ => m_J2_length (gl Γ) (gEo Γ) aK aV hZ i hi sz_) rfl rfl ⟨hRm.1, hRm.2⟩ rfl hst hcs hd kk
