set_option maxRecDepth 100000
/-! THE SEVEN NAMES: constants of Reader, old cells -/
def gsLen : List Nat := [5, 4, 4, 3, 4, 5, 4]
def gsByt : List (List Int32) := [[112, 108, 97, 105, 110], [115, 111, 102, 116], [115, 104, 97, 109], [100, 114, 121], [114, 111, 111, 109], [116, 104, 105, 110, 107], [112, 108, 97, 110]]
def gsTx (i : Nat) : String := match i with
  | 0 => "plain"
  | 1 => "soft"
  | 2 => "sham"
  | 3 => "dry"
  | 4 => "room"
  | 5 => "think"
  | _ => "plan"
def gSt (E : gE) (aK aV : Nat → Nat) : Prop := ∀ U : State, E.2.2.2.2 U → vk_S 7 gsLen gsByt aK aV (fun q => E.2.2.2.1.size ≤ q) U E.2.2.2.1 ∧ (∀ i, i < 7 → vk_R "TearsQueue$Reader" (47 + 2 * i) (gsTx i) (aK i) U) ∧ va_Z "java/lang/String" "COMPACT_STRINGS" "Z" (.int 1) (fun q => E.2.2.2.1.size ≤ q) U E.2.2.2.1 ∧ va_Zq "jdk/internal/util/Preconditions" "SIOOBE_FORMATTER" "Ljava/util/function/BiFunction;" (fun q => E.2.2.2.1.size ≤ q) U E.2.2.2.1
section GS
variable {Γ : gG} {Q : State → Prop} {w : va_W} {nL cells slots pc : Nat} {lv : List (Nat × Value)} {st : List Value} {cc : ByteArray} {ret : Option FieldType} {own : String} {rm : Room} {aK aV : Nat → Nat} {i : Nat}
theorem g_getOV (X : gCX Γ cc nL ret own rm) (hZ : gSt (gEo Γ) aK aV) (hi : i < 7) {idx : Nat} (hlink : Cond.fieldLink own idx "java/lang/String" "value" "[B" ∈ lw_all) (hd : decode cc pc = .ok (.getfield idx, 3)) (kk : gW Γ Q w nL cells slots (pc + 3) lv (.ref (aV i) :: st)) : gW Γ Q w nL cells slots pc lv (.ref (aK i) :: st) := by
  obtain ⟨p, l, e, R, s, m, args, below, meth, c, E, A⟩ := Γ
  obtain ⟨hx, hb, hr, hlk, hml, hown, hts, hK, hA, hA0, hO, hR⟩ := X
  intro H locs ls hP hD hS hl
  have h1 := ((hZ s hK.2.2.1).1.kept (H1 := s.heap) (fun a _ ha => hO.2 a (Nat.lt_of_not_le ha))).narrow (B := A) hA0
  exact vk_getf hx hb (h1.1 i hi).2.2.1 hS hown (hts _ hlink) (fun _ h => h) hd (kk H locs ls hP hD hS hl)
theorem g_getOC (X : gCX Γ cc nL ret own rm) (hZ : gSt (gEo Γ) aK aV) (hi : i < 7) {idx : Nat} (hlink : Cond.fieldLink own idx "java/lang/String" "coder" "B" ∈ lw_all) (hd : decode cc pc = .ok (.getfield idx, 3)) (kk : gW Γ Q w nL cells slots (pc + 3) lv (.int 0 :: st)) : gW Γ Q w nL cells slots pc lv (.ref (aK i) :: st) := by
  obtain ⟨p, l, e, R, s, m, args, below, meth, c, E, A⟩ := Γ
  obtain ⟨hx, hb, hr, hlk, hml, hown, hts, hK, hA, hA0, hO, hR⟩ := X
  intro H locs ls hP hD hS hl
  have h1 := ((hZ s hK.2.2.1).1.kept (H1 := s.heap) (fun a _ ha => hO.2 a (Nat.lt_of_not_le ha))).narrow (B := A) hA0
  exact vk_getf hx hb (h1.1 i hi).2.1 hS hown (hts _ hlink) (fun _ h => h) hd (kk H locs ls hP hD hS hl)
theorem g_lenO (X : gCX Γ cc nL ret own rm) (hZ : gSt (gEo Γ) aK aV) (hi : i < 7) (hd : decode cc pc = .ok (.arraylength, 1)) (kk : gW Γ Q w nL cells slots (pc + 1) lv (.int (Int32.ofNat (gsLen.getD i 0)) :: st)) : gW Γ Q w nL cells slots pc lv (.ref (aV i) :: st) := by
  obtain ⟨p, l, e, R, s, m, args, below, meth, c, E, A⟩ := Γ
  obtain ⟨hx, hb, hr, hlk, hml, hown, hts, hK, hA, hA0, hO, hR⟩ := X
  intro H locs ls hP hD hS hl
  have h1 := ((hZ s hK.2.2.1).1.kept (H1 := s.heap) (fun a _ ha => hO.2 a (Nat.lt_of_not_le ha))).narrow (B := A) hA0
  exact va_tlen hx hb (h1.1 i hi).2.2.2 hS rfl hd (kk H locs ls hP hD hS hl)
theorem g_baldO (X : gCX Γ cc nL ret own rm) (hZ : gSt (gEo Γ) aK aV) (hi : i < 7) {j : Int32} (hj : vp_in j (gsLen.getD i 0)) (hd : decode cc pc = .ok (.baload, 1)) (kk : gW Γ Q w nL cells slots (pc + 1) lv (.int ((gsByt.getD i []).getD j.toNatClampNeg 0) :: st)) : gW Γ Q w nL cells slots pc lv (.int j :: .ref (aV i) :: st) := by
  obtain ⟨p, l, e, R, s, m, args, below, meth, c, E, A⟩ := Γ
  obtain ⟨hx, hb, hr, hlk, hml, hown, hts, hK, hA, hA0, hO, hR⟩ := X
  intro H locs ls hP hD hS hl
  have h1 := ((hZ s hK.2.2.1).1.kept (H1 := s.heap) (fun a _ ha => hO.2 a (Nat.lt_of_not_le ha))).narrow (B := A) hA0
  exact va_tb hx hb (h1.1 i hi).2.2.2 hS hj rfl hd (kk H locs ls hP hD hS hl)
theorem g_compact (X : gCX Γ cc nL ret own rm) (hZ : gSt (gEo Γ) aK aV) {idx : Nat} (hlink : Cond.fieldLink own idx "java/lang/String" "COMPACT_STRINGS" "Z" ∈ lw_all) (hd : decode cc pc = .ok (.getstatic idx, 3)) (kk : gW Γ Q w nL cells slots (pc + 3) lv (.int 1 :: st)) : gW Γ Q w nL cells slots pc lv st := by
  obtain ⟨p, l, e, R, s, m, args, below, meth, c, E, A⟩ := Γ
  obtain ⟨hx, hb, hr, hlk, hml, hown, hts, hK, hA, hA0, hO, hR⟩ := X
  intro H locs ls hP hD hS hl
  have h1 := ((hZ s hK.2.2.1).2.2.1.kept (H1 := s.heap) (fun a _ ha => hO.2 a (Nat.lt_of_not_le ha))).narrow (B := A) hA0
  exact va_gets hx hb h1 hS hown (hts _ hlink) (fun _ h => h) hd (kk H locs ls hP hD hS hl)
theorem g_ldcS (X : gCX Γ cc nL ret "TearsQueue$Reader" rm) (hZ : gSt (gEo Γ) aK aV) (hi : i < 7) {idx : Nat} (hidx : 47 + 2 * i = idx) (hd : decode cc pc = .ok (.ldc idx, 2)) (kk : gW Γ Q w nL cells slots (pc + 2) lv (.ref (aK i) :: st)) : gW Γ Q w nL cells slots pc lv st := by
  obtain ⟨p, l, e, R, s, m, args, below, meth, c, E, A⟩ := Γ
  obtain ⟨hx, hb, hr, hlk, hml, hown, hts, hK, hA, hA0, hO, hR⟩ := X
  intro H locs ls hP hD hS hl
  subst hidx
  exact va_ldcS hx hb hown ((hZ s hK.2.2.1).2.1 i hi) hd (kk H locs ls hP hD hS hl)
theorem g_i2c (X : gCX Γ cc nL ret own rm) {x v : Int32} (hd : decode cc pc = .ok (.i2c, 1)) (hv : (x.toUInt32 % 65536).toInt32 = v) (kk : gW Γ Q w nL cells slots (pc + 1) lv (.int v :: st)) : gW Γ Q w nL cells slots pc lv (.int x :: st) := by
  obtain ⟨p, l, e, R, s, m, args, below, meth, c, E, A⟩ := Γ
  obtain ⟨hx, hb, hr, hlk, hml, hown, hts, hK, hA, hA0, hO, hR⟩ := X
  intro H locs ls hP hD hS hl
  exact lv_i2c hx hb hd hv (kk H locs ls hP hD hS hl)
/-- an int of a narrow kind is answered -/
theorem g_tret {S : Type} {wf : S → va_W} {v r : Int32} {u0 u : S} {ty : FieldType} (X : gCX Γ cc nL (some ty) own rm) (hn : narrow ty (.int v) = .int v) (hw : w = wf u0) (hd : decode cc pc = .ok (.ireturn, 1)) (hf : (some (v, u0) : Option (Int32 × S)) = some (r, u)) : gW Γ (gMQ Γ (gPi (gEo Γ) wf r u (gAo Γ)) cells slots) w nL cells slots pc lv [.int v] := by
  subst hw
  cases hf
  obtain ⟨p, l, e, R, s, m, args, below, meth, c, E, A⟩ := Γ
  obtain ⟨hx, hb, hr, hlk, hml, hown, hts, hK, hA, hA0, hO, hR⟩ := X
  intro H locs ls hP hD hS hl
  exact W.zret hx hb hr hn (fun t ht hW => ⟨⟨v, u0, rfl, ⟨rfl, rfl⟩, by rw [ht]; exact hP, hD⟩, hS.F ht⟩) hS.2.2 hd
/-- a call on one of the names: no cell is touched -/
theorem g_callV0i (X : gCX Γ cc nL ret own rm) (hZ : gSt (gEo Γ) aK aV) (hi : i < 7) {y : MethodName} {yc : ByteArray} {ynL idx : Nat} {yret : Option FieldType} {rmc : Room} {As rest : List Value} {r1 : Int32} (n : Nat) (hg : GoodIn lw_all (wsV own idx "java/lang/String" y (ws_ y yc ynL yret))) (hdd : y.cls = "java/lang/String" ∧ y.cls ≠ "java/lang/invoke/MethodHandle" ∧ y.cls ≠ "java/lang/invoke/VarHandle" ∧ (parseMethodDescriptor y.desc).map (fun d => d.parameters.length) = some n)
    (hM : ∀ sz, Met (gl Γ) y (ws_ y yc ynL yret) rmc (gPc (.ref (aK i) :: As) (gEo Γ) [] sz) (gPi (gEo Γ) (fun _ : Unit => []) r1 () (va_A [] sz)) 0 0 (va_A [] sz))
    (hrc : rmc.cells = 0) (hrs : rmc.slots = 0) (hRm : rmc.frames + 1 ≤ rm.frames ∧ 8 + (ynL + 11) + rmc.locals ≤ rm.locals) (hn : As.length = n) (hst : (rest.map fun v => v.category).sum ≤ 8) (hcs : cells + 0 ≤ rm.cells ∧ slots + 0 ≤ rm.slots)
    (hd : decode cc pc = .ok (.invokevirtual idx, 3)) (kk : gW Γ Q w nL cells slots (pc + 3) lv (.int r1 :: rest)) : gW Γ Q w nL cells slots pc lv (As.reverse ++ .ref (aK i) :: rest) := by
  obtain ⟨p, l, e, R, s, m, args, below, meth, c, E, A⟩ := Γ
  obtain ⟨hx, hb, hr, hlk, hml, hown, hts, hK, hA, hA0, hO, hR⟩ := X
  intro H locs ls hP hD hS hl
  subst hR
  have h1 := ((hZ s hK.2.2.1).1.kept (H1 := s.heap) (fun a _ ha => hO.2 a (Nat.lt_of_not_le ha))).narrow (B := A) hA0
  have hOc : gOld E H := g_old hS hA0 hO
  have hF : ∀ q, va_A [] H.size q → A q := fun q h => by
    rcases h with ⟨k, e, h⟩ | h
    · cases h
    · exact hA q (Nat.le_trans hS.1 h)
  refine va_calli (va_runV (As := As) (rest := rest) ⟨hx, hb, hml, hown, hts⟩ (hM H.size) (cwV n hts hg rfl hrc hrs hdd ⟨hRm.1, hRm.2⟩) ⟨gPc.blind, vk_recv h1 hi hS, fun U hU hW => ⟨rfl, by rw [hU], (fun k q hk => (by cases hk)), hK.warm hW, ⟨fun i j p q h => (by cases h), fun k q hk => (by cases hk)⟩, by rw [hU]; exact hOc⟩⟩ rfl hn hl.1 rfl (lv_room hst) hd hcs) hS (fun q _ h => hF q h) hF (fun r2 u2 t H1 locs1 ht hvm hw1 hB hz1 hk1 hS1 => ?_)
  obtain ⟨rfl, -⟩ := hw1
  refine kk H1 locs1 ls (hP.kept (fun k q hk => hk1 q.1 (hP k q hk).lt (fun h => ?_))) hD hS1 hl
  rcases h with ⟨k', e', h⟩ | h
  · cases h
  · exact absurd (hP k q hk).lt (Nat.not_lt.mpr h)
end GS
