set_option maxRecDepth 100000
section GF
variable {Γ : gG} {Q : State → Prop} {w : va_W} {nL cells slots pc : Nat} {lv : List (Nat × Value)} {st : List Value} {cc : ByteArray} {ret : Option FieldType} {own : String} {rm : Room}
theorem g_objInit (X : gCX Γ cc nL ret own rm) {idx a : Nat} (hlink : Cond.methodLink own idx Lib.objectInit ∈ lw_all) (hd : decode cc pc = .ok (.invokespecial idx, 3)) (hfr : 1 ≤ rm.frames) (hlo : (st.map fun v => v.category).sum + 12 ≤ rm.locals) (kk : gW Γ Q w nL cells slots (pc + 3) lv st) : gW Γ Q w nL cells slots pc lv (.ref a :: st) := by
  obtain ⟨p, l, e, R, s, m, args, below, meth, c, E, A⟩ := Γ
  obtain ⟨hx, hb, hr, hlk, hml, hown, hts, hK, hA, hA0, hO, hR⟩ := X
  intro H locs ls hP hD hS hl
  subst hR
  have hmr : (F0 m pc ls (.ref a :: st)).monitorRoom = 0 := rfl
  exact W.objInit hx hb hown (hts _ hlink) (hts _ q91) (hts _ q92) rfl (hl.1.trans hml.symm) rfl hd hfr (by rw [hmr]; omega) (kk H locs ls hP hD hS hl)
theorem g_putF (X : gCX Γ cc nL ret own rm) (hnm0 : match Γ with | (_, _, _, _, _, _, _, _, meth, _, _, _) => meth.name = "<init>") {C : String} {T : u_T} {N ci idx : Nat} (hin : ∀ w ∈ u_ws C T N, w ∈ lw_all) {ty0 : Nat → FieldType} (hty : ∀ k, k < N → parseFieldDescriptor (T k).2.2.1 = some (ty0 k)) (hnm : ∀ a, a < N → ∀ b, b < N → a ≠ b → (T a).2.1 ≠ (T b).2.1) (q0 : Nat) {a : Nat} {fs : List Value} (k : Nat) {v : Value} {ty : FieldType} (w' : va_W) (he : w[q0]? = some (a, .inr (ci, fs))) (hc : vwCl[ci]? = some (C, T, N)) (hk : k < N) (hlink : Cond.fieldLink own idx (T k).1 (T k).2.1 (T k).2.2.1 ∈ lw_all) (hfin : (T k).2.2.2 = true) (hdecl : (T k).1 = own) (hd0 : ty0 k = ty) (hn : narrow ty v = v) (hfit : fits ty v = true) (hl0 : k < fs.length) (hw : w.set q0 (a, .inr (ci, fs.set k v)) = w') (hd : decode cc pc = .ok (.putfield idx, 3)) (kk : gW Γ Q w' nL cells slots (pc + 3) lv st) : gW Γ Q w nL cells slots pc lv (v :: .ref a :: st) := by
  obtain ⟨p, l, e, R, s, m, args, below, meth, c, E, A⟩ := Γ
  obtain ⟨hx, hb, hr, hlk, hml, hown, hts, hK, hA, hA0, hO, hR⟩ := X
  intro H locs ls hP hD hS hl
  subst hw; subst hd0
  exact va_putF hx hb hts hin ty0 hty hnm hown hK.1 hP hD hS q0 he hc k hk (hts _ hlink) (fun _ h => h) hfin hnm0 hdecl (hty k hk) hn hfit hl0 hd (fun H1 locs1 hP1 hD1 hS1 => kk H1 locs1 ls hP1 hD1 hS1 hl)
/-- what the tables' rest says of a static that is a reference or null -/
def gZq (E : gE) (C n d : String) : Prop := ∀ U : State, E.2.2.2.2 U → va_Zq C n d (fun q => E.2.2.2.1.size ≤ q) U E.2.2.2.1
theorem g_getsq (X : gCX Γ cc nL ret own rm) {C n d : String} {idx : Nat} (hZ : gZq (gEo Γ) C n d) (hlink : Cond.fieldLink own idx C n d ∈ lw_all) (hd : decode cc pc = .ok (.getstatic idx, 3)) (kk : ∀ v : Value, (v = .null ∨ ∃ t, v = .ref t) → gW Γ Q w nL cells slots (pc + 3) lv (v :: st)) : gW Γ Q w nL cells slots pc lv st := by
  obtain ⟨p, l, e, R, s, m, args, below, meth, c, E, A⟩ := Γ
  obtain ⟨hx, hb, hr, hlk, hml, hown, hts, hK, hA, hA0, hO, hR⟩ := X
  intro H locs ls hP hD hS hl
  have h1 := ((hZ s hK.2.2.1).kept (H1 := s.heap) (fun a _ ha => hO.2 a (Nat.lt_of_not_le ha))).narrow (B := A) hA0
  rcases h1 with h1 | ⟨t, h1⟩
  · exact va_gets hx hb h1 hS hown (hts _ hlink) (fun _ h => h) hd (kk _ (Or.inl rfl) H locs ls hP hD hS hl)
  · exact va_gets hx hb h1 hS hown (hts _ hlink) (fun _ h => h) hd (kk _ (Or.inr ⟨t, rfl⟩) H locs ls hP hD hS hl)
end GF
