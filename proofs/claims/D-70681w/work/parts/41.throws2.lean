set_option maxRecDepth 100000
/-! THROWS in the pure view. gT: the machine throws the cell a, over the frame at pc -/
abbrev gR (S : Type) : Type := (Int32 × S) ⊕ (Int32 × Int32 × S)
def gT (Γ : gG) (Q : State → Prop) (w : va_W) (nL cells slots pc : Nat) (lv : List (Nat × Value)) (st : List Value) (a : Nat) : Prop := match Γ with
  | (p, l, e, R, s, m, args, below, meth, c, E, A) => ∀ (H : Heap) (locs : List Loc) (ls : Array Slot), va_P (E.1, E.2.1) vwCl w H → va_D A w → va_S A s.heap H locs → lv_has ls nL lv → ∀ T : State, T.heap = H → Stand p l e R s m args below meth c T locs cells slots → ∃ t, Steps p.tables e below ((T.setTop (F0 m pc ls st)).pushFrame (.throwing a)) t ∧ Q t
def gNo (Γ : gG) : Prop := match Γ with
  | (_, _, _, _, _, _, _, _, _, c, _, _) => c.exceptionTable.isEmpty = true
def gMQX (Γ : gG) (Qx : Array Value → State → Outcome → State → Nat → Nat → Prop) : State → Prop := match Γ with
  | (_, _, _, _, s, _, args, below, _, _, _, A) => MQX below Qx args s A
/-- the end of a contract that may throw a Fault (code co, place pl): the new cell lies behind the world -/
def gXQ {S : Type} (E : gE) (wf : S → va_W) (vd : Bool) (z : gR S) (A : Nat → Prop) : Array Value → State → Outcome → State → Nat → Nat → Prop := fun _ st oc t k n => va_F A st t ∧ match z with
  | .inl (r, u) => oc = .returned (if vd then none else some (.int r)) ∧ (va_P (E.1, E.2.1) vwCl (wf u) t.heap ∧ va_D A (wf u)) ∧ k = 0 ∧ n = 0
  | .inr (co, pl, u) => ∃ (q : Nat) (fs : List Value), oc = .threw q ∧ (va_P (E.1, E.2.1) vwCl (wf u ++ [(q, .inr (9, fs))]) t.heap ∧ va_D A (wf u ++ [(q, .inr (9, fs))])) ∧ fs[6]? = some (.int co) ∧ fs[7]? = some (.int pl) ∧ k = 1 ∧ n = 8
theorem gMetX {l : Launch} {y : MethodName} {cc : ByteArray} {nL : Nat} {ret : Option FieldType} {rm : Room} {av : List Value} {E : gE} {w : va_W} {sz : Nat} {Qx : (Nat → Prop) → Array Value → State → Outcome → State → Nat → Nat → Prop} (hy : plainName y.cls = true) (hn : (lg_sl av).length ≤ nL)
    (body : ∀ Γ : gG, gCX Γ cc nL ret y.cls rm → gNo Γ → gl Γ = l → gEo Γ = E → gW Γ (gMQX Γ (Qx (gAo Γ))) w nL 0 0 0 (lv_args 0 av) []) : MetX l y (ws_ y cc nL ret) rm (gPc av E w sz) (Qx (va_A w sz)) (va_A w sz) := by
  refine MetX.ofW (cc := cc) (maxL := nL) (ret := ret) hy rfl ?_
  intro p e s m args below meth c s₁ B hml hv
  obtain ⟨rfl, hsz, hP, hK, hD0, hO⟩ := hv
  have hts0 := atoms_spec (ws := ws_ y cc nL ret) B.pre
  have hts : ∀ w ∈ lw_all, w.before _ s = true := fun w h => hts0 w (List.mem_cons_of_mem _ h)
  have hno : c.exceptionTable.isEmpty = true := B.noHandlers (hts0 _ List.mem_cons_self)
  subst hsz
  rw [lg_entry_eq]
  exact body (p, l, e, rm, s, m, av.toArray, below, meth, c, E, va_A w s.heap.size) ⟨B.exec, B.bytes, B.returns, B.notSynchronized, hml, findClass_of_methodNamed B.named, hts, hK, fun q h => Or.inr h, fun q h => by
    rcases h with ⟨k, e, h⟩ | h
    · exact hD0.2 k (q, e) h
    · exact Nat.le_trans hO.1 h, hO, rfl⟩ hno rfl rfl s.heap [] _ hP (hD0.self (sz := s.heap.size)) va_S.rf (lv_entry av hn)
theorem gx_mono {p : Program} {l : Launch} {e : Env} {R : Room} {s : State} {m : MethodId} {args : Array Value} {below : List Frame} {meth : Method} {c : Code} {H : Heap} {locs : List Loc} {cells slots : Nat} {Q Q' : State → Prop} {g : JFrame} (h : ∀ t, Q t → Q' t) (k : W p l e R s m args below meth c H locs cells slots Q g) : W p l e R s m args below meth c H locs cells slots Q' g := fun T hT X => by
  obtain ⟨t, a, b⟩ := k T hT X
  exact ⟨t, a, h t b⟩
theorem gx_MQ {below : List Frame} {Qc : Array Value → State → Outcome → State → Prop} {Qx : Array Value → State → Outcome → State → Nat → Nat → Prop} {a : Array Value} {s : State} {mc ms : Nat} {free : Addr → Prop} (h : ∀ o t, Qc a s o t → Qx a s o t mc ms) (t : State) (hq : MQ below Qc a s mc ms free t) : MQX below Qx a s free t := by
  obtain ⟨o, h1, h2, h3, L, ⟨-, hW, hs⟩, hL⟩ := hq
  exact ⟨o, h1, h2, L, mc, ms, ⟨hW, hs⟩, hL, h o t h3⟩
section GX2
variable {Γ : gG} {w : va_W} {nL cells slots pc : Nat} {lv : List (Nat × Value)} {st : List Value} {cc : ByteArray} {ret : Option FieldType} {own : String} {rm : Room} {S : Type} {wf : S → va_W} {z : gR S} {Q : State → Prop}
theorem g_xiret {v : Int32} {u0 : S} (X : gCX Γ cc nL (some .int) own rm) (hw : w = wf u0) (hd : decode cc pc = .ok (.ireturn, 1)) (hf : (some (.inl (v, u0)) : Option (gR S)) = some z) : gW Γ (gMQX Γ (gXQ (gEo Γ) wf false z (gAo Γ))) w nL 0 0 pc lv [.int v] := by
  subst hw
  cases hf
  obtain ⟨p, l, e, R, s, m, args, below, meth, c, E, A⟩ := Γ
  obtain ⟨hx, hb, hr, hlk, hml, hown, hts, hK, hA, hA0, hO, hR⟩ := X
  intro H locs ls hP hD hS hl
  exact gx_mono (gx_MQ (Qc := fun a st oc t => gXQ E wf false (.inl (v, u0)) A a st oc t 0 0) (fun _ _ h => h)) (W.iret hx hb hr (fun t ht hW => ⟨hS.F ht, rfl, ⟨by rw [ht]; exact hP, hD⟩, rfl, rfl⟩) hS.2.2 hd)
theorem g_xvret {v : Int32} {u0 : S} (X : gCX Γ cc nL none own rm) (hw : w = wf u0) (hd : decode cc pc = .ok (.return_, 1)) (hf : (some (.inl (v, u0)) : Option (gR S)) = some z) : gW Γ (gMQX Γ (gXQ (gEo Γ) wf true z (gAo Γ))) w nL 0 0 pc lv [] := by
  subst hw
  cases hf
  obtain ⟨p, l, e, R, s, m, args, below, meth, c, E, A⟩ := Γ
  obtain ⟨hx, hb, hr, hlk, hml, hown, hts, hK, hA, hA0, hO, hR⟩ := X
  intro H locs ls hP hD hS hl
  exact gx_mono (gx_MQ (Qc := fun a st oc t => gXQ E wf true (.inl (v, u0)) A a st oc t 0 0) (fun _ _ h => h)) (W.vret hx hb hr (fun t ht hW => ⟨hS.F ht, rfl, ⟨by rw [ht]; exact hP, hD⟩, rfl, rfl⟩) hS.2.2 hd)
/-- out of a method that has no handlers -/
theorem g_xleave (X : gCX Γ cc nL ret own rm) (hno : gNo Γ) {vd : Bool} {co pl : Int32} {u : S} {q : Nat} {fs : List Value} (h6 : fs[6]? = some (.int co)) (h7 : fs[7]? = some (.int pl)) (hz : z = .inr (co, pl, u)) (hw : w = wf u ++ [(q, .inr (9, fs))]) : gT Γ (gMQX Γ (gXQ (gEo Γ) wf vd z (gAo Γ))) w nL 1 8 pc lv st q := by
  subst hz; subst hw
  obtain ⟨p, l, e, R, s, m, args, below, meth, c, E, A⟩ := Γ
  obtain ⟨hx, hb, hr, hlk, hml, hown, hts, hK, hA, hA0, hO, hR⟩ := X
  intro H locs ls hP hD hS hl T hT XS
  have hno : c.exceptionTable.isEmpty = true := hno
  obtain ⟨h1, h2, h3, h4, h5⟩ := XS.leaveThrown q (g := F0 m pc ls st) rfl rfl rfl (fun x hx => by
    rw [Array.isEmpty_iff] at hno
    rw [hno] at hx
    cases hx) hlk
  refine ⟨_, h1, .threw q, h2, h3, locs, 1, 8, ⟨h4, h5⟩, hS.2.2, hS.F (by show T.heap = H; exact hT), q, fs, rfl, ⟨?_, hD⟩, h6, h7, rfl, rfl⟩
  show va_P (E.1, E.2.1) vwCl _ T.heap
  rw [hT]; exact hP
theorem g_athrow (X : gCX Γ cc nL ret own rm) {a : Nat} (hd : decode cc pc = .ok (.athrow, 1)) (kk : gT Γ Q w nL cells slots pc lv st a) : gW Γ Q w nL cells slots pc lv (.ref a :: st) := by
  obtain ⟨p, l, e, R, s, m, args, below, meth, c, E, A⟩ := Γ
  obtain ⟨hx, hb, hr, hlk, hml, hown, hts, hK, hA, hA0, hO, hR⟩ := X
  intro H locs ls hP hD hS hl T hT XS
  obtain ⟨t, h1, h2⟩ := kk H locs ls hP hD hS hl T hT XS
  refine ⟨t, ?_, h2⟩
  have hd' : decode c.code pc = .ok (.athrow, 1) := by rw [hb]; exact hd
  jvm_step XS.here [hx, hd', athrow.wp_sem]
  exact h1
end GX2
