set_option maxRecDepth 100000
/-! THROWS AND HANDLERS: rows that this kit lacks -/
section GX
variable {p : Program} {l : Launch} {e : Env} {R : Room} {s : State} {m : MethodId} {args : Array Value} {below : List Frame} {meth : Method} {c : Code} {T : State} {locs : List Loc} {cells slots : Nat}
/-- a covering entry with a class that the tables link: cold or warm it is as if resolved -/
theorem gx_transfer {Q : Handler → Pre} {E : CtlPost} {d : Bool} {acts : List Action} {u : State} {f : JFrame} {a : Addr} {x : ExceptionTableEntry} {t : List ExceptionTableEntry} {k : ClassId} {vm' : Vm} (hx : covers x f.pc = true) (h0 : x.catchType ≠ 0)
    (hg : (Jvm.resolveClass f.method.cls x.catchType).Gives e.toSetting u.vm (.ok k) vm') (hr : vm'.classReady f.method.cls x.catchType k) (hsz : vm'.classes.size ≤ u.vm.classes.size) :
    wp (findHandler.go f a (x :: t)) Q E e d acts u ↔ wp (findHandler.go f a (x :: t)) Q E e d acts (u.setVm vm') := by
  simp only [covers] at hx
  obtain ⟨ha, ht⟩ := hg.op (op := VmOp.resolveClass f.method.cls x.catchType) rfl
  obtain ⟨kk, hkd, hres⟩ := hr
  have hl : (VmOp.resolveClass f.method.cls x.catchType).lands e (u.setVm vm') = MirrorsLaid.done (u.setVm vm') := VmOp.lands_eq (e := e) (s := u.setVm vm') (resolveClass_memo e hkd hres).2 (Nat.le_refl _)
  simp [findHandler.go, hx, h0, ha, ht, hsz, resolveClass_memo e hkd hres, hl, VmOp.dirties, VmOp.acts]
  exact Iff.rfl
theorem gx_link (X : Stand p l e R s m args below meth c T locs cells slots) {own name : String} {index : Nat} {cT : ClassId} (hown : s.vm.findClass own = some m.cls) (hlink : (Cond.classLink own index name).before args s = true) (hcT : s.vm.findClass name = some cT) {g : JFrame} (hg : g.method = m) :
    ∃ vm', Stand p l e R s m args below meth c (T.setVm vm') locs cells slots ∧ (Jvm.resolveClass g.method.cls index).Gives e.toSetting T.vm (.ok cT) vm' ∧ vm'.classReady g.method.cls index cT ∧ vm'.classes.size ≤ T.vm.classes.size ∧ s.vm.Alike vm' ∧ ∃ kt, vm'.classes[cT]? = some kt := by
  have hpl : e.platform.magicAccessors = ({} : Platform).magicAccessors := by rw [X.admits.platform]
  obtain ⟨c', hc', hcl⟩ := Cond.classLink_spec hown hlink e.platform hpl
  cases hcT.symm.trans hc'
  obtain ⟨dk, _, _, kt, hd, _, _, _, _, hkt, _, hopen⟩ := hcl.here
  have hcl₀ := X.warmed.classLinks hcl
  have hW' : s.WarmedH (T.vm.noted m.cls index (.cls cT)) := X.warmed.noted hd hopen (State.rightAt_cls hcl)
  obtain ⟨kt', hkt', -⟩ := hW'.alike.2.2 _ _ hkt
  subst hg
  exact ⟨_, X.noted hW', resolveClass_links e.toSetting hcl₀, hcl₀.ready, by no_record, hW'.alike, kt', hkt'⟩
theorem gx_hit (X : Stand p l e R s m args below meth c T locs cells slots) {own name : String} {cT : ClassId} {x : ExceptionTableEntry} (t : List ExceptionTableEntry) (hown : s.vm.findClass own = some m.cls) (hlink : (Cond.classLink own x.catchType name).before args s = true) (hcT : s.vm.findClass name = some cT) {g : JFrame} (hg : g.method = m) (hx : covers x g.pc = true) (h0 : x.catchType ≠ 0)
    {a : Addr} {cell : Cell} (hcell : T.heap[a]? = some cell) (hobj : cell.vm.isStatics = false) (hasg : s.vm.assignable cell.cls cT = true) :
    ∃ vm', Stand p l e R s m args below meth c (T.setVm vm') locs cells slots ∧ ∀ (Q : Handler → Pre) (E : CtlPost) (d : Bool) (acts : List Action), wp (findHandler.go g a (x :: t)) Q E e d acts ((T.setTop g).pushFrame (.throwing a)) ↔ Q (.found x.handlerPc) d acts (((T.setVm vm').setTop g).pushFrame (.throwing a)) := by
  obtain ⟨vm', X', hgiv, hrdy, hsz, hal, kt, hkt⟩ := gx_link X hown hlink hcT hg
  obtain ⟨ks, hks⟩ := Vm.classAt_of_assignable (vm := vm') (by rw [hal.assignable]; exact hasg) ⟨kt, hkt⟩
  refine ⟨vm', X', fun Q E d acts => ?_⟩
  have hu : ((T.setTop g).pushFrame (.throwing a)).vm = T.vm := Stand.throwing_vm T g a
  have hu' : (((T.setVm vm').setTop g).pushFrame (.throwing a)).vm = vm' := Stand.throwing_vm (T.setVm vm') g a
  have hh' : (((T.setVm vm').setTop g).pushFrame (.throwing a)).heap = T.heap := Stand.throwing_heap (T.setVm vm') g a
  rw [gx_transfer (k := cT) (vm' := vm') hx h0 (by rw [hu]; exact hgiv) hrdy (by rw [hu]; exact hsz)]
  rw [show ((T.setTop g).pushFrame (.throwing a)).setVm vm' = ((T.setVm vm').setTop g).pushFrame (.throwing a) from rfl]
  rw [W.findHandler_go_class (c := cT) (cell := cell) hx h0 (by rw [hu']; exact hrdy) (by rw [hh']; exact hcell) (fun k h => by rw [h] at hobj; cases hobj) (by rw [hu']; exact ⟨ks, hks⟩) (by rw [hu']; exact ⟨kt, hkt⟩)]
  rw [if_pos (by rw [hu', hal.assignable]; exact hasg)]
theorem gx_pass (X : Stand p l e R s m args below meth c T locs cells slots) {own name : String} {cT : ClassId} {x : ExceptionTableEntry} (t : List ExceptionTableEntry) (hown : s.vm.findClass own = some m.cls) (hlink : (Cond.classLink own x.catchType name).before args s = true) (hcT : s.vm.findClass name = some cT) {g : JFrame} (hg : g.method = m) (hx : covers x g.pc = true) (h0 : x.catchType ≠ 0)
    {a : Addr} {cell : Cell} {ks0 : Class} (hcell : T.heap[a]? = some cell) (hobj : cell.vm.isStatics = false) (hks0 : s.vm.classes[cell.cls]? = some ks0) (hasg : s.vm.assignable cell.cls cT = false) :
    ∃ vm', Stand p l e R s m args below meth c (T.setVm vm') locs cells slots ∧ ∀ (Q : Handler → Pre) (E : CtlPost) (d : Bool) (acts : List Action), wp (findHandler.go g a (x :: t)) Q E e d acts ((T.setTop g).pushFrame (.throwing a)) ↔ wp (findHandler.go g a t) Q E e d acts (((T.setVm vm').setTop g).pushFrame (.throwing a)) := by
  obtain ⟨vm', X', hgiv, hrdy, hsz, hal, kt, hkt⟩ := gx_link X hown hlink hcT hg
  obtain ⟨ks, hks, -⟩ := hal.2.2 _ _ hks0
  refine ⟨vm', X', fun Q E d acts => ?_⟩
  have hu : ((T.setTop g).pushFrame (.throwing a)).vm = T.vm := Stand.throwing_vm T g a
  have hu' : (((T.setVm vm').setTop g).pushFrame (.throwing a)).vm = vm' := Stand.throwing_vm (T.setVm vm') g a
  have hh' : (((T.setVm vm').setTop g).pushFrame (.throwing a)).heap = T.heap := Stand.throwing_heap (T.setVm vm') g a
  rw [gx_transfer (k := cT) (vm' := vm') hx h0 (by rw [hu]; exact hgiv) hrdy (by rw [hu]; exact hsz)]
  rw [show ((T.setTop g).pushFrame (.throwing a)).setVm vm' = ((T.setVm vm').setTop g).pushFrame (.throwing a) from rfl]
  rw [W.findHandler_go_class (c := cT) (cell := cell) hx h0 (by rw [hu']; exact hrdy) (by rw [hh']; exact hcell) (fun k h => by rw [h] at hobj; cases hobj) (by rw [hu']; exact ⟨ks, hks⟩) (by rw [hu']; exact ⟨kt, hkt⟩)]
  rw [if_neg (by rw [hu', hal.assignable, hasg]; decide)]
/-- the search ends at a handler, the tables warmer: on from there -/
theorem gx_caught (X : Stand p l e R s m args below meth c T locs cells slots) {g : JFrame} (hg : g.method = m) {a : Addr} {pc : Nat} {vm' : Vm} (hfind : ∀ (Q : Handler → Pre) (E : CtlPost) (d : Bool) (acts : List Action), wp (findHandler g a) Q E e d acts ((T.setTop g).pushFrame (.throwing a)) ↔ Q (.found pc) d acts (((T.setVm vm').setTop g).pushFrame (.throwing a))) {target : State}
    (hrest : Steps p.tables e below ((T.setVm vm').setTop { g with pc := pc, stack := [.ref a] }) target) : Steps p.tables e below ((T.setTop g).pushFrame (.throwing a)) target := by
  have h : At T g.method c below := by rw [hg]; exact X.here
  obtain ⟨hgo, hw⟩ := h.throwing a
  refine Steps.head hgo hw ?_
  have hst : ∀ r, (stepThrowing e ((T.setTop g).pushFrame (.throwing a)) a (.java g :: r)).Is ((((T.setVm vm').setTop g).pushFrame (.throwing a)).setFrames (.java { g with pc := pc, stack := [.ref a] } :: r)) [] := by
    intro r
    simp only [stepThrowing, searchFrame, vmDo]
    generalize hr : Sem.go _ e false [] ((T.setTop g).pushFrame (.throwing a)) = res
    obtain ⟨as, rfl, ha⟩ := Sem.eq_ok_of hr (a := Handler.found pc) (s' := ((T.setVm vm').setTop g).pushFrame (.throwing a)) (acts' := []) (by simp [hfind _ _ _ _])
    exact ⟨rfl, ha⟩
  rw [stepThread_throwing (frames_entered h.top _), (hst _).1]
  obtain ⟨g₀, hg0⟩ := Option.isSome_iff_exists.mp h.top
  obtain ⟨r, hr⟩ := State.topJava?_eq_some.mp hg0
  have hr' : (T.setVm vm').frames = .java g₀ :: r := hr
  rw [State.pushFrame, State.setFrames_setFrames, State.setTop_of_frames _ hr', State.setFrames_setFrames]
  rw [State.setTop_of_frames _ hr'] at hrest
  rw [hr]
  exact hrest
/-- the frame of a call that may throw -/
def gFE (first t : State) (L : List Loc) (k n : Nat) : Prop := first.WarmedH t.vm ∧ first.sameButNew ({ t with vm := first.vm } : State) L k n
/-- A CONTRACT THAT MAY THROW: Qx is told the outcome and how many cells and slots were made -/
def MetX (l : Launch) (y : MethodName) (ws : List Cond) (rm : Room) (Pc : Array Value → State → Prop) (Qx : Array Value → State → Outcome → State → Nat → Nat → Prop) (free : Addr → Prop) : Prop :=
  MetFree l y (headSpec ws rm) Pc (fun _ _ _ _ _ => True) (fun a st o t => ∃ (L : List Loc) (k n : Nat), gFE st t L k n ∧ (∀ q ∈ L, free q.base) ∧ Qx a st o t k n)
def MQX (below : List Frame) (Qx : Array Value → State → Outcome → State → Nat → Nat → Prop) (a : Array Value) (s : State) (free : Addr → Prop) : State → Prop := fun t => ∃ o, t.status = .running ∧ Ended t below o ∧ ∃ (L : List Loc) (k n : Nat), gFE s t L k n ∧ (∀ q ∈ L, free q.base) ∧ Qx a s o t k n
theorem MetX.ofW {y : MethodName} {ws ws' : List Cond} {rm : Room} {Pc : Array Value → State → Prop} {Qx : Array Value → State → Outcome → State → Nat → Nat → Prop} {free : Addr → Prop} {cc : ByteArray} {maxL : Nat} {ret : Option FieldType}
    (hy : plainName y.cls = true) (hw : ws = Cond.code y cc maxL ret :: ws')
    (body : ∀ p e s m args below meth c s₁, BodyLoose p l y (headSpec ws rm) cc maxL ret e s m args below meth c s₁ → c.maxLocals = maxL → Pc args s →
      W p l e (headSpec ws rm).room s m args below meth c s.heap [] 0 0 (MQX below Qx args s free) (entryFrame m args maxL)) : MetX l y ws rm Pc Qx free := by
  refine MetFree.of_bodyS (code := cc) (maxLocals := maxL) (ret := ret) hy ?_ ?_
  · intro args s m h hn
    obtain ⟨meth, c, h1, h2, h3, h4, h5, h6, -, -⟩ := Cond.code_spec hn (atoms_spec (ws := ws) h _ (by rw [hw]; exact List.mem_cons_self))
    exact ⟨meth, c, h1, h2, h3, h4, h5, h6⟩
  · intro p e s m args below meth c s₁ B hml hP _
    have hh0 : s₁.heap = s.heap := by rw [B.state]; rfl
    obtain ⟨t, a1, o, b1, b2, b3⟩ := body p e s m args below meth c s₁ B hml hP s₁ hh0 (Stand.of_body B)
    exact ⟨t, o, a1, b1, b2, b3⟩
/-- a call of a method that may throw, at its doInvoke -/
theorem gx_back {y : MethodName} {ws : List Cond} {rm : Room} {Pc : Array Value → State → Prop} {Qx : Array Value → State → Outcome → State → Nat → Nat → Prop} {free : Addr → Prop} {bytes : ByteArray} {maxL : Nat} {ret : Option FieldType} (hM : MetX l y ws rm Pc Qx free)
    (hframes : rm.frames + 1 ≤ R.frames) (hlocals : 8 + (maxL + 11) + rm.locals ≤ R.locals) (X : Stand p l e R s m args below meth c T locs cells slots) {g : JFrame} {ig : Instr} {mk : MethodId} {a : Array Value} (hg : g.method = m) (hsize : g.locals.size = c.maxLocals) (hdg : decode c.code g.pc = .ok (ig, 3)) (hW : 2 * g.monitorRoom + (g.stack.map fun v => v.category).sum ≤ 8) (hn : T.methodNamed? y = some mk)
    (h1 : (headSpec ws rm).pre.before a T = true) (h2 : (Cond.code y bytes maxL ret).before a T = true) (h3 : (Cond.initialized y.cls).before a T = true) (h4 : cells + rm.cells ≤ R.cells) (h5 : slots + rm.slots ≤ R.slots) (hP : Pc a (T.calling g mk a)) :
    ∃ (o : Outcome) (t T' : State) (L : List Loc) (k n : Nat), Stand p l e R s m args below meth c T' (locs ++ L) (cells + k) (slots + n) ∧ (∀ q ∈ L, free q.base) ∧ T'.heap = t.heap ∧ T'.vm = t.vm ∧ Qx a (T.calling g mk a) o t k n ∧ match o with
      | .returned v => Steps p.tables e below (doInvoke e (T.setTop g) [] mk a).1 (T'.setTop { g with pc := g.pc + 3, stack := v.toList ++ g.stack })
      | .threw x => Steps p.tables e below (doInvoke e (T.setTop g) [] mk a).1 ((T'.setTop g).pushFrame (.throwing x)) := by
  obtain ⟨methY, cY, hmY, hcY, -, hlY, -, -, -, -⟩ := Cond.code_spec hn h2
  obtain ⟨kY, hkY, -⟩ := className_of_methodNamed hn
  have hinitY : kY.init = .initialized := Cond.initialized_spec (findClass_of_methodNamed hn) hkY h3
  have h : At T g.method c below := by rw [hg]; exact X.here
  have happ : (headSpec ws rm).appliesLoose y e.platform (T.calling g mk a) = true :=
    Spec.appliesLoose_calling (g := g) h hdg hn hkY hinitY
      (X.room_calling (g := g) (R' := (headSpec ws rm).room) hsize hmY hcY hframes (by rw [hlY]; have : (headSpec ws rm).room = rm := rfl; rw [this]; omega) h4 h5) h1
  obtain ⟨mid, hmid⟩ := h.above
  have hfr : (T.setTop g).frames = (.java g :: mid) ++ below := by rw [State.frames_setTop' g h.top, hmid]; rfl
  obtain ⟨o, s₂, hsteps, -, hend, hq⟩ := Steps.callFree hM p X.admits X.cas X.clock (acts := []) hfr happ hP trivial
  rw [State.frames_setTop' g h.top] at hend
  obtain ⟨L, k, n, ⟨hW₂, hsame₂⟩, hfree, hQ⟩ := hq
  cases o with
  | threw x =>
    obtain ⟨T', X', hTW, hTs, ht⟩ := X.outOfThrown hg (mk := mk) (a := a) (t := s₂) (x := x) (L := L) (k := k) (n := n) (by rw [X.tail] at hend; exact hend) hW₂ hsame₂
    refine ⟨.threw x, s₂, T', L, k, n, X', hfree, ?_, ?_, hQ, ?_⟩
    · rw [ht]; exact (Stand.throwing_heap T' g x).symm
    · rw [ht]; exact (Stand.throwing_vm T' g x).symm
    · show Steps _ _ _ _ _
      rw [← ht]; exact hsteps
  | returned v =>
    have hsame₂ : (T.calling g mk a).sameButNew ({ s₂ with vm := (T.calling g mk a).vm } : State) L k n := hsame₂
    obtain ⟨e2, q2, q3, q4, q5, q6⟩ := hsame₂
    have e3 : s₂ = ({ (T.calling g mk a).setFrames s₂.frames with heap := s₂.heap, slotsUsed := s₂.slotsUsed } : State).setVm s₂.vm := by
      have : s₂ = ({ s₂ with vm := (T.calling g mk a).vm } : State).setVm s₂.vm := rfl
      rw [e2] at this
      exact this
    obtain ⟨c₂, i₂, len₂, hc₂, hd₂, hf₂⟩ := hend
    have hW' : T.WarmedH s₂.vm := hW₂
    have hcc : c₂ = c := by
      have h1 : s₂.code? g.method = T.code? g.method := by
        rw [State.code?_eq, State.code?_eq, hW'.alike.method?]
      exact Option.some.inj (hc₂.symm.trans (h1.trans h.code))
    subst hcc
    have hlen : len₂ = 3 := by rw [hdg] at hd₂; cases hd₂; rfl
    subst hlen
    obtain ⟨g₀, hg0⟩ := Option.isSome_iff_exists.mp h.top
    obtain ⟨r, hr⟩ := State.topJava?_eq_some.mp hg0
    have hs₂ : s₂ = (({ T with heap := s₂.heap, slotsUsed := s₂.slotsUsed } : State).setVm s₂.vm).setTop { g with pc := g.pc + 3, stack := v.toList ++ g.stack } := by
      have hr' : (({ T with heap := s₂.heap, slotsUsed := s₂.slotsUsed } : State).setVm s₂.vm).frames = .java g₀ :: r := hr
      refine e3.trans ?_
      rw [hf₂, State.calling_eq h.top, State.setFrames_setFrames, State.setTop_of_frames _ hr', hr]
      rfl
    have hsame : T.sameButNew ({ T with heap := s₂.heap, slotsUsed := s₂.slotsUsed } : State) L k n := by
      refine ⟨?_, q2, q3, q4, q5, q6⟩
      obtain ⟨t, ht, -⟩ := State.frames_cons hr
      show ({ T with heap := s₂.heap, slotsUsed := s₂.slotsUsed } : State) = { T.setFrames T.frames with heap := s₂.heap, slotsUsed := s₂.slotsUsed }
      rw [State.setFrames_self ht]
    subst hg
    refine ⟨.returned v, s₂, ({ T with heap := s₂.heap, slotsUsed := s₂.slotsUsed } : State).setVm s₂.vm, L, k, n,
      ⟨X.admits, X.cas, X.clock, X.frames, X.room, X.hears, X.method, X.code, (X.here.setHeapUsed s₂.heap s₂.slotsUsed).setVm hW'.alike, X.tail, State.WarmedH.trans X.warmed hW', X.limits, X.bytes, X.same.trans (hsame.setVm s.vm)⟩,
      hfree, rfl, rfl, hQ, ?_⟩
    show Steps p.tables e below _ ((({ T with heap := s₂.heap, slotsUsed := s₂.slotsUsed } : State).setVm s₂.vm).setTop { g with pc := g.pc + 3, stack := v.toList ++ g.stack })
    rw [← hs₂]
    exact hsteps
end GX
