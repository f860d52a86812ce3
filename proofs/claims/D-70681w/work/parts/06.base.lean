set_option maxRecDepth 100000
/-! THE PURE VIEW: gW Γ Q w nL cells slots pc lv st: at pc, with locals lv, stack st, and any heap that holds the world w, the machine comes to Q -/
def gT0 : u_T := fun _ => ("", "", "", false)
abbrev vwCl : List vw_C := [(RX0, TX0, 19), (RX1, gT0, 0), (RX2, gT0, 0), (RX3, gT0, 0), (RX4, gT0, 0), (RX5, TX5, 8), (RX6, TX6, 1), (RX7, TX7, 29), (RX8, TX8, 9), (RX9, TX9, 8)]
/-- class numbers, slots, array classes (0 byte, 1 short, 2 int, 3 boolean, 4 Plain, 5 Stop, 6 Sheet), the heap at the law's start, what else holds of the tables -/
abbrev gE : Type := (Nat → ClassId) × (Nat → Nat → Nat) × (Nat → ClassId) × Heap × (State → Prop)
abbrev gTys (E : gE) : List (ClassId × FieldType) := [(E.2.2.1 0, .byte), (E.2.2.1 1, .short), (E.2.2.1 2, .int), (E.2.2.1 3, .boolean), (E.2.2.1 4, .object RX1), (E.2.2.1 5, .object RX5), (E.2.2.1 6, .object RX6)]
def gNF : List (String × Nat × String × String × String) := [("TearsQueue", 19, "TearsQueue$Stop", "people", "I"), ("TearsQueue", 44, "TearsQueue$Stop", "wept", "[S"), ("TearsQueue", 48, "TearsQueue$Stop", "minute", "I"), ("TearsQueue", 183, "TearsQueue$Stop", "room", "I"), ("TearsQueue", 34, "TearsQueue$Stop", "think", "I"), ("TearsQueue", 86, "TearsQueue$Stop", "planned", "I"), ("TearsQueue", 89, "TearsQueue$Stop", "plan", "[B"), ("TearsQueue", 288, "TearsQueue$Sheet", "row", "Ljava/lang/Object;"), ("TearsQueue", 175, "TearsQueue$Fault", "code", "I"), ("TearsQueue", 178, "TearsQueue$Fault", "place", "I"), ("TearsQueue", 160, "TearsQueue$Reader", "made", "LTearsQueue$Stop;"), ("TearsQueue$Reader", 116, "TearsQueue$Stop", "people", "I"), ("TearsQueue$Reader", 110, "TearsQueue$Stop", "room", "I"), ("TearsQueue$Reader", 112, "TearsQueue$Stop", "think", "I"), ("TearsQueue$Reader", 97, "TearsQueue$Stop", "planned", "I"), ("TearsQueue$Reader", 105, "TearsQueue$Stop", "plan", "[B"), ("TearsQueue$Reader", 35, "TearsQueue", "tape", "[B")]
def gNM : List (String × Nat × MethodName) := [("TearsQueue", 102, ⟨"TearsQueue$Plain", "<init>", "()V"⟩), ("TearsQueue", 105, ⟨"TearsQueue$Soft", "<init>", "()V"⟩), ("TearsQueue", 108, ⟨"TearsQueue$Sham", "<init>", "()V"⟩), ("TearsQueue", 111, ⟨"TearsQueue$Dry", "<init>", "()V"⟩), ("TearsQueue", 139, ⟨"TearsQueue$Sheet", "<init>", "()V"⟩), ("TearsQueue$Soft", 1, ⟨"TearsQueue$Plain", "<init>", "()V"⟩), ("TearsQueue$Sham", 1, ⟨"TearsQueue$Soft", "<init>", "()V"⟩), ("TearsQueue$Dry", 1, ⟨"TearsQueue$Plain", "<init>", "()V"⟩), ("TearsQueue$Stop", 76, ⟨"TearsQueue", "has", "(II)Z"⟩), ("TearsQueue$Reader", 130, ⟨"TearsQueue", "has", "(II)Z"⟩), ("TearsQueue$Reader", 89, ⟨"TearsQueue", "in", "(JJJ)Z"⟩)]
def gNC : List (String × String) := [("java/lang/NullPointerException", "java/lang/NullPointerException"), ("java/lang/ArrayIndexOutOfBoundsException", "java/lang/ArrayIndexOutOfBoundsException"), ("java/lang/ArrayIndexOutOfBoundsException", "java/lang/IndexOutOfBoundsException"), ("java/lang/ClassCastException", "java/lang/ClassCastException"), ("java/lang/RuntimeException", "java/lang/Throwable"), ("java/lang/NegativeArraySizeException", "java/lang/NegativeArraySizeException"), ("TearsQueue$Soft", "TearsQueue$Plain"), ("TearsQueue$Sham", "TearsQueue$Plain"), ("TearsQueue$Dry", "TearsQueue$Plain"), ("TearsQueue$Fault", "TearsQueue$Fault")]
def gNA : List String := ["TearsQueue$Plain", "TearsQueue$Stop", "TearsQueue$Sheet"]
def gN (U : State) : Prop := (∀ q ∈ gNF, va_Nw (.fieldLinkNest q.1 q.2.1 q.2.2.1 q.2.2.2.1 q.2.2.2.2 "TearsQueue") U) ∧ (∀ q ∈ gNM, va_Nw (.methodLinkNest q.1 q.2.1 q.2.2 "TearsQueue") U) ∧ (∀ q ∈ gNC, va_Nw (.castable q.1 q.2) U) ∧ ∀ C ∈ gNA, va_AO C U
theorem gN.warm {s U : State} (hW : s.WarmedH U.vm) (h : gN s) : gN U := ⟨fun q hq => (h.1 q hq).warmF hW, fun q hq => (h.2.1 q hq).warmM hW, fun q hq => (h.2.2.1 q hq).warmC hW, fun C hC => (h.2.2.2 C hC).moved hW.alike⟩
theorem gN.same {s U : State} (e : s.vm = U.vm) (h : gN s) : gN U := ⟨fun q hq => (h.1 q hq).same rfl e, fun q hq => (h.2.1 q hq).same rfl e, fun q hq => (h.2.2.1 q hq).same rfl e, fun C hC => (h.2.2.2 C hC).moved (e ▸ Vm.Alike.refl s.vm)⟩
def gK (E : gE) (U : State) : Prop := va_K (E.1, E.2.1) vwCl (gTys E) U ∧ gN U ∧ E.2.2.2.2 U ∧ (∀ s t : State, s.WarmedH t.vm → E.2.2.2.2 s → E.2.2.2.2 t) ∧ ∀ s t : State, s.vm = t.vm → E.2.2.2.2 s → E.2.2.2.2 t
theorem gK.warm {E : gE} {s U : State} (hW : s.WarmedH U.vm) (h : gK E s) : gK E U := ⟨va_K.moved hW.alike h.1, h.2.1.warm hW, h.2.2.2.1 s U hW h.2.2.1, h.2.2.2⟩
theorem gK.same {E : gE} {s U : State} (e : s.vm = U.vm) (h : gK E s) : gK E U := ⟨va_K.moved (e ▸ Vm.Alike.refl s.vm) h.1, h.2.1.same e, h.2.2.2.2 s U e h.2.2.1, h.2.2.2⟩
/-- the heap of the law's start stands -/
def gOld (E : gE) (H : Heap) : Prop := E.2.2.2.1.size ≤ H.size ∧ ∀ q : Nat, q < E.2.2.2.1.size → H[q]? = E.2.2.2.1[q]?
abbrev gG : Type := Program × Launch × Env × Room × State × MethodId × Array Value × List Frame × Method × Code × gE × (Nat → Prop)
def gCX (Γ : gG) (cc : ByteArray) (nL : Nat) (ret : Option FieldType) (own : String) (rm : Room) : Prop := match Γ with
  | (p, _, _, R, s, m, args, _, meth, c, E, A) => p.tables.exec = Jvm.exec ∧ c.code = cc ∧ meth.sig.returnType = ret ∧ meth.locks = false ∧ c.maxLocals = nL ∧ s.vm.findClass own = some m.cls ∧ (∀ w ∈ lw_all, w.before args s = true) ∧ gK E s ∧ (∀ q, s.heap.size ≤ q → A q) ∧ (∀ q, A q → E.2.2.2.1.size ≤ q) ∧ gOld E s.heap ∧ R = rm
def gW (Γ : gG) (Q : State → Prop) (w : va_W) (nL cells slots pc : Nat) (lv : List (Nat × Value)) (st : List Value) : Prop := match Γ with
  | (p, l, e, R, s, m, args, below, meth, c, E, A) => ∀ (H : Heap) (locs : List Loc) (ls : Array Slot), va_P (E.1, E.2.1) vwCl w H → va_D A w → va_S A s.heap H locs → lv_has ls nL lv → W p l e R s m args below meth c H locs cells slots Q (F0 m pc ls st)
abbrev gEo (Γ : gG) : gE := Γ.2.2.2.2.2.2.2.2.2.2.1
abbrev gAo (Γ : gG) : Nat → Prop := Γ.2.2.2.2.2.2.2.2.2.2.2
abbrev gl (Γ : gG) : Launch := Γ.2.1
def gMQ (Γ : gG) (Qc : Array Value → State → Outcome → State → Prop) (mc ms : Nat) : State → Prop := match Γ with
  | (_, _, _, _, s, _, args, below, _, _, _, A) => MQ below Qc args s mc ms A
/-- a contract's start: arguments av, the world w, heap size sz -/
def gPc (av : List Value) (E : gE) (w : va_W) (sz : Nat) : Array Value → State → Prop := va_Pc av (fun U => U.heap.size = sz ∧ va_P (E.1, E.2.1) vwCl w U.heap ∧ gK E U ∧ va_D (fun q => E.2.2.2.1.size ≤ q) w ∧ gOld E U.heap)
theorem gPc.blind {av : List Value} {E : gE} {w : va_W} {sz : Nat} : FrameBlind (gPc av E w sz) := fun a U g mk q => by
  obtain ⟨q0, q1, qP, qK, qD, qO⟩ := q
  exact ⟨q0, q1, qP, gK.same (s := U) (U := U.calling g mk a) rfl qK, qD, qO⟩
/-- a contract's end, by the kind of its answer -/
def gPi {S : Type} (E : gE) (wf : S → va_W) (r : Int32) (u : S) (A : Nat → Prop) := va_Qi (fun r' u' => r' = r ∧ u' = u) (fun u' t => va_P (E.1, E.2.1) vwCl (wf u') t.heap ∧ va_D A (wf u')) A
def gPl {S : Type} (E : gE) (wf : S → va_W) (r : Int64) (u : S) (A : Nat → Prop) := va_Ql (fun r' u' => r' = r ∧ u' = u) (fun u' t => va_P (E.1, E.2.1) vwCl (wf u') t.heap ∧ va_D A (wf u')) A
def gPv {S : Type} (E : gE) (wf : S → va_W) (u : S) (A : Nat → Prop) := va_Qv (fun u' => u' = u) (fun u' t => va_P (E.1, E.2.1) vwCl (wf u') t.heap ∧ va_D A (wf u')) A
theorem gMet {l : Launch} {y : MethodName} {cc : ByteArray} {nL : Nat} {ret : Option FieldType} {rm : Room} {av : List Value} {E : gE} {w : va_W} {sz : Nat} {Qc : (Nat → Prop) → Array Value → State → Outcome → State → Prop} {mc ms : Nat} (hy : plainName y.cls = true) (hn : (lg_sl av).length ≤ nL)
    (body : ∀ Γ : gG, gCX Γ cc nL ret y.cls rm → gl Γ = l → gEo Γ = E → gW Γ (gMQ Γ (Qc (gAo Γ)) mc ms) w nL 0 0 0 (lv_args 0 av) []) : Met l y (ws_ y cc nL ret) rm (gPc av E w sz) (Qc (va_A w sz)) mc ms (va_A w sz) := by
  refine Met.ofW (cc := cc) (maxL := nL) (ret := ret) hy rfl ?_
  intro p e s m args below meth c s₁ B hml hv
  obtain ⟨rfl, hsz, hP, hK, hD0, hO⟩ := hv
  have hts := atoms_spec (ws := ws_ y cc nL ret) B.pre
  have hts : ∀ w ∈ lw_all, w.before _ s = true := fun w h => hts w (List.mem_cons_of_mem _ h)
  subst hsz
  rw [lg_entry_eq]
  exact body (p, l, e, rm, s, m, av.toArray, below, meth, c, E, va_A w s.heap.size) ⟨B.exec, B.bytes, B.returns, B.notSynchronized, hml, findClass_of_methodNamed B.named, hts, hK, fun q h => Or.inr h, fun q h => by
    rcases h with ⟨k, e, h⟩ | h
    · exact hD0.2 k (q, e) h
    · exact Nat.le_trans hO.1 h, hO, rfl⟩ rfl rfl s.heap [] _ hP (hD0.self (sz := s.heap.size)) va_S.rf (lv_entry av hn)
/-- an array's place is read -/
def gld (n : Nat) (f : Nat → Int32) (i : Int32) {α : Type} (K : Int32 → Option α) : Option α := if i < 0 ∨ n ≤ i.toNatClampNeg then none else K (f i.toNatClampNeg)
/-- an array's place is written -/
def gst (n : Nat) (f : Nat → Int32) (i x : Int32) {α : Type} (K : (Nat → Int32) → Option α) : Option α := if i < 0 ∨ n ≤ i.toNatClampNeg then none else K (upd f i.toNatClampNeg x)
def gdv (y : Int32) {α : Type} (K : Option α) : Option α := if y = 0 then none else K
def gdl (y : Int64) {α : Type} (K : Option α) : Option α := if y = 0 then none else K
/-- a truth value is answered -/
def gzr {S : Type} (v : Int32) (u : S) : Option (Int32 × S) := if v = 0 ∨ v = 1 then some (v, u) else none
def gfit (ty : FieldType) (n : Nat) (f : Nat → Int32) : Bool := (List.range n).all (fun i => fits ty (.int (f i)))
theorem g_ob {α : Type} {c : Prop} {_ : Decidable c} {K : Option α} {z : α} (h : (if c then none else K) = some z) : ¬ c ∧ K = some z := by
  by_cases hc : c
  · rw [if_pos hc] at h; cases h
  · rw [if_neg hc] at h; exact ⟨hc, h⟩
theorem g_bd {α β : Type} {a : Option α} {K : α → Option β} {z : β} (h : a.bind K = some z) : ∃ x, a = some x ∧ K x = some z := by
  cases a with
  | none => cases h
  | some x => exact ⟨x, rfl, h⟩
def gv (e : Int32) {α : Type} (K : Int32 → Option α) : Option α := K e
def gcp (ty : FieldType) (n0 n1 : Nat) (f g : Nat → Int32) (n : Int32) {α : Type} (K : (Nat → Int32) → Option α) : Option α := if gfit ty n.toNatClampNeg f = true ∧ ¬ n < 0 ∧ n.toNatClampNeg ≤ n0 ∧ n.toNatClampNeg ≤ n1 then K (va_cpy f g 0 0 n.toNatClampNeg) else none
def gvl (e : Int64) {α : Type} (K : Int64 → Option α) : Option α := K e
/-- a table's choice -/
def gsw (n : Nat) (x : Int32) {α : Type} (F : Nat → Option α) (D : Option α) : Option α := if 0 ≤ x.toInt ∧ x.toInt < (n : Int) then F x.toInt.toNat else D
def g_pick (w : va_W) (is : List Nat) : va_W := is.filterMap (fun i => w[i]?)
section GRows
variable {Γ : gG} {Q : State → Prop} {w : va_W} {nL cells slots pc : Nat} {lv : List (Nat × Value)} {st : List Value} {cc : ByteArray} {ret : Option FieldType} {own : String} {rm : Room} {α : Type} {z : α}
theorem g_iconst (X : gCX Γ cc nL ret own rm) {n : Int} (v : Int32) (hd : decode cc pc = .ok (.iconst n, 1)) (hv : Int32.ofInt n = v) (kk : gW Γ Q w nL cells slots (pc + 1) lv (.int v :: st)) : gW Γ Q w nL cells slots pc lv st := by
  obtain ⟨p, l, e, R, s, m, args, below, meth, c, E, A⟩ := Γ
  obtain ⟨hx, hb, hr, hlk, hml, hown, hts, hK, hA, hA0, hO, hR⟩ := X
  intro H locs ls hP hD hS hl
  exact lv_iconst hx hb hd hv (kk H locs ls hP hD hS hl)
theorem g_bipush (X : gCX Γ cc nL ret own rm) {n : Int} (v : Int32) (hd : decode cc pc = .ok (.bipush n, 2)) (hv : (Int8.ofInt n).toInt32 = v) (kk : gW Γ Q w nL cells slots (pc + 2) lv (.int v :: st)) : gW Γ Q w nL cells slots pc lv st := by
  obtain ⟨p, l, e, R, s, m, args, below, meth, c, E, A⟩ := Γ
  obtain ⟨hx, hb, hr, hlk, hml, hown, hts, hK, hA, hA0, hO, hR⟩ := X
  intro H locs ls hP hD hS hl
  exact lv_bipush hx hb hd hv (kk H locs ls hP hD hS hl)
theorem g_sipush (X : gCX Γ cc nL ret own rm) {n : Int} (v : Int32) (hd : decode cc pc = .ok (.sipush n, 3)) (hv : (Int16.ofInt n).toInt32 = v) (kk : gW Γ Q w nL cells slots (pc + 3) lv (.int v :: st)) : gW Γ Q w nL cells slots pc lv st := by
  obtain ⟨p, l, e, R, s, m, args, below, meth, c, E, A⟩ := Γ
  obtain ⟨hx, hb, hr, hlk, hml, hown, hts, hK, hA, hA0, hO, hR⟩ := X
  intro H locs ls hP hD hS hl
  exact lv_sipush hx hb hd hv (kk H locs ls hP hD hS hl)
theorem g_lconst (X : gCX Γ cc nL ret own rm) {n : Fin 2} (v : Int64) (hd : decode cc pc = .ok (.lconst n, 1)) (hv : Int64.ofNat (n : Nat) = v) (kk : gW Γ Q w nL cells slots (pc + 1) lv (.long v :: st)) : gW Γ Q w nL cells slots pc lv st := by
  obtain ⟨p, l, e, R, s, m, args, below, meth, c, E, A⟩ := Γ
  obtain ⟨hx, hb, hr, hlk, hml, hown, hts, hK, hA, hA0, hO, hR⟩ := X
  intro H locs ls hP hD hS hl
  exact lv_lconst hx hb hd hv (kk H locs ls hP hD hS hl)
theorem g_iload_n (X : gCX Γ cc nL ret own rm) {k : Fin 4} {x : Int32} (j : Nat) (hd : decode cc pc = .ok (.iload_n k, 1)) (hj : lv[j]? = some ((k : Nat), .int x)) (kk : gW Γ Q w nL cells slots (pc + 1) lv (.int x :: st)) : gW Γ Q w nL cells slots pc lv st := by
  obtain ⟨p, l, e, R, s, m, args, below, meth, c, E, A⟩ := Γ
  obtain ⟨hx, hb, hr, hlk, hml, hown, hts, hK, hA, hA0, hO, hR⟩ := X
  intro H locs ls hP hD hS hl
  exact lv_iload_n hx hb hd rfl (lv_at hl j hj) (kk H locs ls hP hD hS hl)
theorem g_iload (X : gCX Γ cc nL ret own rm) {i : Nat} {x : Int32} (j : Nat) (hd : decode cc pc = .ok (.iload i, 2)) (hj : lv[j]? = some (i, .int x)) (kk : gW Γ Q w nL cells slots (pc + 2) lv (.int x :: st)) : gW Γ Q w nL cells slots pc lv st := by
  obtain ⟨p, l, e, R, s, m, args, below, meth, c, E, A⟩ := Γ
  obtain ⟨hx, hb, hr, hlk, hml, hown, hts, hK, hA, hA0, hO, hR⟩ := X
  intro H locs ls hP hD hS hl
  exact lv_iload hx hb hd (lv_at hl j hj) (kk H locs ls hP hD hS hl)
theorem g_lload_n (X : gCX Γ cc nL ret own rm) {k : Fin 4} {x : Int64} (j : Nat) (hd : decode cc pc = .ok (.lload_n k, 1)) (hj : lv[j]? = some ((k : Nat), .long x)) (kk : gW Γ Q w nL cells slots (pc + 1) lv (.long x :: st)) : gW Γ Q w nL cells slots pc lv st := by
  obtain ⟨p, l, e, R, s, m, args, below, meth, c, E, A⟩ := Γ
  obtain ⟨hx, hb, hr, hlk, hml, hown, hts, hK, hA, hA0, hO, hR⟩ := X
  intro H locs ls hP hD hS hl
  exact lv_lload_n hx hb hd rfl (lv_at hl j hj) (kk H locs ls hP hD hS hl)
theorem g_lload (X : gCX Γ cc nL ret own rm) {i : Nat} {x : Int64} (j : Nat) (hd : decode cc pc = .ok (.lload i, 2)) (hj : lv[j]? = some (i, .long x)) (kk : gW Γ Q w nL cells slots (pc + 2) lv (.long x :: st)) : gW Γ Q w nL cells slots pc lv st := by
  obtain ⟨p, l, e, R, s, m, args, below, meth, c, E, A⟩ := Γ
  obtain ⟨hx, hb, hr, hlk, hml, hown, hts, hK, hA, hA0, hO, hR⟩ := X
  intro H locs ls hP hD hS hl
  exact lv_lload hx hb hd (lv_at hl j hj) (kk H locs ls hP hD hS hl)
theorem g_aload_n (X : gCX Γ cc nL ret own rm) {k : Fin 4} {x : Nat} (j : Nat) (hd : decode cc pc = .ok (.aload_n k, 1)) (hj : lv[j]? = some ((k : Nat), .ref x)) (kk : gW Γ Q w nL cells slots (pc + 1) lv (.ref x :: st)) : gW Γ Q w nL cells slots pc lv st := by
  obtain ⟨p, l, e, R, s, m, args, below, meth, c, E, A⟩ := Γ
  obtain ⟨hx, hb, hr, hlk, hml, hown, hts, hK, hA, hA0, hO, hR⟩ := X
  intro H locs ls hP hD hS hl
  exact lv_aload_n hx hb hd rfl (lv_at hl j hj) (kk H locs ls hP hD hS hl)
theorem g_aload (X : gCX Γ cc nL ret own rm) {i : Nat} {x : Nat} (j : Nat) (hd : decode cc pc = .ok (.aload i, 2)) (hj : lv[j]? = some (i, .ref x)) (kk : gW Γ Q w nL cells slots (pc + 2) lv (.ref x :: st)) : gW Γ Q w nL cells slots pc lv st := by
  obtain ⟨p, l, e, R, s, m, args, below, meth, c, E, A⟩ := Γ
  obtain ⟨hx, hb, hr, hlk, hml, hown, hts, hK, hA, hA0, hO, hR⟩ := X
  intro H locs ls hP hD hS hl
  exact lv_aload hx hb hd (lv_at hl j hj) (kk H locs ls hP hD hS hl)
theorem g_aload_nN (X : gCX Γ cc nL ret own rm) {k : Fin 4} (j : Nat) (hd : decode cc pc = .ok (.aload_n k, 1)) (hj : lv[j]? = some ((k : Nat), .null)) (kk : gW Γ Q w nL cells slots (pc + 1) lv (.null :: st)) : gW Γ Q w nL cells slots pc lv st := by
  obtain ⟨p, l, e, R, s, m, args, below, meth, c, E, A⟩ := Γ
  obtain ⟨hx, hb, hr, hlk, hml, hown, hts, hK, hA, hA0, hO, hR⟩ := X
  intro H locs ls hP hD hS hl
  exact lv_aload_nN hx hb hd rfl (lv_at hl j hj) (kk H locs ls hP hD hS hl)
theorem g_aloadN (X : gCX Γ cc nL ret own rm) {i : Nat} (j : Nat) (hd : decode cc pc = .ok (.aload i, 2)) (hj : lv[j]? = some (i, .null)) (kk : gW Γ Q w nL cells slots (pc + 2) lv (.null :: st)) : gW Γ Q w nL cells slots pc lv st := by
  obtain ⟨p, l, e, R, s, m, args, below, meth, c, E, A⟩ := Γ
  obtain ⟨hx, hb, hr, hlk, hml, hown, hts, hK, hA, hA0, hO, hR⟩ := X
  intro H locs ls hP hD hS hl
  exact lv_aloadN hx hb hd (lv_at hl j hj) (kk H locs ls hP hD hS hl)
theorem g_istore_n (X : gCX Γ cc nL ret own rm) {k : Fin 4} {x : Int32} (lv' : List (Nat × Value)) (hd : decode cc pc = .ok (.istore_n k, 1)) (hn : (k : Nat) < nL) (hl' : ((k : Nat), Value.int x) :: lv.filter (fun q => !(q.1 == (k : Nat)) && !(q.1 + 1 == (k : Nat) && q.2.category == 2)) = lv') (kk : gW Γ Q w nL cells slots (pc + 1) lv' st) : gW Γ Q w nL cells slots pc lv (.int x :: st) := by
  obtain ⟨p, l, e, R, s, m, args, below, meth, c, E, A⟩ := Γ
  obtain ⟨hx, hb, hr, hlk, hml, hown, hts, hK, hA, hA0, hO, hR⟩ := X
  intro H locs ls hP hD hS hl
  exact lv_istore_n hx hb hd rfl hl hn hl' (fun ls' hl2 => kk H locs ls' hP hD hS hl2)
theorem g_istore (X : gCX Γ cc nL ret own rm) {i : Nat} {x : Int32} (lv' : List (Nat × Value)) (hd : decode cc pc = .ok (.istore i, 2)) (hn : i < nL) (hl' : (i, Value.int x) :: lv.filter (fun q => !(q.1 == i) && !(q.1 + 1 == i && q.2.category == 2)) = lv') (kk : gW Γ Q w nL cells slots (pc + 2) lv' st) : gW Γ Q w nL cells slots pc lv (.int x :: st) := by
  obtain ⟨p, l, e, R, s, m, args, below, meth, c, E, A⟩ := Γ
  obtain ⟨hx, hb, hr, hlk, hml, hown, hts, hK, hA, hA0, hO, hR⟩ := X
  intro H locs ls hP hD hS hl
  exact lv_istore hx hb hd hl hn hl' (fun ls' hl2 => kk H locs ls' hP hD hS hl2)
theorem g_lstore_n (X : gCX Γ cc nL ret own rm) {k : Fin 4} {x : Int64} (lv' : List (Nat × Value)) (hd : decode cc pc = .ok (.lstore_n k, 1)) (hn : (k : Nat) + 1 < nL) (hl' : ((k : Nat), Value.long x) :: lv.filter (fun q => !(q.1 == (k : Nat)) && (!(q.1 == (k : Nat) + 1) && !(q.1 + 1 == (k : Nat) && q.2.category == 2))) = lv') (kk : gW Γ Q w nL cells slots (pc + 1) lv' st) : gW Γ Q w nL cells slots pc lv (.long x :: st) := by
  obtain ⟨p, l, e, R, s, m, args, below, meth, c, E, A⟩ := Γ
  obtain ⟨hx, hb, hr, hlk, hml, hown, hts, hK, hA, hA0, hO, hR⟩ := X
  intro H locs ls hP hD hS hl
  exact lv_lstore_n hx hb hd rfl hl hn hl' (fun ls' hl2 => kk H locs ls' hP hD hS hl2)
theorem g_lstore (X : gCX Γ cc nL ret own rm) {i : Nat} {x : Int64} (lv' : List (Nat × Value)) (hd : decode cc pc = .ok (.lstore i, 2)) (hn : i + 1 < nL) (hl' : (i, Value.long x) :: lv.filter (fun q => !(q.1 == i) && (!(q.1 == i + 1) && !(q.1 + 1 == i && q.2.category == 2))) = lv') (kk : gW Γ Q w nL cells slots (pc + 2) lv' st) : gW Γ Q w nL cells slots pc lv (.long x :: st) := by
  obtain ⟨p, l, e, R, s, m, args, below, meth, c, E, A⟩ := Γ
  obtain ⟨hx, hb, hr, hlk, hml, hown, hts, hK, hA, hA0, hO, hR⟩ := X
  intro H locs ls hP hD hS hl
  exact lv_lstore hx hb hd hl hn hl' (fun ls' hl2 => kk H locs ls' hP hD hS hl2)
theorem g_astore_n (X : gCX Γ cc nL ret own rm) {k : Fin 4} {x : Nat} (lv' : List (Nat × Value)) (hd : decode cc pc = .ok (.astore_n k, 1)) (hn : (k : Nat) < nL) (hl' : ((k : Nat), Value.ref x) :: lv.filter (fun q => !(q.1 == (k : Nat)) && !(q.1 + 1 == (k : Nat) && q.2.category == 2)) = lv') (kk : gW Γ Q w nL cells slots (pc + 1) lv' st) : gW Γ Q w nL cells slots pc lv (.ref x :: st) := by
  obtain ⟨p, l, e, R, s, m, args, below, meth, c, E, A⟩ := Γ
  obtain ⟨hx, hb, hr, hlk, hml, hown, hts, hK, hA, hA0, hO, hR⟩ := X
  intro H locs ls hP hD hS hl
  exact lv_astore_n hx hb hd rfl hl hn hl' (fun ls' hl2 => kk H locs ls' hP hD hS hl2)
theorem g_astore (X : gCX Γ cc nL ret own rm) {i : Nat} {x : Nat} (lv' : List (Nat × Value)) (hd : decode cc pc = .ok (.astore i, 2)) (hn : i < nL) (hl' : (i, Value.ref x) :: lv.filter (fun q => !(q.1 == i) && !(q.1 + 1 == i && q.2.category == 2)) = lv') (kk : gW Γ Q w nL cells slots (pc + 2) lv' st) : gW Γ Q w nL cells slots pc lv (.ref x :: st) := by
  obtain ⟨p, l, e, R, s, m, args, below, meth, c, E, A⟩ := Γ
  obtain ⟨hx, hb, hr, hlk, hml, hown, hts, hK, hA, hA0, hO, hR⟩ := X
  intro H locs ls hP hD hS hl
  exact lv_astore hx hb hd hl hn hl' (fun ls' hl2 => kk H locs ls' hP hD hS hl2)
theorem g_astore_nN (X : gCX Γ cc nL ret own rm) {k : Fin 4} (lv' : List (Nat × Value)) (hd : decode cc pc = .ok (.astore_n k, 1)) (hn : (k : Nat) < nL) (hl' : ((k : Nat), Value.null) :: lv.filter (fun q => !(q.1 == (k : Nat)) && !(q.1 + 1 == (k : Nat) && q.2.category == 2)) = lv') (kk : gW Γ Q w nL cells slots (pc + 1) lv' st) : gW Γ Q w nL cells slots pc lv (.null :: st) := by
  obtain ⟨p, l, e, R, s, m, args, below, meth, c, E, A⟩ := Γ
  obtain ⟨hx, hb, hr, hlk, hml, hown, hts, hK, hA, hA0, hO, hR⟩ := X
  intro H locs ls hP hD hS hl
  exact lv_astore_nN hx hb hd rfl hl hn hl' (fun ls' hl2 => kk H locs ls' hP hD hS hl2)
theorem g_astoreN (X : gCX Γ cc nL ret own rm) {i : Nat} (lv' : List (Nat × Value)) (hd : decode cc pc = .ok (.astore i, 2)) (hn : i < nL) (hl' : (i, Value.null) :: lv.filter (fun q => !(q.1 == i) && !(q.1 + 1 == i && q.2.category == 2)) = lv') (kk : gW Γ Q w nL cells slots (pc + 2) lv' st) : gW Γ Q w nL cells slots pc lv (.null :: st) := by
  obtain ⟨p, l, e, R, s, m, args, below, meth, c, E, A⟩ := Γ
  obtain ⟨hx, hb, hr, hlk, hml, hown, hts, hK, hA, hA0, hO, hR⟩ := X
  intro H locs ls hP hD hS hl
  exact lv_astoreN hx hb hd hl hn hl' (fun ls' hl2 => kk H locs ls' hP hD hS hl2)
theorem g_iinc (X : gCX Γ cc nL ret own rm) {i : Nat} {n : Int} {x : Int32} (v : Int32) (j : Nat) (lv' : List (Nat × Value)) (hd : decode cc pc = .ok (.iinc i n, 3)) (hj : lv[j]? = some (i, .int x)) (hv : x + Int32.ofInt n = v) (hn : i < nL) (hl' : (i, Value.int v) :: lv.filter (fun q => !(q.1 == i) && !(q.1 + 1 == i && q.2.category == 2)) = lv') (kk : gW Γ Q w nL cells slots (pc + 3) lv' st) : gW Γ Q w nL cells slots pc lv st := by
  obtain ⟨p, l, e, R, s, m, args, below, meth, c, E, A⟩ := Γ
  obtain ⟨hx, hb, hr, hlk, hml, hown, hts, hK, hA, hA0, hO, hR⟩ := X
  intro H locs ls hP hD hS hl
  exact lv_iinc hx hb hd hl hj hv hn hl' (fun ls' hl2 => kk H locs ls' hP hD hS hl2)
theorem g_iadd (X : gCX Γ cc nL ret own rm) {x y : Int32} (hd : decode cc pc = .ok (.iadd, 1)) (kk : gW Γ Q w nL cells slots (pc + 1) lv (.int (x + y) :: st)) : gW Γ Q w nL cells slots pc lv (.int y :: .int x :: st) := by
  obtain ⟨p, l, e, R, s, m, args, below, meth, c, E, A⟩ := Γ
  obtain ⟨hx, hb, hr, hlk, hml, hown, hts, hK, hA, hA0, hO, hR⟩ := X
  intro H locs ls hP hD hS hl
  exact lv_iadd hx hb hd (kk H locs ls hP hD hS hl)
theorem g_isub (X : gCX Γ cc nL ret own rm) {x y : Int32} (hd : decode cc pc = .ok (.isub, 1)) (kk : gW Γ Q w nL cells slots (pc + 1) lv (.int (x - y) :: st)) : gW Γ Q w nL cells slots pc lv (.int y :: .int x :: st) := by
  obtain ⟨p, l, e, R, s, m, args, below, meth, c, E, A⟩ := Γ
  obtain ⟨hx, hb, hr, hlk, hml, hown, hts, hK, hA, hA0, hO, hR⟩ := X
  intro H locs ls hP hD hS hl
  exact lv_isub hx hb hd (kk H locs ls hP hD hS hl)
theorem g_imul (X : gCX Γ cc nL ret own rm) {x y : Int32} (hd : decode cc pc = .ok (.imul, 1)) (kk : gW Γ Q w nL cells slots (pc + 1) lv (.int (x * y) :: st)) : gW Γ Q w nL cells slots pc lv (.int y :: .int x :: st) := by
  obtain ⟨p, l, e, R, s, m, args, below, meth, c, E, A⟩ := Γ
  obtain ⟨hx, hb, hr, hlk, hml, hown, hts, hK, hA, hA0, hO, hR⟩ := X
  intro H locs ls hP hD hS hl
  exact lv_imul hx hb hd (kk H locs ls hP hD hS hl)
theorem g_iand (X : gCX Γ cc nL ret own rm) {x y : Int32} (hd : decode cc pc = .ok (.iand, 1)) (kk : gW Γ Q w nL cells slots (pc + 1) lv (.int (x &&& y) :: st)) : gW Γ Q w nL cells slots pc lv (.int y :: .int x :: st) := by
  obtain ⟨p, l, e, R, s, m, args, below, meth, c, E, A⟩ := Γ
  obtain ⟨hx, hb, hr, hlk, hml, hown, hts, hK, hA, hA0, hO, hR⟩ := X
  intro H locs ls hP hD hS hl
  exact lv_iand hx hb hd (kk H locs ls hP hD hS hl)
theorem g_ior (X : gCX Γ cc nL ret own rm) {x y : Int32} (hd : decode cc pc = .ok (.ior, 1)) (kk : gW Γ Q w nL cells slots (pc + 1) lv (.int (x ||| y) :: st)) : gW Γ Q w nL cells slots pc lv (.int y :: .int x :: st) := by
  obtain ⟨p, l, e, R, s, m, args, below, meth, c, E, A⟩ := Γ
  obtain ⟨hx, hb, hr, hlk, hml, hown, hts, hK, hA, hA0, hO, hR⟩ := X
  intro H locs ls hP hD hS hl
  exact lv_ior hx hb hd (kk H locs ls hP hD hS hl)
theorem g_ixor (X : gCX Γ cc nL ret own rm) {x y : Int32} (hd : decode cc pc = .ok (.ixor, 1)) (kk : gW Γ Q w nL cells slots (pc + 1) lv (.int (x ^^^ y) :: st)) : gW Γ Q w nL cells slots pc lv (.int y :: .int x :: st) := by
  obtain ⟨p, l, e, R, s, m, args, below, meth, c, E, A⟩ := Γ
  obtain ⟨hx, hb, hr, hlk, hml, hown, hts, hK, hA, hA0, hO, hR⟩ := X
  intro H locs ls hP hD hS hl
  exact lv_ixor hx hb hd (kk H locs ls hP hD hS hl)
theorem g_ishl (X : gCX Γ cc nL ret own rm) {x y : Int32} (hd : decode cc pc = .ok (.ishl, 1)) (kk : gW Γ Q w nL cells slots (pc + 1) lv (.int (x <<< (y &&& 31)) :: st)) : gW Γ Q w nL cells slots pc lv (.int y :: .int x :: st) := by
  obtain ⟨p, l, e, R, s, m, args, below, meth, c, E, A⟩ := Γ
  obtain ⟨hx, hb, hr, hlk, hml, hown, hts, hK, hA, hA0, hO, hR⟩ := X
  intro H locs ls hP hD hS hl
  exact lv_ishl hx hb hd (kk H locs ls hP hD hS hl)
theorem g_ishr (X : gCX Γ cc nL ret own rm) {x y : Int32} (hd : decode cc pc = .ok (.ishr, 1)) (kk : gW Γ Q w nL cells slots (pc + 1) lv (.int (x >>> (y &&& 31)) :: st)) : gW Γ Q w nL cells slots pc lv (.int y :: .int x :: st) := by
  obtain ⟨p, l, e, R, s, m, args, below, meth, c, E, A⟩ := Γ
  obtain ⟨hx, hb, hr, hlk, hml, hown, hts, hK, hA, hA0, hO, hR⟩ := X
  intro H locs ls hP hD hS hl
  exact lv_ishr hx hb hd (kk H locs ls hP hD hS hl)
theorem g_iushr (X : gCX Γ cc nL ret own rm) {x y : Int32} (hd : decode cc pc = .ok (.iushr, 1)) (kk : gW Γ Q w nL cells slots (pc + 1) lv (.int ((x.toUInt32 >>> (y.toUInt32 &&& Int32.toUInt32 31)).toInt32) :: st)) : gW Γ Q w nL cells slots pc lv (.int y :: .int x :: st) := by
  obtain ⟨p, l, e, R, s, m, args, below, meth, c, E, A⟩ := Γ
  obtain ⟨hx, hb, hr, hlk, hml, hown, hts, hK, hA, hA0, hO, hR⟩ := X
  intro H locs ls hP hD hS hl
  exact lv_iushr hx hb hd rfl (kk H locs ls hP hD hS hl)
theorem g_ladd (X : gCX Γ cc nL ret own rm) {x y : Int64} (hd : decode cc pc = .ok (.ladd, 1)) (kk : gW Γ Q w nL cells slots (pc + 1) lv (.long (x + y) :: st)) : gW Γ Q w nL cells slots pc lv (.long y :: .long x :: st) := by
  obtain ⟨p, l, e, R, s, m, args, below, meth, c, E, A⟩ := Γ
  obtain ⟨hx, hb, hr, hlk, hml, hown, hts, hK, hA, hA0, hO, hR⟩ := X
  intro H locs ls hP hD hS hl
  exact lv_ladd hx hb hd (kk H locs ls hP hD hS hl)
theorem g_lsub (X : gCX Γ cc nL ret own rm) {x y : Int64} (hd : decode cc pc = .ok (.lsub, 1)) (kk : gW Γ Q w nL cells slots (pc + 1) lv (.long (x - y) :: st)) : gW Γ Q w nL cells slots pc lv (.long y :: .long x :: st) := by
  obtain ⟨p, l, e, R, s, m, args, below, meth, c, E, A⟩ := Γ
  obtain ⟨hx, hb, hr, hlk, hml, hown, hts, hK, hA, hA0, hO, hR⟩ := X
  intro H locs ls hP hD hS hl
  exact lv_lsub hx hb hd (kk H locs ls hP hD hS hl)
theorem g_lmul (X : gCX Γ cc nL ret own rm) {x y : Int64} (hd : decode cc pc = .ok (.lmul, 1)) (kk : gW Γ Q w nL cells slots (pc + 1) lv (.long (x * y) :: st)) : gW Γ Q w nL cells slots pc lv (.long y :: .long x :: st) := by
  obtain ⟨p, l, e, R, s, m, args, below, meth, c, E, A⟩ := Γ
  obtain ⟨hx, hb, hr, hlk, hml, hown, hts, hK, hA, hA0, hO, hR⟩ := X
  intro H locs ls hP hD hS hl
  exact lv_lmul hx hb hd (kk H locs ls hP hD hS hl)
theorem g_idiv (X : gCX Γ cc nL ret own rm) {x y : Int32} {F : Option α} (hd : decode cc pc = .ok (.idiv, 1)) (hf : gdv y F = some z) (kk : F = some z → gW Γ Q w nL cells slots (pc + 1) lv (.int (x / y) :: st)) : gW Γ Q w nL cells slots pc lv (.int y :: .int x :: st) := by
  obtain ⟨hc, hf⟩ := g_ob hf
  obtain ⟨p, l, e, R, s, m, args, below, meth, c, E, A⟩ := Γ
  obtain ⟨hx, hb, hr, hlk, hml, hown, hts, hK, hA, hA0, hO, hR⟩ := X
  intro H locs ls hP hD hS hl
  exact lv_idiv hx hb hd hc (kk hf H locs ls hP hD hS hl)
theorem g_irem (X : gCX Γ cc nL ret own rm) {x y : Int32} {F : Option α} (hd : decode cc pc = .ok (.irem, 1)) (hf : gdv y F = some z) (kk : F = some z → gW Γ Q w nL cells slots (pc + 1) lv (.int (x - x / y * y) :: st)) : gW Γ Q w nL cells slots pc lv (.int y :: .int x :: st) := by
  obtain ⟨hc, hf⟩ := g_ob hf
  obtain ⟨p, l, e, R, s, m, args, below, meth, c, E, A⟩ := Γ
  obtain ⟨hx, hb, hr, hlk, hml, hown, hts, hK, hA, hA0, hO, hR⟩ := X
  intro H locs ls hP hD hS hl
  exact lv_irem hx hb hd hc (kk hf H locs ls hP hD hS hl)
theorem g_ldiv (X : gCX Γ cc nL ret own rm) {x y : Int64} {F : Option α} (hd : decode cc pc = .ok (.ldiv, 1)) (hf : gdl y F = some z) (kk : F = some z → gW Γ Q w nL cells slots (pc + 1) lv (.long (x / y) :: st)) : gW Γ Q w nL cells slots pc lv (.long y :: .long x :: st) := by
  obtain ⟨hc, hf⟩ := g_ob hf
  obtain ⟨p, l, e, R, s, m, args, below, meth, c, E, A⟩ := Γ
  obtain ⟨hx, hb, hr, hlk, hml, hown, hts, hK, hA, hA0, hO, hR⟩ := X
  intro H locs ls hP hD hS hl
  exact lv_ldiv hx hb hd hc (kk hf H locs ls hP hD hS hl)
theorem g_lrem (X : gCX Γ cc nL ret own rm) {x y : Int64} {F : Option α} (hd : decode cc pc = .ok (.lrem, 1)) (hf : gdl y F = some z) (kk : F = some z → gW Γ Q w nL cells slots (pc + 1) lv (.long (x - x / y * y) :: st)) : gW Γ Q w nL cells slots pc lv (.long y :: .long x :: st) := by
  obtain ⟨hc, hf⟩ := g_ob hf
  obtain ⟨p, l, e, R, s, m, args, below, meth, c, E, A⟩ := Γ
  obtain ⟨hx, hb, hr, hlk, hml, hown, hts, hK, hA, hA0, hO, hR⟩ := X
  intro H locs ls hP hD hS hl
  exact lv_lrem hx hb hd hc (kk hf H locs ls hP hD hS hl)
theorem g_i2l (X : gCX Γ cc nL ret own rm) {x : Int32} (hd : decode cc pc = .ok (.i2l, 1)) (kk : gW Γ Q w nL cells slots (pc + 1) lv (.long x.toInt64 :: st)) : gW Γ Q w nL cells slots pc lv (.int x :: st) := by
  obtain ⟨p, l, e, R, s, m, args, below, meth, c, E, A⟩ := Γ
  obtain ⟨hx, hb, hr, hlk, hml, hown, hts, hK, hA, hA0, hO, hR⟩ := X
  intro H locs ls hP hD hS hl
  exact lv_i2l hx hb hd rfl (kk H locs ls hP hD hS hl)
theorem g_l2i (X : gCX Γ cc nL ret own rm) {x : Int64} (hd : decode cc pc = .ok (.l2i, 1)) (kk : gW Γ Q w nL cells slots (pc + 1) lv (.int x.toInt32 :: st)) : gW Γ Q w nL cells slots pc lv (.long x :: st) := by
  obtain ⟨p, l, e, R, s, m, args, below, meth, c, E, A⟩ := Γ
  obtain ⟨hx, hb, hr, hlk, hml, hown, hts, hK, hA, hA0, hO, hR⟩ := X
  intro H locs ls hP hD hS hl
  exact lv_l2i hx hb hd rfl (kk H locs ls hP hD hS hl)
theorem g_i2b (X : gCX Γ cc nL ret own rm) {x : Int32} (hd : decode cc pc = .ok (.i2b, 1)) (kk : gW Γ Q w nL cells slots (pc + 1) lv (.int x.toInt8.toInt32 :: st)) : gW Γ Q w nL cells slots pc lv (.int x :: st) := by
  obtain ⟨p, l, e, R, s, m, args, below, meth, c, E, A⟩ := Γ
  obtain ⟨hx, hb, hr, hlk, hml, hown, hts, hK, hA, hA0, hO, hR⟩ := X
  intro H locs ls hP hD hS hl
  exact lv_i2b hx hb hd rfl (kk H locs ls hP hD hS hl)
theorem g_i2s (X : gCX Γ cc nL ret own rm) {x : Int32} (hd : decode cc pc = .ok (.i2s, 1)) (kk : gW Γ Q w nL cells slots (pc + 1) lv (.int x.toInt16.toInt32 :: st)) : gW Γ Q w nL cells slots pc lv (.int x :: st) := by
  obtain ⟨p, l, e, R, s, m, args, below, meth, c, E, A⟩ := Γ
  obtain ⟨hx, hb, hr, hlk, hml, hown, hts, hK, hA, hA0, hO, hR⟩ := X
  intro H locs ls hP hD hS hl
  exact lv_i2s hx hb hd rfl (kk H locs ls hP hD hS hl)
theorem g_lcmp (X : gCX Γ cc nL ret own rm) {x y : Int64} (hd : decode cc pc = .ok (.lcmp, 1)) (kk : gW Γ Q w nL cells slots (pc + 1) lv (.int (lg_cmp x y) :: st)) : gW Γ Q w nL cells slots pc lv (.long y :: .long x :: st) := by
  obtain ⟨p, l, e, R, s, m, args, below, meth, c, E, A⟩ := Γ
  obtain ⟨hx, hb, hr, hlk, hml, hown, hts, hK, hA, hA0, hO, hR⟩ := X
  intro H locs ls hP hD hS hl
  exact W.lcmp hx hb hd (kk H locs ls hP hD hS hl)
theorem g_null (X : gCX Γ cc nL ret own rm)  (hd : decode cc pc = .ok (.aconst_null, 1)) (kk : gW Γ Q w nL cells slots (pc + 1) lv (.null :: st)) : gW Γ Q w nL cells slots pc lv st := by
  obtain ⟨p, l, e, R, s, m, args, below, meth, c, E, A⟩ := Γ
  obtain ⟨hx, hb, hr, hlk, hml, hown, hts, hK, hA, hA0, hO, hR⟩ := X
  intro H locs ls hP hD hS hl
  exact lv_null hx hb hd (kk H locs ls hP hD hS hl)
theorem g_dup (X : gCX Γ cc nL ret own rm) {va : Value} (hd : decode cc pc = .ok (.dup, 1)) (hc : va.category = 1) (kk : gW Γ Q w nL cells slots (pc + 1) lv (va :: va :: st)) : gW Γ Q w nL cells slots pc lv (va :: st) := by
  obtain ⟨p, l, e, R, s, m, args, below, meth, c, E, A⟩ := Γ
  obtain ⟨hx, hb, hr, hlk, hml, hown, hts, hK, hA, hA0, hO, hR⟩ := X
  intro H locs ls hP hD hS hl
  exact lv_dup hx hb hd hc (kk H locs ls hP hD hS hl)
theorem g_dup2 (X : gCX Γ cc nL ret own rm) {va vb : Value} (hd : decode cc pc = .ok (.dup2, 1)) (hc : va.category = 1) (hc2 : vb.category = 1) (kk : gW Γ Q w nL cells slots (pc + 1) lv (va :: vb :: va :: vb :: st)) : gW Γ Q w nL cells slots pc lv (va :: vb :: st) := by
  obtain ⟨p, l, e, R, s, m, args, below, meth, c, E, A⟩ := Γ
  obtain ⟨hx, hb, hr, hlk, hml, hown, hts, hK, hA, hA0, hO, hR⟩ := X
  intro H locs ls hP hD hS hl
  exact lv_dup2_11 hx hb hd hc hc2 (kk H locs ls hP hD hS hl)
theorem g_pop (X : gCX Γ cc nL ret own rm) {va : Value} (hd : decode cc pc = .ok (.pop, 1)) (hc : va.category = 1) (kk : gW Γ Q w nL cells slots (pc + 1) lv st) : gW Γ Q w nL cells slots pc lv (va :: st) := by
  obtain ⟨p, l, e, R, s, m, args, below, meth, c, E, A⟩ := Γ
  obtain ⟨hx, hb, hr, hlk, hml, hown, hts, hK, hA, hA0, hO, hR⟩ := X
  intro H locs ls hP hD hS hl
  exact lv_pop hx hb hd hc (kk H locs ls hP hD hS hl)
theorem g_ldc (X : gCX Γ cc nL ret own rm) {idx : Nat} {v : Int32} (hd : decode cc pc = .ok (.ldc idx, 2)) (hc : Jvm.Cond.constant own idx v ∈ lw_all) (kk : gW Γ Q w nL cells slots (pc + 2) lv (.int v :: st)) : gW Γ Q w nL cells slots pc lv st := by
  obtain ⟨p, l, e, R, s, m, args, below, meth, c, E, A⟩ := Γ
  obtain ⟨hx, hb, hr, hlk, hml, hown, hts, hK, hA, hA0, hO, hR⟩ := X
  intro H locs ls hP hD hS hl
  exact lv_ldc hx hb hown (hts _ hc) hd (kk H locs ls hP hD hS hl)
theorem g_ldcw (X : gCX Γ cc nL ret own rm) {idx : Nat} {v : Int32} (hd : decode cc pc = .ok (.ldc_w idx, 3)) (hc : Jvm.Cond.constant own idx v ∈ lw_all) (kk : gW Γ Q w nL cells slots (pc + 3) lv (.int v :: st)) : gW Γ Q w nL cells slots pc lv st := by
  obtain ⟨p, l, e, R, s, m, args, below, meth, c, E, A⟩ := Γ
  obtain ⟨hx, hb, hr, hlk, hml, hown, hts, hK, hA, hA0, hO, hR⟩ := X
  intro H locs ls hP hD hS hl
  exact lv_ldcw hx hb hown (hts _ hc) hd (kk H locs ls hP hD hS hl)
theorem g_ldc2 (X : gCX Γ cc nL ret own rm) {idx : Nat} {v : Int64} (hd : decode cc pc = .ok (.ldc2_w idx, 3)) (hc : Jvm.Cond.constantLong own idx v ∈ lw_all) (kk : gW Γ Q w nL cells slots (pc + 3) lv (.long v :: st)) : gW Γ Q w nL cells slots pc lv st := by
  obtain ⟨p, l, e, R, s, m, args, below, meth, c, E, A⟩ := Γ
  obtain ⟨hx, hb, hr, hlk, hml, hown, hts, hK, hA, hA0, hO, hR⟩ := X
  intro H locs ls hP hD hS hl
  exact lv_ldc2 hx hb hown (hts _ hc) hd (kk H locs ls hP hD hS hl)
theorem g_goto (X : gCX Γ cc nL ret own rm) {off : Int} (tgt : Nat) (hd : decode cc pc = .ok (.goto off, 3)) (ht : (pc : Int) + off = (tgt : Int)) (kk : gW Γ Q w nL cells slots tgt lv st) : gW Γ Q w nL cells slots pc lv st := by
  obtain ⟨p, l, e, R, s, m, args, below, meth, c, E, A⟩ := Γ
  obtain ⟨hx, hb, hr, hlk, hml, hown, hts, hK, hA, hA0, hO, hR⟩ := X
  intro H locs ls hP hD hS hl
  exact lv_goto hx hb hd ht (kk H locs ls hP hD hS hl)
theorem g_icmp_eq (X : gCX Γ cc nL ret own rm) {x y : Int32} {off : Int} (tgt : Nat) {A B : Option α} (hd : decode cc pc = .ok (.if_icmp .eq off, 3)) (ht : (pc : Int) + off = (tgt : Int)) (hf : (if x = y then A else B) = some z) (kt : A = some z → gW Γ Q w nL cells slots tgt lv st) (kf : B = some z → gW Γ Q w nL cells slots (pc + 3) lv st) : gW Γ Q w nL cells slots pc lv (.int y :: .int x :: st) := by
  obtain ⟨p, l, e, R, s, m, args, below, meth, c, E, A0⟩ := Γ
  obtain ⟨hx, hb, hr, hlk, hml, hown, hts, hK, hA, hA1, hO, hR⟩ := X
  intro H locs ls hP hD hS hl
  exact lv_icmp_eq hx hb hd ht (fun q => kt (by rw [if_pos q] at hf; exact hf) H locs ls hP hD hS hl) (fun q => kf (by rw [if_neg q] at hf; exact hf) H locs ls hP hD hS hl)
theorem g_if_eq (X : gCX Γ cc nL ret own rm) {x : Int32} {off : Int} (tgt : Nat) {A B : Option α} (hd : decode cc pc = .ok (.ifCond .eq off, 3)) (ht : (pc : Int) + off = (tgt : Int)) (hf : (if x = 0 then A else B) = some z) (kt : A = some z → gW Γ Q w nL cells slots tgt lv st) (kf : B = some z → gW Γ Q w nL cells slots (pc + 3) lv st) : gW Γ Q w nL cells slots pc lv (.int x :: st) := by
  obtain ⟨p, l, e, R, s, m, args, below, meth, c, E, A0⟩ := Γ
  obtain ⟨hx, hb, hr, hlk, hml, hown, hts, hK, hA, hA1, hO, hR⟩ := X
  intro H locs ls hP hD hS hl
  exact lv_if_eq hx hb hd ht (fun q => kt (by rw [if_pos q] at hf; exact hf) H locs ls hP hD hS hl) (fun q => kf (by rw [if_neg q] at hf; exact hf) H locs ls hP hD hS hl)
theorem g_icmp_ne (X : gCX Γ cc nL ret own rm) {x y : Int32} {off : Int} (tgt : Nat) {A B : Option α} (hd : decode cc pc = .ok (.if_icmp .ne off, 3)) (ht : (pc : Int) + off = (tgt : Int)) (hf : (if x = y then A else B) = some z) (kt : B = some z → gW Γ Q w nL cells slots tgt lv st) (kf : A = some z → gW Γ Q w nL cells slots (pc + 3) lv st) : gW Γ Q w nL cells slots pc lv (.int y :: .int x :: st) := by
  obtain ⟨p, l, e, R, s, m, args, below, meth, c, E, A0⟩ := Γ
  obtain ⟨hx, hb, hr, hlk, hml, hown, hts, hK, hA, hA1, hO, hR⟩ := X
  intro H locs ls hP hD hS hl
  exact lv_icmp_ne hx hb hd ht (fun q => kt (by rw [if_neg q] at hf; exact hf) H locs ls hP hD hS hl) (fun q => kf (by rw [if_pos q] at hf; exact hf) H locs ls hP hD hS hl)
theorem g_if_ne (X : gCX Γ cc nL ret own rm) {x : Int32} {off : Int} (tgt : Nat) {A B : Option α} (hd : decode cc pc = .ok (.ifCond .ne off, 3)) (ht : (pc : Int) + off = (tgt : Int)) (hf : (if x = 0 then A else B) = some z) (kt : B = some z → gW Γ Q w nL cells slots tgt lv st) (kf : A = some z → gW Γ Q w nL cells slots (pc + 3) lv st) : gW Γ Q w nL cells slots pc lv (.int x :: st) := by
  obtain ⟨p, l, e, R, s, m, args, below, meth, c, E, A0⟩ := Γ
  obtain ⟨hx, hb, hr, hlk, hml, hown, hts, hK, hA, hA1, hO, hR⟩ := X
  intro H locs ls hP hD hS hl
  exact lv_if_ne hx hb hd ht (fun q => kt (by rw [if_neg q] at hf; exact hf) H locs ls hP hD hS hl) (fun q => kf (by rw [if_pos q] at hf; exact hf) H locs ls hP hD hS hl)
theorem g_icmp_lt (X : gCX Γ cc nL ret own rm) {x y : Int32} {off : Int} (tgt : Nat) {A B : Option α} (hd : decode cc pc = .ok (.if_icmp .lt off, 3)) (ht : (pc : Int) + off = (tgt : Int)) (hf : (if x < y then A else B) = some z) (kt : A = some z → gW Γ Q w nL cells slots tgt lv st) (kf : B = some z → gW Γ Q w nL cells slots (pc + 3) lv st) : gW Γ Q w nL cells slots pc lv (.int y :: .int x :: st) := by
  obtain ⟨p, l, e, R, s, m, args, below, meth, c, E, A0⟩ := Γ
  obtain ⟨hx, hb, hr, hlk, hml, hown, hts, hK, hA, hA1, hO, hR⟩ := X
  intro H locs ls hP hD hS hl
  exact lv_icmp_lt hx hb hd ht (fun q => kt (by rw [if_pos q] at hf; exact hf) H locs ls hP hD hS hl) (fun q => kf (by rw [if_neg q] at hf; exact hf) H locs ls hP hD hS hl)
theorem g_if_lt (X : gCX Γ cc nL ret own rm) {x : Int32} {off : Int} (tgt : Nat) {A B : Option α} (hd : decode cc pc = .ok (.ifCond .lt off, 3)) (ht : (pc : Int) + off = (tgt : Int)) (hf : (if x < 0 then A else B) = some z) (kt : A = some z → gW Γ Q w nL cells slots tgt lv st) (kf : B = some z → gW Γ Q w nL cells slots (pc + 3) lv st) : gW Γ Q w nL cells slots pc lv (.int x :: st) := by
  obtain ⟨p, l, e, R, s, m, args, below, meth, c, E, A0⟩ := Γ
  obtain ⟨hx, hb, hr, hlk, hml, hown, hts, hK, hA, hA1, hO, hR⟩ := X
  intro H locs ls hP hD hS hl
  exact lv_if_lt hx hb hd ht (fun q => kt (by rw [if_pos q] at hf; exact hf) H locs ls hP hD hS hl) (fun q => kf (by rw [if_neg q] at hf; exact hf) H locs ls hP hD hS hl)
theorem g_icmp_ge (X : gCX Γ cc nL ret own rm) {x y : Int32} {off : Int} (tgt : Nat) {A B : Option α} (hd : decode cc pc = .ok (.if_icmp .ge off, 3)) (ht : (pc : Int) + off = (tgt : Int)) (hf : (if y ≤ x then A else B) = some z) (kt : A = some z → gW Γ Q w nL cells slots tgt lv st) (kf : B = some z → gW Γ Q w nL cells slots (pc + 3) lv st) : gW Γ Q w nL cells slots pc lv (.int y :: .int x :: st) := by
  obtain ⟨p, l, e, R, s, m, args, below, meth, c, E, A0⟩ := Γ
  obtain ⟨hx, hb, hr, hlk, hml, hown, hts, hK, hA, hA1, hO, hR⟩ := X
  intro H locs ls hP hD hS hl
  exact lv_icmp_ge hx hb hd ht (fun q => kt (by rw [if_pos q] at hf; exact hf) H locs ls hP hD hS hl) (fun q => kf (by rw [if_neg q] at hf; exact hf) H locs ls hP hD hS hl)
theorem g_if_ge (X : gCX Γ cc nL ret own rm) {x : Int32} {off : Int} (tgt : Nat) {A B : Option α} (hd : decode cc pc = .ok (.ifCond .ge off, 3)) (ht : (pc : Int) + off = (tgt : Int)) (hf : (if 0 ≤ x then A else B) = some z) (kt : A = some z → gW Γ Q w nL cells slots tgt lv st) (kf : B = some z → gW Γ Q w nL cells slots (pc + 3) lv st) : gW Γ Q w nL cells slots pc lv (.int x :: st) := by
  obtain ⟨p, l, e, R, s, m, args, below, meth, c, E, A0⟩ := Γ
  obtain ⟨hx, hb, hr, hlk, hml, hown, hts, hK, hA, hA1, hO, hR⟩ := X
  intro H locs ls hP hD hS hl
  exact lv_if_ge hx hb hd ht (fun q => kt (by rw [if_pos q] at hf; exact hf) H locs ls hP hD hS hl) (fun q => kf (by rw [if_neg q] at hf; exact hf) H locs ls hP hD hS hl)
theorem g_icmp_gt (X : gCX Γ cc nL ret own rm) {x y : Int32} {off : Int} (tgt : Nat) {A B : Option α} (hd : decode cc pc = .ok (.if_icmp .gt off, 3)) (ht : (pc : Int) + off = (tgt : Int)) (hf : (if y < x then A else B) = some z) (kt : A = some z → gW Γ Q w nL cells slots tgt lv st) (kf : B = some z → gW Γ Q w nL cells slots (pc + 3) lv st) : gW Γ Q w nL cells slots pc lv (.int y :: .int x :: st) := by
  obtain ⟨p, l, e, R, s, m, args, below, meth, c, E, A0⟩ := Γ
  obtain ⟨hx, hb, hr, hlk, hml, hown, hts, hK, hA, hA1, hO, hR⟩ := X
  intro H locs ls hP hD hS hl
  exact lv_icmp_gt hx hb hd ht (fun q => kt (by rw [if_pos q] at hf; exact hf) H locs ls hP hD hS hl) (fun q => kf (by rw [if_neg q] at hf; exact hf) H locs ls hP hD hS hl)
theorem g_if_gt (X : gCX Γ cc nL ret own rm) {x : Int32} {off : Int} (tgt : Nat) {A B : Option α} (hd : decode cc pc = .ok (.ifCond .gt off, 3)) (ht : (pc : Int) + off = (tgt : Int)) (hf : (if 0 < x then A else B) = some z) (kt : A = some z → gW Γ Q w nL cells slots tgt lv st) (kf : B = some z → gW Γ Q w nL cells slots (pc + 3) lv st) : gW Γ Q w nL cells slots pc lv (.int x :: st) := by
  obtain ⟨p, l, e, R, s, m, args, below, meth, c, E, A0⟩ := Γ
  obtain ⟨hx, hb, hr, hlk, hml, hown, hts, hK, hA, hA1, hO, hR⟩ := X
  intro H locs ls hP hD hS hl
  exact lv_if_gt hx hb hd ht (fun q => kt (by rw [if_pos q] at hf; exact hf) H locs ls hP hD hS hl) (fun q => kf (by rw [if_neg q] at hf; exact hf) H locs ls hP hD hS hl)
theorem g_icmp_le (X : gCX Γ cc nL ret own rm) {x y : Int32} {off : Int} (tgt : Nat) {A B : Option α} (hd : decode cc pc = .ok (.if_icmp .le off, 3)) (ht : (pc : Int) + off = (tgt : Int)) (hf : (if x ≤ y then A else B) = some z) (kt : A = some z → gW Γ Q w nL cells slots tgt lv st) (kf : B = some z → gW Γ Q w nL cells slots (pc + 3) lv st) : gW Γ Q w nL cells slots pc lv (.int y :: .int x :: st) := by
  obtain ⟨p, l, e, R, s, m, args, below, meth, c, E, A0⟩ := Γ
  obtain ⟨hx, hb, hr, hlk, hml, hown, hts, hK, hA, hA1, hO, hR⟩ := X
  intro H locs ls hP hD hS hl
  exact lv_icmp_le hx hb hd ht (fun q => kt (by rw [if_pos q] at hf; exact hf) H locs ls hP hD hS hl) (fun q => kf (by rw [if_neg q] at hf; exact hf) H locs ls hP hD hS hl)
theorem g_if_le (X : gCX Γ cc nL ret own rm) {x : Int32} {off : Int} (tgt : Nat) {A B : Option α} (hd : decode cc pc = .ok (.ifCond .le off, 3)) (ht : (pc : Int) + off = (tgt : Int)) (hf : (if x ≤ 0 then A else B) = some z) (kt : A = some z → gW Γ Q w nL cells slots tgt lv st) (kf : B = some z → gW Γ Q w nL cells slots (pc + 3) lv st) : gW Γ Q w nL cells slots pc lv (.int x :: st) := by
  obtain ⟨p, l, e, R, s, m, args, below, meth, c, E, A0⟩ := Γ
  obtain ⟨hx, hb, hr, hlk, hml, hown, hts, hK, hA, hA1, hO, hR⟩ := X
  intro H locs ls hP hD hS hl
  exact lv_if_le hx hb hd ht (fun q => kt (by rw [if_pos q] at hf; exact hf) H locs ls hP hD hS hl) (fun q => kf (by rw [if_neg q] at hf; exact hf) H locs ls hP hD hS hl)
theorem g_topi {x : Int32} {F : Int32 → Option α} (hf : gv x F = some z) (kk : ∀ y : Int32, F y = some z → gW Γ Q w nL cells slots pc lv (.int y :: st)) : gW Γ Q w nL cells slots pc lv (.int x :: st) := kk x hf
theorem g_topl {x : Int64} {F : Int64 → Option α} (hf : gvl x F = some z) (kk : ∀ y : Int64, F y = some z → gW Γ Q w nL cells slots pc lv (.long y :: st)) : gW Γ Q w nL cells slots pc lv (.long x :: st) := kk x hf
theorem g_iincV (X : gCX Γ cc nL ret own rm) {i : Nat} {n : Int} {x : Int32} {F : Int32 → Option α} (d : Int32) (j : Nat) (lv' : Int32 → List (Nat × Value)) (hd : decode cc pc = .ok (.iinc i n, 3)) (hj : lv[j]? = some (i, .int x)) (hv : Int32.ofInt n = d) (hn : i < nL) (hl' : ∀ v, (i, Value.int v) :: lv.filter (fun q => !(q.1 == i) && !(q.1 + 1 == i && q.2.category == 2)) = lv' v) (hf : gv (x + d) F = some z) (kk : ∀ v : Int32, F v = some z → gW Γ Q w nL cells slots (pc + 3) (lv' v) st) : gW Γ Q w nL cells slots pc lv st := by
  subst hv
  exact g_iinc X _ j (lv' _) hd hj rfl hn (hl' _) (kk _ hf)
theorem g_tsw (X : gCX Γ cc nL ret own rm) {dflt hi : Int} {offs : Array Int} {len : Nat} {x : Int32} {F : Nat → Option α} {D : Option α} (n : Nat) (tg : Nat → Nat) (td : Nat) (hd : decode cc pc = .ok (.tableswitch dflt 0 hi offs, len)) (hh : hi + 1 = (n : Int)) (ho : ∀ k, k < n → ∃ o, offs[k]? = some o ∧ (pc : Int) + o = (tg k : Int)) (htd : (pc : Int) + dflt = (td : Int)) (hf : gsw n x F D = some z) (kk : ∀ k, k < n → F k = some z → gW Γ Q w nL cells slots (tg k) lv st) (kd : D = some z → gW Γ Q w nL cells slots td lv st) : gW Γ Q w nL cells slots pc lv (.int x :: st) := by
  unfold gsw at hf
  by_cases hc : 0 ≤ x.toInt ∧ x.toInt < (n : Int)
  · rw [if_pos hc] at hf
    obtain ⟨k, hk⟩ : ∃ k : Nat, x.toInt = (k : Int) := ⟨x.toInt.toNat, (Int.toNat_of_nonneg hc.1).symm⟩
    have hkn : k < n := by omega
    obtain ⟨o, h1, h2⟩ := ho k hkn
    have e1 : (x.toInt - 0).toNat = k := by omega
    have e2 : x.toInt.toNat = k := by omega
    rw [e2] at hf
    have kk := kk k hkn hf
    obtain ⟨p, l, e, R, s, m, args, below, meth, c, E, A⟩ := Γ
    obtain ⟨hx, hb, hr, hlk, hml, hown, hts, hK, hA, hA0, hO, hR⟩ := X
    intro H locs ls hP hD hS hl
    exact lv_tableIn hx hb hd (by omega) (by omega) (by rw [e1]; exact h1) h2 (kk H locs ls hP hD hS hl)
  · rw [if_neg hc] at hf
    have kd := kd hf
    obtain ⟨p, l, e, R, s, m, args, below, meth, c, E, A⟩ := Γ
    obtain ⟨hx, hb, hr, hlk, hml, hown, hts, hK, hA, hA0, hO, hR⟩ := X
    intro H locs ls hP hD hS hl
    exact lv_tableOut hx hb hd (by omega) htd (kd H locs ls hP hD hS hl)
theorem g_get (X : gCX Γ cc nL ret own rm) {C : String} {T : u_T} {N ci idx : Nat} (hin : ∀ w ∈ u_ws C T N, w ∈ lw_all) (q0 : Nat) {a : Nat} {fs : List Value} (k : Nat) {v : Value} (he : w[q0]? = some (a, .inr (ci, fs))) (hc : vwCl[ci]? = some (C, T, N)) (hk : k < N) (hlink : Cond.fieldLink own idx (T k).1 (T k).2.1 (T k).2.2.1 ∈ lw_all) (hv : fs[k]? = some v) (hd : decode cc pc = .ok (.getfield idx, 3)) (kk : gW Γ Q w nL cells slots (pc + 3) lv (v :: st)) : gW Γ Q w nL cells slots pc lv (.ref a :: st) := by
  obtain ⟨p, l, e, R, s, m, args, below, meth, c, E, A⟩ := Γ
  obtain ⟨hx, hb, hr, hlk, hml, hown, hts, hK, hA, hA0, hO, hR⟩ := X
  intro H locs ls hP hD hS hl
  exact va_get hx hb hts hin hown hK.1 hP q0 he hc k hk (hts _ hlink) (fun _ h => h) hv hd (kk H locs ls hP hD hS hl)
theorem g_getN (X : gCX Γ cc nL ret own rm) {C : String} {T : u_T} {N ci idx : Nat} (hin : ∀ w ∈ u_ws C T N, w ∈ lw_all) (q0 : Nat) {a : Nat} {fs : List Value} (k : Nat) {v : Value} (he : w[q0]? = some (a, .inr (ci, fs))) (hc : vwCl[ci]? = some (C, T, N)) (hk : k < N) (j : Nat) (hj : gNF[j]? = some (own, idx, (T k).1, (T k).2.1, (T k).2.2.1)) (hv : fs[k]? = some v) (hd : decode cc pc = .ok (.getfield idx, 3)) (kk : gW Γ Q w nL cells slots (pc + 3) lv (v :: st)) : gW Γ Q w nL cells slots pc lv (.ref a :: st) := by
  obtain ⟨p, l, e, R, s, m, args, below, meth, c, E, A⟩ := Γ
  obtain ⟨hx, hb, hr, hlk, hml, hown, hts, hK, hA, hA0, hO, hR⟩ := X
  intro H locs ls hP hD hS hl
  exact va_getN hx hb hts hin hown hK.1 hP q0 he hc k hk (va_Nw.use rfl (hK.2.1.1 _ (List.mem_of_getElem? hj))) (fun _ h => h) hv hd (kk H locs ls hP hD hS hl)
theorem g_put (X : gCX Γ cc nL ret own rm) {C : String} {T : u_T} {N ci idx : Nat} (hin : ∀ w ∈ u_ws C T N, w ∈ lw_all) {ty0 : Nat → FieldType} (hty : ∀ k, k < N → parseFieldDescriptor (T k).2.2.1 = some (ty0 k)) (hnm : ∀ a, a < N → ∀ b, b < N → a ≠ b → (T a).2.1 ≠ (T b).2.1) (q0 : Nat) {a : Nat} {fs : List Value} (k : Nat) {v : Value} {ty : FieldType} (w' : va_W) (he : w[q0]? = some (a, .inr (ci, fs))) (hc : vwCl[ci]? = some (C, T, N)) (hk : k < N) (hlink : Cond.fieldLink own idx (T k).1 (T k).2.1 (T k).2.2.1 ∈ lw_all) (hfin : (T k).2.2.2 = false) (hd0 : ty0 k = ty) (hn : narrow ty v = v) (hfit : fits ty v = true) (hl0 : k < fs.length) (hw : w.set q0 (a, .inr (ci, fs.set k v)) = w') (hd : decode cc pc = .ok (.putfield idx, 3)) (kk : gW Γ Q w' nL cells slots (pc + 3) lv st) : gW Γ Q w nL cells slots pc lv (v :: .ref a :: st) := by
  obtain ⟨p, l, e, R, s, m, args, below, meth, c, E, A⟩ := Γ
  obtain ⟨hx, hb, hr, hlk, hml, hown, hts, hK, hA, hA0, hO, hR⟩ := X
  intro H locs ls hP hD hS hl
  subst hw; subst hd0
  exact va_put hx hb hts hin ty0 hty hnm hown hK.1 hP hD hS q0 he hc k hk (hts _ hlink) (fun _ h => h) hfin (hty k hk) hn hfit hl0 hd (fun H1 locs1 hP1 hD1 hS1 => kk H1 locs1 ls hP1 hD1 hS1 hl)
theorem g_putN (X : gCX Γ cc nL ret own rm) {C : String} {T : u_T} {N ci idx : Nat} (hin : ∀ w ∈ u_ws C T N, w ∈ lw_all) {ty0 : Nat → FieldType} (hty : ∀ k, k < N → parseFieldDescriptor (T k).2.2.1 = some (ty0 k)) (hnm : ∀ a, a < N → ∀ b, b < N → a ≠ b → (T a).2.1 ≠ (T b).2.1) (q0 : Nat) {a : Nat} {fs : List Value} (k : Nat) {v : Value} {ty : FieldType} (w' : va_W) (he : w[q0]? = some (a, .inr (ci, fs))) (hc : vwCl[ci]? = some (C, T, N)) (hk : k < N) (j : Nat) (hj : gNF[j]? = some (own, idx, (T k).1, (T k).2.1, (T k).2.2.1)) (hfin : (T k).2.2.2 = false) (hd0 : ty0 k = ty) (hn : narrow ty v = v) (hfit : fits ty v = true) (hl0 : k < fs.length) (hw : w.set q0 (a, .inr (ci, fs.set k v)) = w') (hd : decode cc pc = .ok (.putfield idx, 3)) (kk : gW Γ Q w' nL cells slots (pc + 3) lv st) : gW Γ Q w nL cells slots pc lv (v :: .ref a :: st) := by
  obtain ⟨p, l, e, R, s, m, args, below, meth, c, E, A⟩ := Γ
  obtain ⟨hx, hb, hr, hlk, hml, hown, hts, hK, hA, hA0, hO, hR⟩ := X
  intro H locs ls hP hD hS hl
  subst hw; subst hd0
  exact va_putN hx hb hts hin ty0 hty hnm hown hK.1 hP hD hS q0 he hc k hk (va_Nw.use rfl (hK.2.1.1 _ (List.mem_of_getElem? hj))) (fun _ h => h) hfin (hty k hk) hn hfit hl0 hd (fun H1 locs1 hP1 hD1 hS1 => kk H1 locs1 ls hP1 hD1 hS1 hl)
theorem g_iald (X : gCX Γ cc nL ret own rm) (q0 : Nat) {a n : Nat} {f : Nat → Int32} {i : Int32} {F : Int32 → Option α} (ha : w[q0]? = some (a, .inl ((gEo Γ).2.2.1 2, n, .inl f))) (hd : decode cc pc = .ok (.iaload, 1)) (hf : gld n f i F = some z) (kk : ∀ v : Int32, F v = some z → gW Γ Q w nL cells slots (pc + 1) lv (.int v :: st)) : gW Γ Q w nL cells slots pc lv (.int i :: .ref a :: st) := by
  obtain ⟨hc, hf⟩ := g_ob hf
  obtain ⟨p, l, e, R, s, m, args, below, meth, c, E, A⟩ := Γ
  obtain ⟨hx, hb, hr, hlk, hml, hown, hts, hK, hA, hA0, hO, hR⟩ := X
  intro H locs ls hP hD hS hl
  exact va_iald hx hb hK.1 hP q0 2 ha rfl hc hd (kk _ hf H locs ls hP hD hS hl)
theorem g_bald (X : gCX Γ cc nL ret own rm) (q0 : Nat) {a n : Nat} {f : Nat → Int32} {i : Int32} {F : Int32 → Option α} (ha : w[q0]? = some (a, .inl ((gEo Γ).2.2.1 0, n, .inl f))) (hd : decode cc pc = .ok (.baload, 1)) (hf : gld n f i F = some z) (kk : ∀ v : Int32, F v = some z → gW Γ Q w nL cells slots (pc + 1) lv (.int v :: st)) : gW Γ Q w nL cells slots pc lv (.int i :: .ref a :: st) := by
  obtain ⟨hc, hf⟩ := g_ob hf
  obtain ⟨p, l, e, R, s, m, args, below, meth, c, E, A⟩ := Γ
  obtain ⟨hx, hb, hr, hlk, hml, hown, hts, hK, hA, hA0, hO, hR⟩ := X
  intro H locs ls hP hD hS hl
  exact va_bald hx hb hK.1 hP q0 0 ha rfl hc hd (kk _ hf H locs ls hP hD hS hl)
theorem g_sald (X : gCX Γ cc nL ret own rm) (q0 : Nat) {a n : Nat} {f : Nat → Int32} {i : Int32} {F : Int32 → Option α} (ha : w[q0]? = some (a, .inl ((gEo Γ).2.2.1 1, n, .inl f))) (hd : decode cc pc = .ok (.saload, 1)) (hf : gld n f i F = some z) (kk : ∀ v : Int32, F v = some z → gW Γ Q w nL cells slots (pc + 1) lv (.int v :: st)) : gW Γ Q w nL cells slots pc lv (.int i :: .ref a :: st) := by
  obtain ⟨hc, hf⟩ := g_ob hf
  obtain ⟨p, l, e, R, s, m, args, below, meth, c, E, A⟩ := Γ
  obtain ⟨hx, hb, hr, hlk, hml, hown, hts, hK, hA, hA0, hO, hR⟩ := X
  intro H locs ls hP hD hS hl
  exact va_sald hx hb hK.1 hP q0 1 ha rfl hc hd (kk _ hf H locs ls hP hD hS hl)
theorem g_zald (X : gCX Γ cc nL ret own rm) (q0 : Nat) {a n : Nat} {f : Nat → Int32} {i : Int32} {F : Int32 → Option α} (ha : w[q0]? = some (a, .inl ((gEo Γ).2.2.1 3, n, .inl f))) (hd : decode cc pc = .ok (.baload, 1)) (hf : gld n f i F = some z) (kk : ∀ v : Int32, F v = some z → gW Γ Q w nL cells slots (pc + 1) lv (.int v :: st)) : gW Γ Q w nL cells slots pc lv (.int i :: .ref a :: st) := by
  obtain ⟨hc, hf⟩ := g_ob hf
  obtain ⟨p, l, e, R, s, m, args, below, meth, c, E, A⟩ := Γ
  obtain ⟨hx, hb, hr, hlk, hml, hown, hts, hK, hA, hA0, hO, hR⟩ := X
  intro H locs ls hP hD hS hl
  exact va_zald hx hb hK.1 hP q0 3 ha rfl hc hd (kk _ hf H locs ls hP hD hS hl)
theorem g_iast (X : gCX Γ cc nL ret own rm) (q0 : Nat) {a n : Nat} {f : Nat → Int32} {i x : Int32} {F : (Nat → Int32) → Option α} (w' : (Nat → Int32) → va_W) (ha : w[q0]? = some (a, .inl ((gEo Γ).2.2.1 2, n, .inl f))) (hw : ∀ g, w.set q0 (a, .inl ((gEo Γ).2.2.1 2, n, .inl g)) = w' g) (hd : decode cc pc = .ok (.iastore, 1)) (hf : gst n f i x F = some z) (kk : ∀ g : Nat → Int32, F g = some z → gW Γ Q (w' g) nL cells slots (pc + 1) lv st) : gW Γ Q w nL cells slots pc lv (.int x :: .int i :: .ref a :: st) := by
  obtain ⟨hc, hf⟩ := g_ob hf
  obtain ⟨p, l, e, R, s, m, args, below, meth, c, E, A⟩ := Γ
  obtain ⟨hx, hb, hr, hlk, hml, hown, hts, hK, hA, hA0, hO, hR⟩ := X
  intro H locs ls hP hD hS hl
  exact va_iast hx hb hK.1 hP hD hS q0 2 ha rfl hc hd (fun H1 locs1 hP1 hD1 hS1 => kk _ hf H1 locs1 ls (by rw [← hw]; exact hP1) (by rw [← hw]; exact hD1) hS1 hl)
theorem g_bast (X : gCX Γ cc nL ret own rm) (q0 : Nat) {a n : Nat} {f : Nat → Int32} {i x : Int32} {F : (Nat → Int32) → Option α} (w' : (Nat → Int32) → va_W) (ha : w[q0]? = some (a, .inl ((gEo Γ).2.2.1 0, n, .inl f))) (hw : ∀ g, w.set q0 (a, .inl ((gEo Γ).2.2.1 0, n, .inl g)) = w' g) (hd : decode cc pc = .ok (.bastore, 1)) (hf : gst n f i (vp_nar .byte x) F = some z) (kk : ∀ g : Nat → Int32, F g = some z → gW Γ Q (w' g) nL cells slots (pc + 1) lv st) : gW Γ Q w nL cells slots pc lv (.int x :: .int i :: .ref a :: st) := by
  obtain ⟨hc, hf⟩ := g_ob hf
  obtain ⟨p, l, e, R, s, m, args, below, meth, c, E, A⟩ := Γ
  obtain ⟨hx, hb, hr, hlk, hml, hown, hts, hK, hA, hA0, hO, hR⟩ := X
  intro H locs ls hP hD hS hl
  exact va_bast hx hb hK.1 hP hD hS q0 0 ha rfl hc hd (fun H1 locs1 hP1 hD1 hS1 => kk _ hf H1 locs1 ls (by rw [← hw]; exact hP1) (by rw [← hw]; exact hD1) hS1 hl)
theorem g_sast (X : gCX Γ cc nL ret own rm) (q0 : Nat) {a n : Nat} {f : Nat → Int32} {i x : Int32} {F : (Nat → Int32) → Option α} (w' : (Nat → Int32) → va_W) (ha : w[q0]? = some (a, .inl ((gEo Γ).2.2.1 1, n, .inl f))) (hw : ∀ g, w.set q0 (a, .inl ((gEo Γ).2.2.1 1, n, .inl g)) = w' g) (hd : decode cc pc = .ok (.sastore, 1)) (hf : gst n f i (vp_nar .short x) F = some z) (kk : ∀ g : Nat → Int32, F g = some z → gW Γ Q (w' g) nL cells slots (pc + 1) lv st) : gW Γ Q w nL cells slots pc lv (.int x :: .int i :: .ref a :: st) := by
  obtain ⟨hc, hf⟩ := g_ob hf
  obtain ⟨p, l, e, R, s, m, args, below, meth, c, E, A⟩ := Γ
  obtain ⟨hx, hb, hr, hlk, hml, hown, hts, hK, hA, hA0, hO, hR⟩ := X
  intro H locs ls hP hD hS hl
  exact va_sast hx hb hK.1 hP hD hS q0 1 ha rfl hc hd (fun H1 locs1 hP1 hD1 hS1 => kk _ hf H1 locs1 ls (by rw [← hw]; exact hP1) (by rw [← hw]; exact hD1) hS1 hl)
theorem g_zast (X : gCX Γ cc nL ret own rm) (q0 : Nat) {a n : Nat} {f : Nat → Int32} {i x : Int32} {F : (Nat → Int32) → Option α} (w' : (Nat → Int32) → va_W) (ha : w[q0]? = some (a, .inl ((gEo Γ).2.2.1 3, n, .inl f))) (hw : ∀ g, w.set q0 (a, .inl ((gEo Γ).2.2.1 3, n, .inl g)) = w' g) (hd : decode cc pc = .ok (.bastore, 1)) (hf : gst n f i (vp_nar .boolean x) F = some z) (kk : ∀ g : Nat → Int32, F g = some z → gW Γ Q (w' g) nL cells slots (pc + 1) lv st) : gW Γ Q w nL cells slots pc lv (.int x :: .int i :: .ref a :: st) := by
  obtain ⟨hc, hf⟩ := g_ob hf
  obtain ⟨p, l, e, R, s, m, args, below, meth, c, E, A⟩ := Γ
  obtain ⟨hx, hb, hr, hlk, hml, hown, hts, hK, hA, hA0, hO, hR⟩ := X
  intro H locs ls hP hD hS hl
  exact va_zast hx hb hK.1 hP hD hS q0 3 ha rfl hc hd (fun H1 locs1 hP1 hD1 hS1 => kk _ hf H1 locs1 ls (by rw [← hw]; exact hP1) (by rw [← hw]; exact hD1) hS1 hl)
theorem g_iret {Γ : gG} {w : va_W} {nL cells slots pc : Nat} {lv : List (Nat × Value)} {cc : ByteArray} {own : String} {rm : Room} {S : Type} {wf : S → va_W} {v r : Int32} {u0 u : S} (X : gCX Γ cc nL (some .int) own rm) (hw : w = wf u0) (hd : decode cc pc = .ok (.ireturn, 1)) (hf : (some (v, u0) : Option (Int32 × S)) = some (r, u)) : gW Γ (gMQ Γ (gPi (gEo Γ) wf r u (gAo Γ)) cells slots) w nL cells slots pc lv [.int v] := by
  subst hw
  cases hf
  obtain ⟨p, l, e, R, s, m, args, below, meth, c, E, A⟩ := Γ
  obtain ⟨hx, hb, hr, hlk, hml, hown, hts, hK, hA, hA0, hO, hR⟩ := X
  intro H locs ls hP hD hS hl
  exact W.iret hx hb hr (fun t ht hW => ⟨⟨v, u0, rfl, ⟨rfl, rfl⟩, by rw [ht]; exact hP, hD⟩, hS.F ht⟩) hS.2.2 hd
theorem g_lret {Γ : gG} {w : va_W} {nL cells slots pc : Nat} {lv : List (Nat × Value)} {cc : ByteArray} {own : String} {rm : Room} {S : Type} {wf : S → va_W} {v r : Int64} {u0 u : S} (X : gCX Γ cc nL (some .long) own rm) (hw : w = wf u0) (hd : decode cc pc = .ok (.lreturn, 1)) (hf : (some (v, u0) : Option (Int64 × S)) = some (r, u)) : gW Γ (gMQ Γ (gPl (gEo Γ) wf r u (gAo Γ)) cells slots) w nL cells slots pc lv [.long v] := by
  subst hw
  cases hf
  obtain ⟨p, l, e, R, s, m, args, below, meth, c, E, A⟩ := Γ
  obtain ⟨hx, hb, hr, hlk, hml, hown, hts, hK, hA, hA0, hO, hR⟩ := X
  intro H locs ls hP hD hS hl
  exact W.lret hx hb hr (fun t ht hW => ⟨⟨v, u0, rfl, ⟨rfl, rfl⟩, by rw [ht]; exact hP, hD⟩, hS.F ht⟩) hS.2.2 hd
theorem g_zret {Γ : gG} {w : va_W} {nL cells slots pc : Nat} {lv : List (Nat × Value)} {cc : ByteArray} {own : String} {rm : Room} {S : Type} {wf : S → va_W} {v r : Int32} {u0 u : S} (X : gCX Γ cc nL (some .boolean) own rm) (hw : w = wf u0) (hd : decode cc pc = .ok (.ireturn, 1)) (hf : gzr v u0 = some (r, u)) : gW Γ (gMQ Γ (gPi (gEo Γ) wf r u (gAo Γ)) cells slots) w nL cells slots pc lv [.int v] := by
  subst hw
  have hn : narrow .boolean (.int v) = .int v ∧ (some (v, u0) : Option (Int32 × S)) = some (r, u) := by
    unfold gzr at hf
    by_cases hc : v = 0 ∨ v = 1
    · rw [if_pos hc] at hf
      refine ⟨?_, hf⟩
      rcases hc with rfl | rfl <;> rfl
    · rw [if_neg hc] at hf; cases hf
  obtain ⟨hn, hf⟩ := hn
  cases hf
  obtain ⟨p, l, e, R, s, m, args, below, meth, c, E, A⟩ := Γ
  obtain ⟨hx, hb, hr, hlk, hml, hown, hts, hK, hA, hA0, hO, hR⟩ := X
  intro H locs ls hP hD hS hl
  exact W.zret hx hb hr hn (fun t ht hW => ⟨⟨v, u0, rfl, ⟨rfl, rfl⟩, by rw [ht]; exact hP, hD⟩, hS.F ht⟩) hS.2.2 hd
theorem g_vret {Γ : gG} {w : va_W} {nL cells slots pc : Nat} {lv : List (Nat × Value)} {cc : ByteArray} {own : String} {rm : Room} {S : Type} {wf : S → va_W} {u0 u : S} (X : gCX Γ cc nL none own rm) (hw : w = wf u0) (hd : decode cc pc = .ok (.return_, 1)) (hf : (some u0 : Option S) = some u) : gW Γ (gMQ Γ (gPv (gEo Γ) wf u (gAo Γ)) cells slots) w nL cells slots pc lv [] := by
  subst hw
  cases hf
  obtain ⟨p, l, e, R, s, m, args, below, meth, c, E, A⟩ := Γ
  obtain ⟨hx, hb, hr, hlk, hml, hown, hts, hK, hA, hA0, hO, hR⟩ := X
  intro H locs ls hP hD hS hl
  exact W.vret hx hb hr (fun t ht hW => ⟨⟨u0, rfl, rfl, by rw [ht]; exact hP, hD⟩, hS.F ht⟩) hS.2.2 hd
theorem g_widen (k n : Nat) (h1 : cells ≤ k) (h2 : slots ≤ n) (kk : gW Γ Q w nL k n pc lv st) : gW Γ Q w nL cells slots pc lv st := by
  obtain ⟨p, l, e, R, s, m, args, below, meth, c, E, A⟩ := Γ
  intro H locs ls hP hD hS hl
  exact W.widen h1 h2 (kk H locs ls hP hD hS hl)
/-- fewer locals -/
theorem g_sub (ks : List Nat) (lv' : List (Nat × Value)) (hl' : lv_pick lv ks = lv') (kk : gW Γ Q w nL cells slots pc lv' st) : gW Γ Q w nL cells slots pc lv st := by
  obtain ⟨p, l, e, R, s, m, args, below, meth, c, E, A⟩ := Γ
  intro H locs ls hP hD hS hl
  exact kk H locs ls hP hD hS (lv_sub hl ks hl')
theorem g_min (X : gCX Γ cc nL ret own rm) {idx : Nat} {x y : Int32} (hlink : Cond.methodLink own idx Lib.Math.min.name ∈ lw_all) (hstat : Cond.static Lib.Math.min.name ∈ lw_all) (hini : Cond.initialized "java/lang/Math" ∈ lw_all) (hcode : Cond.code Lib.Math.min.name Lib.Math.min.code 2 (some .int) ∈ lw_all) (hf : 1 ≤ rm.frames) (hlo : (st.map fun v => v.category).sum + 13 ≤ rm.locals) (hc : cells ≤ rm.cells ∧ slots ≤ rm.slots) (hd : decode cc pc = .ok (.invokestatic idx, 3)) (kk : gW Γ Q w nL cells slots (pc + 3) lv (.int (if y < x then y else x) :: st)) : gW Γ Q w nL cells slots pc lv (.int y :: .int x :: st) := by
  obtain ⟨p, l, e, R, s, m, args, below, meth, c, E, A⟩ := Γ
  obtain ⟨hx, hb, hr, hlk, hml, hown, hts, hK, hA, hA0, hO, hR⟩ := X
  intro H locs ls hP hD hS hl
  subst hR
  exact va_mmin hx hb (hml.trans hl.1.symm) hown (hts _ hlink) (hts _ hstat) (hts _ hini) (hts _ hcode) hf hlo hc.1 hc.2 hd (kk H locs ls hP hD hS hl)
theorem g_max (X : gCX Γ cc nL ret own rm) {idx : Nat} {x y : Int32} (hlink : Cond.methodLink own idx Lib.Math.max.name ∈ lw_all) (hstat : Cond.static Lib.Math.max.name ∈ lw_all) (hini : Cond.initialized "java/lang/Math" ∈ lw_all) (hcode : Cond.code Lib.Math.max.name Lib.Math.max.code 2 (some .int) ∈ lw_all) (hf : 1 ≤ rm.frames) (hlo : (st.map fun v => v.category).sum + 13 ≤ rm.locals) (hc : cells ≤ rm.cells ∧ slots ≤ rm.slots) (hd : decode cc pc = .ok (.invokestatic idx, 3)) (kk : gW Γ Q w nL cells slots (pc + 3) lv (.int (if x < y then y else x) :: st)) : gW Γ Q w nL cells slots pc lv (.int y :: .int x :: st) := by
  obtain ⟨p, l, e, R, s, m, args, below, meth, c, E, A⟩ := Γ
  obtain ⟨hx, hb, hr, hlk, hml, hown, hts, hK, hA, hA0, hO, hR⟩ := X
  intro H locs ls hP hD hS hl
  subst hR
  exact va_mmax hx hb (hml.trans hl.1.symm) hown (hts _ hlink) (hts _ hstat) (hts _ hini) (hts _ hcode) hf hlo hc.1 hc.2 hd (kk H locs ls hP hD hS hl)
theorem g_copy (X : gCX Γ cc nL ret own rm) (q0 q1 t0 : Nat) {a0 a1 n0 n1 idx : Nat} {f g : Nat → Int32} {ty : FieldType} {n : Int32} {F : (Nat → Int32) → Option α} (w' : (Nat → Int32) → va_W) (hlink : Cond.methodLink own idx arraycopyName ∈ lw_all) (hstat : Cond.static arraycopyName ∈ lw_all) (hnat : Cond.native arraycopyName ∈ lw_all) (hini : Cond.initialized "java/lang/System" ∈ lw_all) (ha0 : w[q0]? = some (a0, .inl ((gEo Γ).2.2.1 t0, n0, .inl f))) (ha1 : w[q1]? = some (a1, .inl ((gEo Γ).2.2.1 t0, n1, .inl g))) (ht : (gTys (gEo Γ))[t0]? = some ((gEo Γ).2.2.1 t0, ty)) (hprim : refKind ty = false) (hw : ∀ g, w.set q1 (a1, .inl ((gEo Γ).2.2.1 t0, n1, .inl g)) = w' g) (hfr : 1 ≤ rm.frames) (hlo : (st.map fun v => v.category).sum + (nativeFrameWords "java/lang/System" "arraycopy" 5 + 11) ≤ rm.locals) (hd : decode cc pc = .ok (.invokestatic idx, 3)) (hf : gcp ty n0 n1 f g n F = some z) (kk : ∀ g' : Nat → Int32, F g' = some z → gW Γ Q (w' g') nL cells slots (pc + 3) lv st) : gW Γ Q w nL cells slots pc lv (.int n :: .int 0 :: .ref a1 :: .int 0 :: .ref a0 :: st) := by
  unfold gcp at hf
  by_cases hc : gfit ty n.toNatClampNeg f = true ∧ ¬ n < 0 ∧ n.toNatClampNeg ≤ n0 ∧ n.toNatClampNeg ≤ n1
  · rw [if_pos hc] at hf
    have hfit : ∀ i, i < n.toNatClampNeg → fits ty (.int (f ((0 : Int32).toNatClampNeg + i))) = true := fun i hi => by
      have := List.all_eq_true.mp hc.1 i (List.mem_range.mpr hi)
      rw [show (0 : Int32).toNatClampNeg + i = i from Nat.zero_add i]
      exact this
    have e0 : (0 : Int32).toNatClampNeg = 0 := rfl
    obtain ⟨p, l, e, R, s, m, args, below, meth, c, E, A⟩ := Γ
    obtain ⟨hx, hb, hr, hlk, hml, hown, hts, hK, hA, hA0, hO, hR⟩ := X
    intro H locs ls hP hD hS hl
    subst hR
    exact va_copyi hx hb (hml.trans hl.1.symm) hown (hts _ hlink) (hts _ hnat) (hts _ hstat) (hts _ hini) hK.1 hP hD hS q0 q1 t0 t0 ha0 ha1 ht ht hprim (by decide) (by decide) hc.2.1 (by rw [e0, Nat.zero_add]; exact hc.2.2.1) (by rw [e0, Nat.zero_add]; exact hc.2.2.2) hfit hfr hlo hd (fun H1 locs1 hP1 hD1 hS1 => kk _ hf H1 locs1 ls (by rw [← hw]; exact hP1) (by rw [← hw]; exact hD1) hS1 hl)
  · rw [if_neg hc] at hf; cases hf
end GRows
theorem g_subP {D : va_G} {cl : List vw_C} {ws ws' : va_W} {H : Heap} (h : va_P D cl ws H) {is : List Nat} (hs : is.map (fun i => ws[i]?) = ws'.map some) : va_P D cl ws' H := by
  intro k q hk
  have h1 : (is.map (fun i => ws[i]?))[k]? = some (some q) := by rw [hs, List.getElem?_map, hk]; rfl
  rw [List.getElem?_map] at h1
  cases hi : is[k]? with
  | none => rw [hi] at h1; cases h1
  | some i => rw [hi] at h1; exact h i q (Option.some.inj h1)
theorem g_old {E : gE} {A : Nat → Prop} {H0 H : Heap} {locs : List Loc} (hS : va_S A H0 H locs) (hA0 : ∀ q, A q → E.2.2.2.1.size ≤ q) (hO : gOld E H0) : gOld E H :=
  ⟨Nat.le_trans hO.1 hS.1, fun q hq => (hS.2.1 q (Nat.lt_of_lt_of_le hq hO.1) (fun h => Nat.lt_irrefl _ (Nat.lt_of_lt_of_le hq (hA0 q h)))).trans (hO.2 q hq)⟩
theorem g_callVi {Γ : gG} {Q : State → Prop} {w : va_W} {nL cells slots pc : Nat} {lv : List (Nat × Value)} {cc : ByteArray} {ret : Option FieldType} {own : String} {rm : Room} {α : Type} {z : α} (X : gCX Γ cc nL ret own rm) {y : MethodName} {yc : ByteArray} {ynL idx : Nat} {yret : Option FieldType} {rmc : Room} {mc ms : Nat} {As rest : List Value} {wc : va_W} {b : Nat} {S1 : Type} {wfc : S1 → va_W} {fc : Option (Int32 × S1)} {K : (Int32 × S1) → Option α} (n : Nat) {C : String} (hg : GoodIn lw_all (wsV own idx C y (ws_ y yc ynL yret))) (hdd : y.cls = C ∧ y.cls ≠ "java/lang/invoke/MethodHandle" ∧ y.cls ≠ "java/lang/invoke/VarHandle" ∧ (parseMethodDescriptor y.desc).map (fun d => d.parameters.length) = some n)
    (hM : ∀ (r1 : Int32) (u1 : S1), fc = some (r1, u1) → ∀ sz, Met (gl Γ) y (ws_ y yc ynL yret) rmc (gPc (.ref b :: As) (gEo Γ) wc sz) (gPi (gEo Γ) wfc r1 u1 (va_A wc sz)) mc ms (va_A wc sz)) {ci rq : Nat} {vc : vw_C} {vfs : List Value} (hrv : wc[rq]? = some (b, .inr (ci, vfs))) (hvc : vwCl[ci]? = some vc) (hvC : vc.1 = C)
    (hrc : rmc.cells = mc) (hrs : rmc.slots = ms) (hRm : rmc.frames + 1 ≤ rm.frames ∧ 8 + (ynL + 11) + rmc.locals ≤ rm.locals) (hn : As.length = n) (hst : (rest.map fun v => v.category).sum ≤ 8) (hcs : cells + mc ≤ rm.cells ∧ slots + ms ≤ rm.slots)
    (isC isR is : List Nat) (w' : S1 → va_W) (hC : isC.map (fun i => w[i]?) = wc.map some) (hRr : isR.map (fun i => w[i]?) = (g_pick w isR).map some) (hnc : va_nd isC = true) (hnd : va_nd isR = true) (hdis : ∀ i ∈ isR, i ∉ isC) (hnd2 : va_nd is = true) (hw' : ∀ u1, is.map (fun i => (g_pick w isR ++ wfc u1)[i]?) = (w' u1).map some)
    (hd : decode cc pc = .ok (.invokevirtual idx, 3)) (hf : fc.bind K = some z) (kk : ∀ (r1 : Int32) (u1 : S1), fc = some (r1, u1) → K (r1, u1) = some z → gW Γ Q (w' u1) nL (cells + mc) (slots + ms) (pc + 3) lv (.int r1 :: rest)) : gW Γ Q w nL cells slots pc lv (As.reverse ++ .ref b :: rest) := by
  obtain ⟨x1, hfc, hf⟩ := g_bd hf
  obtain ⟨r1, u1⟩ := x1
  obtain ⟨p, l, e, R, s, m, args, below, meth, c, E, A⟩ := Γ
  obtain ⟨hx, hb, hr, hlk, hml, hown, hts, hK, hA, hA0, hO, hR⟩ := X
  intro H locs ls hP hD hS hl
  subst hR
  have hPc : va_P (E.1, E.2.1) vwCl wc H := g_subP hP hC
  have hDc := hD.sub (ws' := wc) isC hnc hC
  have hFc := va_free (wc := wc) hD hS hA isC hC
  have hOc : gOld E H := g_old hS hA0 hO
  have hrecv : ∃ cellB : Cell, H[b]? = some cellB ∧ cellB.vm.isStatics = false ∧ s.vm.findClass C = some cellB.cls := by
    rw [← hvC]
    exact va_recv hK.1 hPc hvc hrv
  refine va_calli (va_runV (As := As) (rest := rest) ⟨hx, hb, hml, hown, hts⟩ (hM r1 u1 hfc H.size) (cwV n hts hg rfl hrc hrs hdd ⟨hRm.1, hRm.2⟩) ⟨gPc.blind, hrecv, fun U hU hW => ⟨rfl, by rw [hU], by rw [hU]; exact hPc, hK.warm hW, hDc.weaken (fun _ _ _ h => hA0 _ h), by rw [hU]; exact hOc⟩⟩ rfl hn hl.1 rfl (lv_room hst) hd hcs) hS (fun q _ h => hFc q h) hFc (fun r2 u2 t H1 locs1 ht hvm hw1 hB hz1 hk1 hS1 => ?_)
  obtain ⟨rfl, rfl⟩ := hw1
  obtain ⟨hP1, hD1⟩ := hB
  rw [ht] at hP1
  obtain ⟨hP2, hD2⟩ := va_join (wr := g_pick w isR) hP hD isC isR hC hRr hnd hdis hk1 hFc hP1 hD1
  exact kk _ _ hfc hf H1 locs1 ls (g_subP hP2 (hw' _)) (hD2.sub is hnd2 (hw' _)) hS1 hl
theorem g_callVl {Γ : gG} {Q : State → Prop} {w : va_W} {nL cells slots pc : Nat} {lv : List (Nat × Value)} {cc : ByteArray} {ret : Option FieldType} {own : String} {rm : Room} {α : Type} {z : α} (X : gCX Γ cc nL ret own rm) {y : MethodName} {yc : ByteArray} {ynL idx : Nat} {yret : Option FieldType} {rmc : Room} {mc ms : Nat} {As rest : List Value} {wc : va_W} {b : Nat} {S1 : Type} {wfc : S1 → va_W} {fc : Option (Int64 × S1)} {K : (Int64 × S1) → Option α} (n : Nat) {C : String} (hg : GoodIn lw_all (wsV own idx C y (ws_ y yc ynL yret))) (hdd : y.cls = C ∧ y.cls ≠ "java/lang/invoke/MethodHandle" ∧ y.cls ≠ "java/lang/invoke/VarHandle" ∧ (parseMethodDescriptor y.desc).map (fun d => d.parameters.length) = some n)
    (hM : ∀ (r1 : Int64) (u1 : S1), fc = some (r1, u1) → ∀ sz, Met (gl Γ) y (ws_ y yc ynL yret) rmc (gPc (.ref b :: As) (gEo Γ) wc sz) (gPl (gEo Γ) wfc r1 u1 (va_A wc sz)) mc ms (va_A wc sz)) {ci rq : Nat} {vc : vw_C} {vfs : List Value} (hrv : wc[rq]? = some (b, .inr (ci, vfs))) (hvc : vwCl[ci]? = some vc) (hvC : vc.1 = C)
    (hrc : rmc.cells = mc) (hrs : rmc.slots = ms) (hRm : rmc.frames + 1 ≤ rm.frames ∧ 8 + (ynL + 11) + rmc.locals ≤ rm.locals) (hn : As.length = n) (hst : (rest.map fun v => v.category).sum ≤ 8) (hcs : cells + mc ≤ rm.cells ∧ slots + ms ≤ rm.slots)
    (isC isR is : List Nat) (w' : S1 → va_W) (hC : isC.map (fun i => w[i]?) = wc.map some) (hRr : isR.map (fun i => w[i]?) = (g_pick w isR).map some) (hnc : va_nd isC = true) (hnd : va_nd isR = true) (hdis : ∀ i ∈ isR, i ∉ isC) (hnd2 : va_nd is = true) (hw' : ∀ u1, is.map (fun i => (g_pick w isR ++ wfc u1)[i]?) = (w' u1).map some)
    (hd : decode cc pc = .ok (.invokevirtual idx, 3)) (hf : fc.bind K = some z) (kk : ∀ (r1 : Int64) (u1 : S1), fc = some (r1, u1) → K (r1, u1) = some z → gW Γ Q (w' u1) nL (cells + mc) (slots + ms) (pc + 3) lv (.long r1 :: rest)) : gW Γ Q w nL cells slots pc lv (As.reverse ++ .ref b :: rest) := by
  obtain ⟨x1, hfc, hf⟩ := g_bd hf
  obtain ⟨r1, u1⟩ := x1
  obtain ⟨p, l, e, R, s, m, args, below, meth, c, E, A⟩ := Γ
  obtain ⟨hx, hb, hr, hlk, hml, hown, hts, hK, hA, hA0, hO, hR⟩ := X
  intro H locs ls hP hD hS hl
  subst hR
  have hPc : va_P (E.1, E.2.1) vwCl wc H := g_subP hP hC
  have hDc := hD.sub (ws' := wc) isC hnc hC
  have hFc := va_free (wc := wc) hD hS hA isC hC
  have hOc : gOld E H := g_old hS hA0 hO
  have hrecv : ∃ cellB : Cell, H[b]? = some cellB ∧ cellB.vm.isStatics = false ∧ s.vm.findClass C = some cellB.cls := by
    rw [← hvC]
    exact va_recv hK.1 hPc hvc hrv
  refine va_calll (va_runV (As := As) (rest := rest) ⟨hx, hb, hml, hown, hts⟩ (hM r1 u1 hfc H.size) (cwV n hts hg rfl hrc hrs hdd ⟨hRm.1, hRm.2⟩) ⟨gPc.blind, hrecv, fun U hU hW => ⟨rfl, by rw [hU], by rw [hU]; exact hPc, hK.warm hW, hDc.weaken (fun _ _ _ h => hA0 _ h), by rw [hU]; exact hOc⟩⟩ rfl hn hl.1 rfl (lv_room hst) hd hcs) hS (fun q _ h => hFc q h) hFc (fun r2 u2 t H1 locs1 ht hvm hw1 hB hz1 hk1 hS1 => ?_)
  obtain ⟨rfl, rfl⟩ := hw1
  obtain ⟨hP1, hD1⟩ := hB
  rw [ht] at hP1
  obtain ⟨hP2, hD2⟩ := va_join (wr := g_pick w isR) hP hD isC isR hC hRr hnd hdis hk1 hFc hP1 hD1
  exact kk _ _ hfc hf H1 locs1 ls (g_subP hP2 (hw' _)) (hD2.sub is hnd2 (hw' _)) hS1 hl
theorem g_callVv {Γ : gG} {Q : State → Prop} {w : va_W} {nL cells slots pc : Nat} {lv : List (Nat × Value)} {cc : ByteArray} {ret : Option FieldType} {own : String} {rm : Room} {α : Type} {z : α} (X : gCX Γ cc nL ret own rm) {y : MethodName} {yc : ByteArray} {ynL idx : Nat} {yret : Option FieldType} {rmc : Room} {mc ms : Nat} {As rest : List Value} {wc : va_W} {b : Nat} {S1 : Type} {wfc : S1 → va_W} {fc : Option (S1)} {K : (S1) → Option α} (n : Nat) {C : String} (hg : GoodIn lw_all (wsV own idx C y (ws_ y yc ynL yret))) (hdd : y.cls = C ∧ y.cls ≠ "java/lang/invoke/MethodHandle" ∧ y.cls ≠ "java/lang/invoke/VarHandle" ∧ (parseMethodDescriptor y.desc).map (fun d => d.parameters.length) = some n)
    (hM : ∀ (u1 : S1), fc = some u1 → ∀ sz, Met (gl Γ) y (ws_ y yc ynL yret) rmc (gPc (.ref b :: As) (gEo Γ) wc sz) (gPv (gEo Γ) wfc u1 (va_A wc sz)) mc ms (va_A wc sz)) {ci rq : Nat} {vc : vw_C} {vfs : List Value} (hrv : wc[rq]? = some (b, .inr (ci, vfs))) (hvc : vwCl[ci]? = some vc) (hvC : vc.1 = C)
    (hrc : rmc.cells = mc) (hrs : rmc.slots = ms) (hRm : rmc.frames + 1 ≤ rm.frames ∧ 8 + (ynL + 11) + rmc.locals ≤ rm.locals) (hn : As.length = n) (hst : (rest.map fun v => v.category).sum ≤ 8) (hcs : cells + mc ≤ rm.cells ∧ slots + ms ≤ rm.slots)
    (isC isR is : List Nat) (w' : S1 → va_W) (hC : isC.map (fun i => w[i]?) = wc.map some) (hRr : isR.map (fun i => w[i]?) = (g_pick w isR).map some) (hnc : va_nd isC = true) (hnd : va_nd isR = true) (hdis : ∀ i ∈ isR, i ∉ isC) (hnd2 : va_nd is = true) (hw' : ∀ u1, is.map (fun i => (g_pick w isR ++ wfc u1)[i]?) = (w' u1).map some)
    (hd : decode cc pc = .ok (.invokevirtual idx, 3)) (hf : fc.bind K = some z) (kk : ∀ (u1 : S1), fc = some u1 → K u1 = some z → gW Γ Q (w' u1) nL (cells + mc) (slots + ms) (pc + 3) lv rest) : gW Γ Q w nL cells slots pc lv (As.reverse ++ .ref b :: rest) := by
  obtain ⟨x1, hfc, hf⟩ := g_bd hf
  obtain ⟨u1, rfl⟩ : ∃ u, u = x1 := ⟨_, rfl⟩
  obtain ⟨p, l, e, R, s, m, args, below, meth, c, E, A⟩ := Γ
  obtain ⟨hx, hb, hr, hlk, hml, hown, hts, hK, hA, hA0, hO, hR⟩ := X
  intro H locs ls hP hD hS hl
  subst hR
  have hPc : va_P (E.1, E.2.1) vwCl wc H := g_subP hP hC
  have hDc := hD.sub (ws' := wc) isC hnc hC
  have hFc := va_free (wc := wc) hD hS hA isC hC
  have hOc : gOld E H := g_old hS hA0 hO
  have hrecv : ∃ cellB : Cell, H[b]? = some cellB ∧ cellB.vm.isStatics = false ∧ s.vm.findClass C = some cellB.cls := by
    rw [← hvC]
    exact va_recv hK.1 hPc hvc hrv
  refine va_callv (va_runV (As := As) (rest := rest) ⟨hx, hb, hml, hown, hts⟩ (hM u1 hfc H.size) (cwV n hts hg rfl hrc hrs hdd ⟨hRm.1, hRm.2⟩) ⟨gPc.blind, hrecv, fun U hU hW => ⟨rfl, by rw [hU], by rw [hU]; exact hPc, hK.warm hW, hDc.weaken (fun _ _ _ h => hA0 _ h), by rw [hU]; exact hOc⟩⟩ rfl hn hl.1 rfl (lv_room hst) hd hcs) hS (fun q _ h => hFc q h) hFc (fun u2 t H1 locs1 ht hvm hw1 hB hz1 hk1 hS1 => ?_)
  subst hw1
  obtain ⟨hP1, hD1⟩ := hB
  rw [ht] at hP1
  obtain ⟨hP2, hD2⟩ := va_join (wr := g_pick w isR) hP hD isC isR hC hRr hnd hdis hk1 hFc hP1 hD1
  exact kk _ hfc hf H1 locs1 ls (g_subP hP2 (hw' _)) (hD2.sub is hnd2 (hw' _)) hS1 hl
theorem g_callSi {Γ : gG} {Q : State → Prop} {w : va_W} {nL cells slots pc : Nat} {lv : List (Nat × Value)} {cc : ByteArray} {ret : Option FieldType} {own : String} {rm : Room} {α : Type} {z : α} (X : gCX Γ cc nL ret own rm) {y : MethodName} {yc : ByteArray} {ynL idx : Nat} {yret : Option FieldType} {rmc : Room} {mc ms : Nat} {As rest : List Value} {wc : va_W} {S1 : Type} {wfc : S1 → va_W} {fc : Option (Int32 × S1)} {K : (Int32 × S1) → Option α} (n : Nat) (hg : GoodIn lw_all (va_wsS own idx y (ws_ y yc ynL yret))) (hdd : y.cls ≠ "java/lang/invoke/MethodHandle" ∧ y.cls ≠ "java/lang/invoke/VarHandle" ∧ (parseMethodDescriptor y.desc).map (fun d => d.parameters.length) = some n)
    (hM : ∀ (r1 : Int32) (u1 : S1), fc = some (r1, u1) → ∀ sz, Met (gl Γ) y (ws_ y yc ynL yret) rmc (gPc As (gEo Γ) wc sz) (gPi (gEo Γ) wfc r1 u1 (va_A wc sz)) mc ms (va_A wc sz))
    (hrc : rmc.cells = mc) (hrs : rmc.slots = ms) (hRm : rmc.frames + 1 ≤ rm.frames ∧ 8 + (ynL + 11) + rmc.locals ≤ rm.locals) (hn : As.length = n) (hst : (rest.map fun v => v.category).sum ≤ 8) (hcs : cells + mc ≤ rm.cells ∧ slots + ms ≤ rm.slots)
    (isC isR is : List Nat) (w' : S1 → va_W) (hC : isC.map (fun i => w[i]?) = wc.map some) (hRr : isR.map (fun i => w[i]?) = (g_pick w isR).map some) (hnc : va_nd isC = true) (hnd : va_nd isR = true) (hdis : ∀ i ∈ isR, i ∉ isC) (hnd2 : va_nd is = true) (hw' : ∀ u1, is.map (fun i => (g_pick w isR ++ wfc u1)[i]?) = (w' u1).map some)
    (hd : decode cc pc = .ok (.invokestatic idx, 3)) (hf : fc.bind K = some z) (kk : ∀ (r1 : Int32) (u1 : S1), fc = some (r1, u1) → K (r1, u1) = some z → gW Γ Q (w' u1) nL (cells + mc) (slots + ms) (pc + 3) lv (.int r1 :: rest)) : gW Γ Q w nL cells slots pc lv (As.reverse ++ rest) := by
  obtain ⟨x1, hfc, hf⟩ := g_bd hf
  obtain ⟨r1, u1⟩ := x1
  obtain ⟨p, l, e, R, s, m, args, below, meth, c, E, A⟩ := Γ
  obtain ⟨hx, hb, hr, hlk, hml, hown, hts, hK, hA, hA0, hO, hR⟩ := X
  intro H locs ls hP hD hS hl
  subst hR
  have hPc : va_P (E.1, E.2.1) vwCl wc H := g_subP hP hC
  have hDc := hD.sub (ws' := wc) isC hnc hC
  have hFc := va_free (wc := wc) hD hS hA isC hC
  have hOc : gOld E H := g_old hS hA0 hO
  refine va_calli (va_runS (As := As) (rest := rest) ⟨hx, hb, hml, hown, hts⟩ (hM r1 u1 hfc H.size) (va_cwS n hts hg rfl hrc hrs hdd ⟨hRm.1, hRm.2⟩) ⟨gPc.blind, fun U hU hW => ⟨rfl, by rw [hU], by rw [hU]; exact hPc, hK.warm hW, hDc.weaken (fun _ _ _ h => hA0 _ h), by rw [hU]; exact hOc⟩⟩ rfl hn hl.1 rfl (lv_room hst) hd hcs) hS (fun q _ h => hFc q h) hFc (fun r2 u2 t H1 locs1 ht hvm hw1 hB hz1 hk1 hS1 => ?_)
  obtain ⟨rfl, rfl⟩ := hw1
  obtain ⟨hP1, hD1⟩ := hB
  rw [ht] at hP1
  obtain ⟨hP2, hD2⟩ := va_join (wr := g_pick w isR) hP hD isC isR hC hRr hnd hdis hk1 hFc hP1 hD1
  exact kk _ _ hfc hf H1 locs1 ls (g_subP hP2 (hw' _)) (hD2.sub is hnd2 (hw' _)) hS1 hl
theorem g_callSl {Γ : gG} {Q : State → Prop} {w : va_W} {nL cells slots pc : Nat} {lv : List (Nat × Value)} {cc : ByteArray} {ret : Option FieldType} {own : String} {rm : Room} {α : Type} {z : α} (X : gCX Γ cc nL ret own rm) {y : MethodName} {yc : ByteArray} {ynL idx : Nat} {yret : Option FieldType} {rmc : Room} {mc ms : Nat} {As rest : List Value} {wc : va_W} {S1 : Type} {wfc : S1 → va_W} {fc : Option (Int64 × S1)} {K : (Int64 × S1) → Option α} (n : Nat) (hg : GoodIn lw_all (va_wsS own idx y (ws_ y yc ynL yret))) (hdd : y.cls ≠ "java/lang/invoke/MethodHandle" ∧ y.cls ≠ "java/lang/invoke/VarHandle" ∧ (parseMethodDescriptor y.desc).map (fun d => d.parameters.length) = some n)
    (hM : ∀ (r1 : Int64) (u1 : S1), fc = some (r1, u1) → ∀ sz, Met (gl Γ) y (ws_ y yc ynL yret) rmc (gPc As (gEo Γ) wc sz) (gPl (gEo Γ) wfc r1 u1 (va_A wc sz)) mc ms (va_A wc sz))
    (hrc : rmc.cells = mc) (hrs : rmc.slots = ms) (hRm : rmc.frames + 1 ≤ rm.frames ∧ 8 + (ynL + 11) + rmc.locals ≤ rm.locals) (hn : As.length = n) (hst : (rest.map fun v => v.category).sum ≤ 8) (hcs : cells + mc ≤ rm.cells ∧ slots + ms ≤ rm.slots)
    (isC isR is : List Nat) (w' : S1 → va_W) (hC : isC.map (fun i => w[i]?) = wc.map some) (hRr : isR.map (fun i => w[i]?) = (g_pick w isR).map some) (hnc : va_nd isC = true) (hnd : va_nd isR = true) (hdis : ∀ i ∈ isR, i ∉ isC) (hnd2 : va_nd is = true) (hw' : ∀ u1, is.map (fun i => (g_pick w isR ++ wfc u1)[i]?) = (w' u1).map some)
    (hd : decode cc pc = .ok (.invokestatic idx, 3)) (hf : fc.bind K = some z) (kk : ∀ (r1 : Int64) (u1 : S1), fc = some (r1, u1) → K (r1, u1) = some z → gW Γ Q (w' u1) nL (cells + mc) (slots + ms) (pc + 3) lv (.long r1 :: rest)) : gW Γ Q w nL cells slots pc lv (As.reverse ++ rest) := by
  obtain ⟨x1, hfc, hf⟩ := g_bd hf
  obtain ⟨r1, u1⟩ := x1
  obtain ⟨p, l, e, R, s, m, args, below, meth, c, E, A⟩ := Γ
  obtain ⟨hx, hb, hr, hlk, hml, hown, hts, hK, hA, hA0, hO, hR⟩ := X
  intro H locs ls hP hD hS hl
  subst hR
  have hPc : va_P (E.1, E.2.1) vwCl wc H := g_subP hP hC
  have hDc := hD.sub (ws' := wc) isC hnc hC
  have hFc := va_free (wc := wc) hD hS hA isC hC
  have hOc : gOld E H := g_old hS hA0 hO
  refine va_calll (va_runS (As := As) (rest := rest) ⟨hx, hb, hml, hown, hts⟩ (hM r1 u1 hfc H.size) (va_cwS n hts hg rfl hrc hrs hdd ⟨hRm.1, hRm.2⟩) ⟨gPc.blind, fun U hU hW => ⟨rfl, by rw [hU], by rw [hU]; exact hPc, hK.warm hW, hDc.weaken (fun _ _ _ h => hA0 _ h), by rw [hU]; exact hOc⟩⟩ rfl hn hl.1 rfl (lv_room hst) hd hcs) hS (fun q _ h => hFc q h) hFc (fun r2 u2 t H1 locs1 ht hvm hw1 hB hz1 hk1 hS1 => ?_)
  obtain ⟨rfl, rfl⟩ := hw1
  obtain ⟨hP1, hD1⟩ := hB
  rw [ht] at hP1
  obtain ⟨hP2, hD2⟩ := va_join (wr := g_pick w isR) hP hD isC isR hC hRr hnd hdis hk1 hFc hP1 hD1
  exact kk _ _ hfc hf H1 locs1 ls (g_subP hP2 (hw' _)) (hD2.sub is hnd2 (hw' _)) hS1 hl
theorem g_callSv {Γ : gG} {Q : State → Prop} {w : va_W} {nL cells slots pc : Nat} {lv : List (Nat × Value)} {cc : ByteArray} {ret : Option FieldType} {own : String} {rm : Room} {α : Type} {z : α} (X : gCX Γ cc nL ret own rm) {y : MethodName} {yc : ByteArray} {ynL idx : Nat} {yret : Option FieldType} {rmc : Room} {mc ms : Nat} {As rest : List Value} {wc : va_W} {S1 : Type} {wfc : S1 → va_W} {fc : Option (S1)} {K : (S1) → Option α} (n : Nat) (hg : GoodIn lw_all (va_wsS own idx y (ws_ y yc ynL yret))) (hdd : y.cls ≠ "java/lang/invoke/MethodHandle" ∧ y.cls ≠ "java/lang/invoke/VarHandle" ∧ (parseMethodDescriptor y.desc).map (fun d => d.parameters.length) = some n)
    (hM : ∀ (u1 : S1), fc = some u1 → ∀ sz, Met (gl Γ) y (ws_ y yc ynL yret) rmc (gPc As (gEo Γ) wc sz) (gPv (gEo Γ) wfc u1 (va_A wc sz)) mc ms (va_A wc sz))
    (hrc : rmc.cells = mc) (hrs : rmc.slots = ms) (hRm : rmc.frames + 1 ≤ rm.frames ∧ 8 + (ynL + 11) + rmc.locals ≤ rm.locals) (hn : As.length = n) (hst : (rest.map fun v => v.category).sum ≤ 8) (hcs : cells + mc ≤ rm.cells ∧ slots + ms ≤ rm.slots)
    (isC isR is : List Nat) (w' : S1 → va_W) (hC : isC.map (fun i => w[i]?) = wc.map some) (hRr : isR.map (fun i => w[i]?) = (g_pick w isR).map some) (hnc : va_nd isC = true) (hnd : va_nd isR = true) (hdis : ∀ i ∈ isR, i ∉ isC) (hnd2 : va_nd is = true) (hw' : ∀ u1, is.map (fun i => (g_pick w isR ++ wfc u1)[i]?) = (w' u1).map some)
    (hd : decode cc pc = .ok (.invokestatic idx, 3)) (hf : fc.bind K = some z) (kk : ∀ (u1 : S1), fc = some u1 → K u1 = some z → gW Γ Q (w' u1) nL (cells + mc) (slots + ms) (pc + 3) lv rest) : gW Γ Q w nL cells slots pc lv (As.reverse ++ rest) := by
  obtain ⟨x1, hfc, hf⟩ := g_bd hf
  obtain ⟨u1, rfl⟩ : ∃ u, u = x1 := ⟨_, rfl⟩
  obtain ⟨p, l, e, R, s, m, args, below, meth, c, E, A⟩ := Γ
  obtain ⟨hx, hb, hr, hlk, hml, hown, hts, hK, hA, hA0, hO, hR⟩ := X
  intro H locs ls hP hD hS hl
  subst hR
  have hPc : va_P (E.1, E.2.1) vwCl wc H := g_subP hP hC
  have hDc := hD.sub (ws' := wc) isC hnc hC
  have hFc := va_free (wc := wc) hD hS hA isC hC
  have hOc : gOld E H := g_old hS hA0 hO
  refine va_callv (va_runS (As := As) (rest := rest) ⟨hx, hb, hml, hown, hts⟩ (hM u1 hfc H.size) (va_cwS n hts hg rfl hrc hrs hdd ⟨hRm.1, hRm.2⟩) ⟨gPc.blind, fun U hU hW => ⟨rfl, by rw [hU], by rw [hU]; exact hPc, hK.warm hW, hDc.weaken (fun _ _ _ h => hA0 _ h), by rw [hU]; exact hOc⟩⟩ rfl hn hl.1 rfl (lv_room hst) hd hcs) hS (fun q _ h => hFc q h) hFc (fun u2 t H1 locs1 ht hvm hw1 hB hz1 hk1 hS1 => ?_)
  subst hw1
  obtain ⟨hP1, hD1⟩ := hB
  rw [ht] at hP1
  obtain ⟨hP2, hD2⟩ := va_join (wr := g_pick w isR) hP hD isC isR hC hRr hnd hdis hk1 hFc hP1 hD1
  exact kk _ hfc hf H1 locs1 ls (g_subP hP2 (hw' _)) (hD2.sub is hnd2 (hw' _)) hS1 hl
theorem g_callSNi {Γ : gG} {Q : State → Prop} {w : va_W} {nL cells slots pc : Nat} {lv : List (Nat × Value)} {cc : ByteArray} {ret : Option FieldType} {own : String} {rm : Room} {α : Type} {z : α} (X : gCX Γ cc nL ret own rm) {y : MethodName} {yc : ByteArray} {ynL idx : Nat} {yret : Option FieldType} {rmc : Room} {mc ms : Nat} {As rest : List Value} {wc : va_W} {S1 : Type} {wfc : S1 → va_W} {fc : Option (Int32 × S1)} {K : (Int32 × S1) → Option α} (n : Nat) (hcode : Cond.code y yc ynL yret ∈ lw_all) (j : Nat) (hj : gNM[j]? = some (own, idx, y)) (hini : Cond.initialized y.cls ∈ lw_all) (hstat : Cond.static y ∈ lw_all) (hdd : y.cls ≠ "java/lang/invoke/MethodHandle" ∧ y.cls ≠ "java/lang/invoke/VarHandle" ∧ (parseMethodDescriptor y.desc).map (fun d => d.parameters.length) = some n)
    (hM : ∀ (r1 : Int32) (u1 : S1), fc = some (r1, u1) → ∀ sz, Met (gl Γ) y (ws_ y yc ynL yret) rmc (gPc As (gEo Γ) wc sz) (gPi (gEo Γ) wfc r1 u1 (va_A wc sz)) mc ms (va_A wc sz))
    (hrc : rmc.cells = mc) (hrs : rmc.slots = ms) (hRm : rmc.frames + 1 ≤ rm.frames ∧ 8 + (ynL + 11) + rmc.locals ≤ rm.locals) (hn : As.length = n) (hst : (rest.map fun v => v.category).sum ≤ 8) (hcs : cells + mc ≤ rm.cells ∧ slots + ms ≤ rm.slots)
    (isC isR is : List Nat) (w' : S1 → va_W) (hC : isC.map (fun i => w[i]?) = wc.map some) (hRr : isR.map (fun i => w[i]?) = (g_pick w isR).map some) (hnc : va_nd isC = true) (hnd : va_nd isR = true) (hdis : ∀ i ∈ isR, i ∉ isC) (hnd2 : va_nd is = true) (hw' : ∀ u1, is.map (fun i => (g_pick w isR ++ wfc u1)[i]?) = (w' u1).map some)
    (hd : decode cc pc = .ok (.invokestatic idx, 3)) (hf : fc.bind K = some z) (kk : ∀ (r1 : Int32) (u1 : S1), fc = some (r1, u1) → K (r1, u1) = some z → gW Γ Q (w' u1) nL (cells + mc) (slots + ms) (pc + 3) lv (.int r1 :: rest)) : gW Γ Q w nL cells slots pc lv (As.reverse ++ rest) := by
  obtain ⟨x1, hfc, hf⟩ := g_bd hf
  obtain ⟨r1, u1⟩ := x1
  obtain ⟨p, l, e, R, s, m, args, below, meth, c, E, A⟩ := Γ
  obtain ⟨hx, hb, hr, hlk, hml, hown, hts, hK, hA, hA0, hO, hR⟩ := X
  intro H locs ls hP hD hS hl
  subst hR
  have hPc : va_P (E.1, E.2.1) vwCl wc H := g_subP hP hC
  have hDc := hD.sub (ws' := wc) isC hnc hC
  have hFc := va_free (wc := wc) hD hS hA isC hC
  have hOc : gOld E H := g_old hS hA0 hO
  refine va_calli (va_runSN (As := As) (rest := rest) ⟨hx, hb, hml, hown, hts⟩ (hM r1 u1 hfc H.size) ⟨va_cnB n hts (lw_meth hcode) rfl hrc hrs (hK.2.1.2.1 _ (List.mem_of_getElem? hj)) (hts _ hini) hdd ⟨hRm.1, hRm.2⟩, hts _ hstat, trivial⟩ ⟨gPc.blind, fun U hU hW => ⟨rfl, by rw [hU], by rw [hU]; exact hPc, hK.warm hW, hDc.weaken (fun _ _ _ h => hA0 _ h), by rw [hU]; exact hOc⟩⟩ rfl hn hl.1 rfl (lv_room hst) hd hcs) hS (fun q _ h => hFc q h) hFc (fun r2 u2 t H1 locs1 ht hvm hw1 hB hz1 hk1 hS1 => ?_)
  obtain ⟨rfl, rfl⟩ := hw1
  obtain ⟨hP1, hD1⟩ := hB
  rw [ht] at hP1
  obtain ⟨hP2, hD2⟩ := va_join (wr := g_pick w isR) hP hD isC isR hC hRr hnd hdis hk1 hFc hP1 hD1
  exact kk _ _ hfc hf H1 locs1 ls (g_subP hP2 (hw' _)) (hD2.sub is hnd2 (hw' _)) hS1 hl
theorem g_callSNl {Γ : gG} {Q : State → Prop} {w : va_W} {nL cells slots pc : Nat} {lv : List (Nat × Value)} {cc : ByteArray} {ret : Option FieldType} {own : String} {rm : Room} {α : Type} {z : α} (X : gCX Γ cc nL ret own rm) {y : MethodName} {yc : ByteArray} {ynL idx : Nat} {yret : Option FieldType} {rmc : Room} {mc ms : Nat} {As rest : List Value} {wc : va_W} {S1 : Type} {wfc : S1 → va_W} {fc : Option (Int64 × S1)} {K : (Int64 × S1) → Option α} (n : Nat) (hcode : Cond.code y yc ynL yret ∈ lw_all) (j : Nat) (hj : gNM[j]? = some (own, idx, y)) (hini : Cond.initialized y.cls ∈ lw_all) (hstat : Cond.static y ∈ lw_all) (hdd : y.cls ≠ "java/lang/invoke/MethodHandle" ∧ y.cls ≠ "java/lang/invoke/VarHandle" ∧ (parseMethodDescriptor y.desc).map (fun d => d.parameters.length) = some n)
    (hM : ∀ (r1 : Int64) (u1 : S1), fc = some (r1, u1) → ∀ sz, Met (gl Γ) y (ws_ y yc ynL yret) rmc (gPc As (gEo Γ) wc sz) (gPl (gEo Γ) wfc r1 u1 (va_A wc sz)) mc ms (va_A wc sz))
    (hrc : rmc.cells = mc) (hrs : rmc.slots = ms) (hRm : rmc.frames + 1 ≤ rm.frames ∧ 8 + (ynL + 11) + rmc.locals ≤ rm.locals) (hn : As.length = n) (hst : (rest.map fun v => v.category).sum ≤ 8) (hcs : cells + mc ≤ rm.cells ∧ slots + ms ≤ rm.slots)
    (isC isR is : List Nat) (w' : S1 → va_W) (hC : isC.map (fun i => w[i]?) = wc.map some) (hRr : isR.map (fun i => w[i]?) = (g_pick w isR).map some) (hnc : va_nd isC = true) (hnd : va_nd isR = true) (hdis : ∀ i ∈ isR, i ∉ isC) (hnd2 : va_nd is = true) (hw' : ∀ u1, is.map (fun i => (g_pick w isR ++ wfc u1)[i]?) = (w' u1).map some)
    (hd : decode cc pc = .ok (.invokestatic idx, 3)) (hf : fc.bind K = some z) (kk : ∀ (r1 : Int64) (u1 : S1), fc = some (r1, u1) → K (r1, u1) = some z → gW Γ Q (w' u1) nL (cells + mc) (slots + ms) (pc + 3) lv (.long r1 :: rest)) : gW Γ Q w nL cells slots pc lv (As.reverse ++ rest) := by
  obtain ⟨x1, hfc, hf⟩ := g_bd hf
  obtain ⟨r1, u1⟩ := x1
  obtain ⟨p, l, e, R, s, m, args, below, meth, c, E, A⟩ := Γ
  obtain ⟨hx, hb, hr, hlk, hml, hown, hts, hK, hA, hA0, hO, hR⟩ := X
  intro H locs ls hP hD hS hl
  subst hR
  have hPc : va_P (E.1, E.2.1) vwCl wc H := g_subP hP hC
  have hDc := hD.sub (ws' := wc) isC hnc hC
  have hFc := va_free (wc := wc) hD hS hA isC hC
  have hOc : gOld E H := g_old hS hA0 hO
  refine va_calll (va_runSN (As := As) (rest := rest) ⟨hx, hb, hml, hown, hts⟩ (hM r1 u1 hfc H.size) ⟨va_cnB n hts (lw_meth hcode) rfl hrc hrs (hK.2.1.2.1 _ (List.mem_of_getElem? hj)) (hts _ hini) hdd ⟨hRm.1, hRm.2⟩, hts _ hstat, trivial⟩ ⟨gPc.blind, fun U hU hW => ⟨rfl, by rw [hU], by rw [hU]; exact hPc, hK.warm hW, hDc.weaken (fun _ _ _ h => hA0 _ h), by rw [hU]; exact hOc⟩⟩ rfl hn hl.1 rfl (lv_room hst) hd hcs) hS (fun q _ h => hFc q h) hFc (fun r2 u2 t H1 locs1 ht hvm hw1 hB hz1 hk1 hS1 => ?_)
  obtain ⟨rfl, rfl⟩ := hw1
  obtain ⟨hP1, hD1⟩ := hB
  rw [ht] at hP1
  obtain ⟨hP2, hD2⟩ := va_join (wr := g_pick w isR) hP hD isC isR hC hRr hnd hdis hk1 hFc hP1 hD1
  exact kk _ _ hfc hf H1 locs1 ls (g_subP hP2 (hw' _)) (hD2.sub is hnd2 (hw' _)) hS1 hl
theorem g_callSNv {Γ : gG} {Q : State → Prop} {w : va_W} {nL cells slots pc : Nat} {lv : List (Nat × Value)} {cc : ByteArray} {ret : Option FieldType} {own : String} {rm : Room} {α : Type} {z : α} (X : gCX Γ cc nL ret own rm) {y : MethodName} {yc : ByteArray} {ynL idx : Nat} {yret : Option FieldType} {rmc : Room} {mc ms : Nat} {As rest : List Value} {wc : va_W} {S1 : Type} {wfc : S1 → va_W} {fc : Option (S1)} {K : (S1) → Option α} (n : Nat) (hcode : Cond.code y yc ynL yret ∈ lw_all) (j : Nat) (hj : gNM[j]? = some (own, idx, y)) (hini : Cond.initialized y.cls ∈ lw_all) (hstat : Cond.static y ∈ lw_all) (hdd : y.cls ≠ "java/lang/invoke/MethodHandle" ∧ y.cls ≠ "java/lang/invoke/VarHandle" ∧ (parseMethodDescriptor y.desc).map (fun d => d.parameters.length) = some n)
    (hM : ∀ (u1 : S1), fc = some u1 → ∀ sz, Met (gl Γ) y (ws_ y yc ynL yret) rmc (gPc As (gEo Γ) wc sz) (gPv (gEo Γ) wfc u1 (va_A wc sz)) mc ms (va_A wc sz))
    (hrc : rmc.cells = mc) (hrs : rmc.slots = ms) (hRm : rmc.frames + 1 ≤ rm.frames ∧ 8 + (ynL + 11) + rmc.locals ≤ rm.locals) (hn : As.length = n) (hst : (rest.map fun v => v.category).sum ≤ 8) (hcs : cells + mc ≤ rm.cells ∧ slots + ms ≤ rm.slots)
    (isC isR is : List Nat) (w' : S1 → va_W) (hC : isC.map (fun i => w[i]?) = wc.map some) (hRr : isR.map (fun i => w[i]?) = (g_pick w isR).map some) (hnc : va_nd isC = true) (hnd : va_nd isR = true) (hdis : ∀ i ∈ isR, i ∉ isC) (hnd2 : va_nd is = true) (hw' : ∀ u1, is.map (fun i => (g_pick w isR ++ wfc u1)[i]?) = (w' u1).map some)
    (hd : decode cc pc = .ok (.invokestatic idx, 3)) (hf : fc.bind K = some z) (kk : ∀ (u1 : S1), fc = some u1 → K u1 = some z → gW Γ Q (w' u1) nL (cells + mc) (slots + ms) (pc + 3) lv rest) : gW Γ Q w nL cells slots pc lv (As.reverse ++ rest) := by
  obtain ⟨x1, hfc, hf⟩ := g_bd hf
  obtain ⟨u1, rfl⟩ : ∃ u, u = x1 := ⟨_, rfl⟩
  obtain ⟨p, l, e, R, s, m, args, below, meth, c, E, A⟩ := Γ
  obtain ⟨hx, hb, hr, hlk, hml, hown, hts, hK, hA, hA0, hO, hR⟩ := X
  intro H locs ls hP hD hS hl
  subst hR
  have hPc : va_P (E.1, E.2.1) vwCl wc H := g_subP hP hC
  have hDc := hD.sub (ws' := wc) isC hnc hC
  have hFc := va_free (wc := wc) hD hS hA isC hC
  have hOc : gOld E H := g_old hS hA0 hO
  refine va_callv (va_runSN (As := As) (rest := rest) ⟨hx, hb, hml, hown, hts⟩ (hM u1 hfc H.size) ⟨va_cnB n hts (lw_meth hcode) rfl hrc hrs (hK.2.1.2.1 _ (List.mem_of_getElem? hj)) (hts _ hini) hdd ⟨hRm.1, hRm.2⟩, hts _ hstat, trivial⟩ ⟨gPc.blind, fun U hU hW => ⟨rfl, by rw [hU], by rw [hU]; exact hPc, hK.warm hW, hDc.weaken (fun _ _ _ h => hA0 _ h), by rw [hU]; exact hOc⟩⟩ rfl hn hl.1 rfl (lv_room hst) hd hcs) hS (fun q _ h => hFc q h) hFc (fun u2 t H1 locs1 ht hvm hw1 hB hz1 hk1 hS1 => ?_)
  subst hw1
  obtain ⟨hP1, hD1⟩ := hB
  rw [ht] at hP1
  obtain ⟨hP2, hD2⟩ := va_join (wr := g_pick w isR) hP hD isC isR hC hRr hnd hdis hk1 hFc hP1 hD1
  exact kk _ hfc hf H1 locs1 ls (g_subP hP2 (hw' _)) (hD2.sub is hnd2 (hw' _)) hS1 hl
theorem g_callIv {Γ : gG} {Q : State → Prop} {w : va_W} {nL cells slots pc : Nat} {lv : List (Nat × Value)} {cc : ByteArray} {ret : Option FieldType} {own : String} {rm : Room} {α : Type} {z : α} (X : gCX Γ cc nL ret own rm) {y : MethodName} {yc : ByteArray} {ynL idx : Nat} {yret : Option FieldType} {rmc : Room} {mc ms : Nat} {As rest : List Value} {wc : va_W} {b : Nat} {S1 : Type} {wfc : S1 → va_W} {fc : Option (S1)} {K : (S1) → Option α} (n : Nat) (hcode : Cond.code y yc ynL none ∈ lw_all) (hini : Cond.initialized y.cls ∈ lw_all) (hlink : Cond.methodLink own idx y ∈ lw_all) (hinst : Cond.instanceMethod y ∈ lw_all) (hy1 : y.name = "<init>") (hdd : y.cls ≠ "java/lang/invoke/MethodHandle" ∧ y.cls ≠ "java/lang/invoke/VarHandle" ∧ (parseMethodDescriptor y.desc).map (fun d => d.parameters.length) = some n)
    (hM : ∀ (u1 : S1), fc = some u1 → ∀ sz, Met (gl Γ) y (ws_ y yc ynL none) rmc (gPc (.ref b :: As) (gEo Γ) wc sz) (gPv (gEo Γ) wfc u1 (va_A wc sz)) mc ms (va_A wc sz))
    (hrc : rmc.cells = mc) (hrs : rmc.slots = ms) (hRm : rmc.frames + 1 ≤ rm.frames ∧ 8 + (ynL + 11) + rmc.locals ≤ rm.locals) (hn : As.length = n) (hst : (rest.map fun v => v.category).sum ≤ 8) (hcs : cells + mc ≤ rm.cells ∧ slots + ms ≤ rm.slots)
    (isC isR is : List Nat) (w' : S1 → va_W) (hC : isC.map (fun i => w[i]?) = wc.map some) (hRr : isR.map (fun i => w[i]?) = (g_pick w isR).map some) (hnc : va_nd isC = true) (hnd : va_nd isR = true) (hdis : ∀ i ∈ isR, i ∉ isC) (hnd2 : va_nd is = true) (hw' : ∀ u1, is.map (fun i => (g_pick w isR ++ wfc u1)[i]?) = (w' u1).map some)
    (hd : decode cc pc = .ok (.invokespecial idx, 3)) (hf : fc.bind K = some z) (kk : ∀ (u1 : S1), fc = some u1 → K u1 = some z → gW Γ Q (w' u1) nL (cells + mc) (slots + ms) (pc + 3) lv rest) : gW Γ Q w nL cells slots pc lv (As.reverse ++ .ref b :: rest) := by
  obtain ⟨x1, hfc, hf⟩ := g_bd hf
  obtain ⟨u1, rfl⟩ : ∃ u, u = x1 := ⟨_, rfl⟩
  obtain ⟨p, l, e, R, s, m, args, below, meth, c, E, A⟩ := Γ
  obtain ⟨hx, hb, hr, hlk, hml, hown, hts, hK, hA, hA0, hO, hR⟩ := X
  intro H locs ls hP hD hS hl
  subst hR
  have hPc : va_P (E.1, E.2.1) vwCl wc H := g_subP hP hC
  have hDc := hD.sub (ws' := wc) isC hnc hC
  have hFc := va_free (wc := wc) hD hS hA isC hC
  have hOc : gOld E H := g_old hS hA0 hO
  refine va_callv (va_runI (As := As) (rest := rest) ⟨hx, hb, hml, hown, hts⟩ (hM u1 hfc H.size) (cwI n hts (lw_meth hcode) rfl hrc hrs (hts _ hini) (hts _ hlink) (hts _ hinst) hy1 hdd ⟨hRm.1, hRm.2⟩) ⟨gPc.blind, fun U hU hW => ⟨rfl, by rw [hU], by rw [hU]; exact hPc, hK.warm hW, hDc.weaken (fun _ _ _ h => hA0 _ h), by rw [hU]; exact hOc⟩⟩ rfl hn hl.1 rfl (lv_room hst) hd hcs) hS (fun q _ h => hFc q h) hFc (fun u2 t H1 locs1 ht hvm hw1 hB hz1 hk1 hS1 => ?_)
  subst hw1
  obtain ⟨hP1, hD1⟩ := hB
  rw [ht] at hP1
  obtain ⟨hP2, hD2⟩ := va_join (wr := g_pick w isR) hP hD isC isR hC hRr hnd hdis hk1 hFc hP1 hD1
  exact kk _ hfc hf H1 locs1 ls (g_subP hP2 (hw' _)) (hD2.sub is hnd2 (hw' _)) hS1 hl
theorem g_callINv {Γ : gG} {Q : State → Prop} {w : va_W} {nL cells slots pc : Nat} {lv : List (Nat × Value)} {cc : ByteArray} {ret : Option FieldType} {own : String} {rm : Room} {α : Type} {z : α} (X : gCX Γ cc nL ret own rm) {y : MethodName} {yc : ByteArray} {ynL idx : Nat} {yret : Option FieldType} {rmc : Room} {mc ms : Nat} {As rest : List Value} {wc : va_W} {b : Nat} {S1 : Type} {wfc : S1 → va_W} {fc : Option (S1)} {K : (S1) → Option α} (n : Nat) (hcode : Cond.code y yc ynL none ∈ lw_all) (j : Nat) (hj : gNM[j]? = some (own, idx, y)) (hini : Cond.initialized y.cls ∈ lw_all) (hinst : Cond.instanceMethod y ∈ lw_all) (hy1 : y.name = "<init>") (hdd : y.cls ≠ "java/lang/invoke/MethodHandle" ∧ y.cls ≠ "java/lang/invoke/VarHandle" ∧ (parseMethodDescriptor y.desc).map (fun d => d.parameters.length) = some n)
    (hM : ∀ (u1 : S1), fc = some u1 → ∀ sz, Met (gl Γ) y (ws_ y yc ynL none) rmc (gPc (.ref b :: As) (gEo Γ) wc sz) (gPv (gEo Γ) wfc u1 (va_A wc sz)) mc ms (va_A wc sz))
    (hrc : rmc.cells = mc) (hrs : rmc.slots = ms) (hRm : rmc.frames + 1 ≤ rm.frames ∧ 8 + (ynL + 11) + rmc.locals ≤ rm.locals) (hn : As.length = n) (hst : (rest.map fun v => v.category).sum ≤ 8) (hcs : cells + mc ≤ rm.cells ∧ slots + ms ≤ rm.slots)
    (isC isR is : List Nat) (w' : S1 → va_W) (hC : isC.map (fun i => w[i]?) = wc.map some) (hRr : isR.map (fun i => w[i]?) = (g_pick w isR).map some) (hnc : va_nd isC = true) (hnd : va_nd isR = true) (hdis : ∀ i ∈ isR, i ∉ isC) (hnd2 : va_nd is = true) (hw' : ∀ u1, is.map (fun i => (g_pick w isR ++ wfc u1)[i]?) = (w' u1).map some)
    (hd : decode cc pc = .ok (.invokespecial idx, 3)) (hf : fc.bind K = some z) (kk : ∀ (u1 : S1), fc = some u1 → K u1 = some z → gW Γ Q (w' u1) nL (cells + mc) (slots + ms) (pc + 3) lv rest) : gW Γ Q w nL cells slots pc lv (As.reverse ++ .ref b :: rest) := by
  obtain ⟨x1, hfc, hf⟩ := g_bd hf
  obtain ⟨u1, rfl⟩ : ∃ u, u = x1 := ⟨_, rfl⟩
  obtain ⟨p, l, e, R, s, m, args, below, meth, c, E, A⟩ := Γ
  obtain ⟨hx, hb, hr, hlk, hml, hown, hts, hK, hA, hA0, hO, hR⟩ := X
  intro H locs ls hP hD hS hl
  subst hR
  have hPc : va_P (E.1, E.2.1) vwCl wc H := g_subP hP hC
  have hDc := hD.sub (ws' := wc) isC hnc hC
  have hFc := va_free (wc := wc) hD hS hA isC hC
  have hOc : gOld E H := g_old hS hA0 hO
  refine va_callv (va_runIN (As := As) (rest := rest) ⟨hx, hb, hml, hown, hts⟩ (hM u1 hfc H.size) ⟨va_cnB n hts (lw_meth hcode) rfl hrc hrs (hK.2.1.2.1 _ (List.mem_of_getElem? hj)) (hts _ hini) hdd ⟨hRm.1, hRm.2⟩, hy1, hts _ hinst⟩ ⟨gPc.blind, fun U hU hW => ⟨rfl, by rw [hU], by rw [hU]; exact hPc, hK.warm hW, hDc.weaken (fun _ _ _ h => hA0 _ h), by rw [hU]; exact hOc⟩⟩ rfl hn hl.1 rfl (lv_room hst) hd hcs) hS (fun q _ h => hFc q h) hFc (fun u2 t H1 locs1 ht hvm hw1 hB hz1 hk1 hS1 => ?_)
  subst hw1
  obtain ⟨hP1, hD1⟩ := hB
  rw [ht] at hP1
  obtain ⟨hP2, hD2⟩ := va_join (wr := g_pick w isR) hP hD isC isR hC hRr hnd hdis hk1 hFc hP1 hD1
  exact kk _ hfc hf H1 locs1 ls (g_subP hP2 (hw' _)) (hD2.sub is hnd2 (hw' _)) hS1 hl
theorem g_nd_iff : ∀ l : List Nat, l.Nodup → va_nd l = true
  | [], _ => rfl
  | a :: l, h => by
    rw [List.nodup_cons] at h
    simp [va_nd, h.1, g_nd_iff l h.2]
theorem g_nd_range (n : Nat) : va_nd (List.range n) = true := g_nd_iff _ List.nodup_range
/-- a static method that touches no cell -/
theorem g_call0i {Γ : gG} {Q : State → Prop} {w : va_W} {nL cells slots pc : Nat} {lv : List (Nat × Value)} {cc : ByteArray} {ret : Option FieldType} {own : String} {rm : Room} {α : Type} {z : α} (X : gCX Γ cc nL ret own rm) {y : MethodName} {yc : ByteArray} {ynL idx : Nat} {yret : Option FieldType} {rmc : Room} {As rest : List Value} {fc : Option (Int32 × Unit)} {K : (Int32 × Unit) → Option α} (n : Nat) (hg : GoodIn lw_all (va_wsS own idx y (ws_ y yc ynL yret))) (hdd : y.cls ≠ "java/lang/invoke/MethodHandle" ∧ y.cls ≠ "java/lang/invoke/VarHandle" ∧ (parseMethodDescriptor y.desc).map (fun d => d.parameters.length) = some n)
    (hM : ∀ (r1 : Int32) (u1 : Unit), fc = some (r1, u1) → ∀ sz, Met (gl Γ) y (ws_ y yc ynL yret) rmc (gPc As (gEo Γ) [] sz) (gPi (gEo Γ) (fun _ => []) r1 u1 (va_A [] sz)) 0 0 (va_A [] sz))
    (hrc : rmc.cells = 0) (hrs : rmc.slots = 0) (hRm : rmc.frames + 1 ≤ rm.frames ∧ 8 + (ynL + 11) + rmc.locals ≤ rm.locals) (hn : As.length = n) (hst : (rest.map fun v => v.category).sum ≤ 8) (hcs : cells ≤ rm.cells ∧ slots ≤ rm.slots)
    (hd : decode cc pc = .ok (.invokestatic idx, 3)) (hf : fc.bind K = some z) (kk : ∀ r1 : Int32, fc = some (r1, ()) → K (r1, ()) = some z → gW Γ Q w nL cells slots (pc + 3) lv (.int r1 :: rest)) : gW Γ Q w nL cells slots pc lv (As.reverse ++ rest) := by
  have e : (List.range w.length).map (fun i => w[i]?) = w.map some := by
    refine List.ext_getElem? (fun i => ?_)
    simp only [List.getElem?_map, List.getElem?_range]
    by_cases h : i < w.length
    · simp [List.getElem?_range h, List.getElem?_eq_getElem h]
    · simp [List.getElem?_eq_none (Nat.le_of_not_lt h), h]
  have e2 : g_pick w (List.range w.length) = w := by
    have h := congrArg (List.filterMap id) e
    rw [List.filterMap_map, List.filterMap_map] at h
    have h2 : List.filterMap (id ∘ some) w = w := by simp
    rw [h2] at h
    exact h
  have nd : va_nd (List.range w.length) = true := g_nd_range _
  have nd2 : ∀ u1 : Unit, (List.range w.length).map (fun i => (g_pick w (List.range w.length) ++ (fun _ : Unit => ([] : va_W)) u1)[i]?) = w.map some := fun _ => by rw [e2]; simpa using e
  exact g_callSi X (wc := []) (wfc := fun _ => []) n hg hdd hM hrc hrs hRm hn hst hcs [] (List.range w.length) (List.range w.length) (fun _ => w) rfl (by rw [e2]; exact e) rfl nd (fun _ _ h => by cases h) nd nd2 hd hf (fun r1 u1 h1 h2 => kk r1 h1 h2)
/-- a static method that touches no cell -/
theorem g_call0l {Γ : gG} {Q : State → Prop} {w : va_W} {nL cells slots pc : Nat} {lv : List (Nat × Value)} {cc : ByteArray} {ret : Option FieldType} {own : String} {rm : Room} {α : Type} {z : α} (X : gCX Γ cc nL ret own rm) {y : MethodName} {yc : ByteArray} {ynL idx : Nat} {yret : Option FieldType} {rmc : Room} {As rest : List Value} {fc : Option (Int64 × Unit)} {K : (Int64 × Unit) → Option α} (n : Nat) (hg : GoodIn lw_all (va_wsS own idx y (ws_ y yc ynL yret))) (hdd : y.cls ≠ "java/lang/invoke/MethodHandle" ∧ y.cls ≠ "java/lang/invoke/VarHandle" ∧ (parseMethodDescriptor y.desc).map (fun d => d.parameters.length) = some n)
    (hM : ∀ (r1 : Int64) (u1 : Unit), fc = some (r1, u1) → ∀ sz, Met (gl Γ) y (ws_ y yc ynL yret) rmc (gPc As (gEo Γ) [] sz) (gPl (gEo Γ) (fun _ => []) r1 u1 (va_A [] sz)) 0 0 (va_A [] sz))
    (hrc : rmc.cells = 0) (hrs : rmc.slots = 0) (hRm : rmc.frames + 1 ≤ rm.frames ∧ 8 + (ynL + 11) + rmc.locals ≤ rm.locals) (hn : As.length = n) (hst : (rest.map fun v => v.category).sum ≤ 8) (hcs : cells ≤ rm.cells ∧ slots ≤ rm.slots)
    (hd : decode cc pc = .ok (.invokestatic idx, 3)) (hf : fc.bind K = some z) (kk : ∀ r1 : Int64, fc = some (r1, ()) → K (r1, ()) = some z → gW Γ Q w nL cells slots (pc + 3) lv (.long r1 :: rest)) : gW Γ Q w nL cells slots pc lv (As.reverse ++ rest) := by
  have e : (List.range w.length).map (fun i => w[i]?) = w.map some := by
    refine List.ext_getElem? (fun i => ?_)
    simp only [List.getElem?_map, List.getElem?_range]
    by_cases h : i < w.length
    · simp [List.getElem?_range h, List.getElem?_eq_getElem h]
    · simp [List.getElem?_eq_none (Nat.le_of_not_lt h), h]
  have e2 : g_pick w (List.range w.length) = w := by
    have h := congrArg (List.filterMap id) e
    rw [List.filterMap_map, List.filterMap_map] at h
    have h2 : List.filterMap (id ∘ some) w = w := by simp
    rw [h2] at h
    exact h
  have nd : va_nd (List.range w.length) = true := g_nd_range _
  have nd2 : ∀ u1 : Unit, (List.range w.length).map (fun i => (g_pick w (List.range w.length) ++ (fun _ : Unit => ([] : va_W)) u1)[i]?) = w.map some := fun _ => by rw [e2]; simpa using e
  exact g_callSl X (wc := []) (wfc := fun _ => []) n hg hdd hM hrc hrs hRm hn hst hcs [] (List.range w.length) (List.range w.length) (fun _ => w) rfl (by rw [e2]; exact e) rfl nd (fun _ _ h => by cases h) nd nd2 hd hf (fun r1 u1 h1 h2 => kk r1 h1 h2)
/-- a static method that touches no cell -/
theorem g_call0Ni {Γ : gG} {Q : State → Prop} {w : va_W} {nL cells slots pc : Nat} {lv : List (Nat × Value)} {cc : ByteArray} {ret : Option FieldType} {own : String} {rm : Room} {α : Type} {z : α} (X : gCX Γ cc nL ret own rm) {y : MethodName} {yc : ByteArray} {ynL idx : Nat} {yret : Option FieldType} {rmc : Room} {As rest : List Value} {fc : Option (Int32 × Unit)} {K : (Int32 × Unit) → Option α} (n : Nat) (hcode : Cond.code y yc ynL yret ∈ lw_all) (j : Nat) (hj : gNM[j]? = some (own, idx, y)) (hini : Cond.initialized y.cls ∈ lw_all) (hstat : Cond.static y ∈ lw_all) (hdd : y.cls ≠ "java/lang/invoke/MethodHandle" ∧ y.cls ≠ "java/lang/invoke/VarHandle" ∧ (parseMethodDescriptor y.desc).map (fun d => d.parameters.length) = some n)
    (hM : ∀ (r1 : Int32) (u1 : Unit), fc = some (r1, u1) → ∀ sz, Met (gl Γ) y (ws_ y yc ynL yret) rmc (gPc As (gEo Γ) [] sz) (gPi (gEo Γ) (fun _ => []) r1 u1 (va_A [] sz)) 0 0 (va_A [] sz))
    (hrc : rmc.cells = 0) (hrs : rmc.slots = 0) (hRm : rmc.frames + 1 ≤ rm.frames ∧ 8 + (ynL + 11) + rmc.locals ≤ rm.locals) (hn : As.length = n) (hst : (rest.map fun v => v.category).sum ≤ 8) (hcs : cells ≤ rm.cells ∧ slots ≤ rm.slots)
    (hd : decode cc pc = .ok (.invokestatic idx, 3)) (hf : fc.bind K = some z) (kk : ∀ r1 : Int32, fc = some (r1, ()) → K (r1, ()) = some z → gW Γ Q w nL cells slots (pc + 3) lv (.int r1 :: rest)) : gW Γ Q w nL cells slots pc lv (As.reverse ++ rest) := by
  have e : (List.range w.length).map (fun i => w[i]?) = w.map some := by
    refine List.ext_getElem? (fun i => ?_)
    simp only [List.getElem?_map, List.getElem?_range]
    by_cases h : i < w.length
    · simp [List.getElem?_range h, List.getElem?_eq_getElem h]
    · simp [List.getElem?_eq_none (Nat.le_of_not_lt h), h]
  have e2 : g_pick w (List.range w.length) = w := by
    have h := congrArg (List.filterMap id) e
    rw [List.filterMap_map, List.filterMap_map] at h
    have h2 : List.filterMap (id ∘ some) w = w := by simp
    rw [h2] at h
    exact h
  have nd : va_nd (List.range w.length) = true := g_nd_range _
  have nd2 : ∀ u1 : Unit, (List.range w.length).map (fun i => (g_pick w (List.range w.length) ++ (fun _ : Unit => ([] : va_W)) u1)[i]?) = w.map some := fun _ => by rw [e2]; simpa using e
  exact g_callSNi X (wc := []) (wfc := fun _ => []) n hcode j hj hini hstat hdd hM hrc hrs hRm hn hst hcs [] (List.range w.length) (List.range w.length) (fun _ => w) rfl (by rw [e2]; exact e) rfl nd (fun _ _ h => by cases h) nd nd2 hd hf (fun r1 u1 h1 h2 => kk r1 h1 h2)
/-- a static method that touches no cell -/
theorem g_call0Nl {Γ : gG} {Q : State → Prop} {w : va_W} {nL cells slots pc : Nat} {lv : List (Nat × Value)} {cc : ByteArray} {ret : Option FieldType} {own : String} {rm : Room} {α : Type} {z : α} (X : gCX Γ cc nL ret own rm) {y : MethodName} {yc : ByteArray} {ynL idx : Nat} {yret : Option FieldType} {rmc : Room} {As rest : List Value} {fc : Option (Int64 × Unit)} {K : (Int64 × Unit) → Option α} (n : Nat) (hcode : Cond.code y yc ynL yret ∈ lw_all) (j : Nat) (hj : gNM[j]? = some (own, idx, y)) (hini : Cond.initialized y.cls ∈ lw_all) (hstat : Cond.static y ∈ lw_all) (hdd : y.cls ≠ "java/lang/invoke/MethodHandle" ∧ y.cls ≠ "java/lang/invoke/VarHandle" ∧ (parseMethodDescriptor y.desc).map (fun d => d.parameters.length) = some n)
    (hM : ∀ (r1 : Int64) (u1 : Unit), fc = some (r1, u1) → ∀ sz, Met (gl Γ) y (ws_ y yc ynL yret) rmc (gPc As (gEo Γ) [] sz) (gPl (gEo Γ) (fun _ => []) r1 u1 (va_A [] sz)) 0 0 (va_A [] sz))
    (hrc : rmc.cells = 0) (hrs : rmc.slots = 0) (hRm : rmc.frames + 1 ≤ rm.frames ∧ 8 + (ynL + 11) + rmc.locals ≤ rm.locals) (hn : As.length = n) (hst : (rest.map fun v => v.category).sum ≤ 8) (hcs : cells ≤ rm.cells ∧ slots ≤ rm.slots)
    (hd : decode cc pc = .ok (.invokestatic idx, 3)) (hf : fc.bind K = some z) (kk : ∀ r1 : Int64, fc = some (r1, ()) → K (r1, ()) = some z → gW Γ Q w nL cells slots (pc + 3) lv (.long r1 :: rest)) : gW Γ Q w nL cells slots pc lv (As.reverse ++ rest) := by
  have e : (List.range w.length).map (fun i => w[i]?) = w.map some := by
    refine List.ext_getElem? (fun i => ?_)
    simp only [List.getElem?_map, List.getElem?_range]
    by_cases h : i < w.length
    · simp [List.getElem?_range h, List.getElem?_eq_getElem h]
    · simp [List.getElem?_eq_none (Nat.le_of_not_lt h), h]
  have e2 : g_pick w (List.range w.length) = w := by
    have h := congrArg (List.filterMap id) e
    rw [List.filterMap_map, List.filterMap_map] at h
    have h2 : List.filterMap (id ∘ some) w = w := by simp
    rw [h2] at h
    exact h
  have nd : va_nd (List.range w.length) = true := g_nd_range _
  have nd2 : ∀ u1 : Unit, (List.range w.length).map (fun i => (g_pick w (List.range w.length) ++ (fun _ : Unit => ([] : va_W)) u1)[i]?) = w.map some := fun _ => by rw [e2]; simpa using e
  exact g_callSNl X (wc := []) (wfc := fun _ => []) n hcode j hj hini hstat hdd hM hrc hrs hRm hn hst hcs [] (List.range w.length) (List.range w.length) (fun _ => w) rfl (by rw [e2]; exact e) rfl nd (fun _ _ h => by cases h) nd nd2 hd hf (fun r1 u1 h1 h2 => kk r1 h1 h2)
