/-! BEING THROWN: contracts of what throws, calls, handlers -/
/-- what is thrown: its class, nothing that was there has changed -/
def exPost (C : String) (mc ms : Nat) : Array Value → State → Outcome → State → Prop := fun _ st o t =>
  ∃ (x : Addr) (ce : Cell), o = .threw x ∧ t.heap[x]? = some ce ∧ st.vm.findClass C = some ce.cls ∧ ce.vm = .none ∧ st.heap.size ≤ t.heap.size ∧ (∀ q : Nat, q < st.heap.size → t.heap[q]? = st.heap[q]?) ∧ st.WarmedH t.vm ∧ st.sameButNew ({ t with vm := st.vm } : State) [] mc ms
def MetX (l : Launch) (y : MethodName) (ws : List Cond) (rm : Room) (Pc : Array Value → State → Prop) (C : String) (mc ms : Nat) : Prop := MetFree l y (headSpec ws rm) Pc (fun _ _ _ _ _ => True) (exPost C mc ms)
def exQ (below : List Frame) (C : String) (a : Array Value) (s : State) (mc ms : Nat) : State → Prop := fun t => ∃ o, t.status = .running ∧ Ended t below o ∧ exPost C mc ms a s o t
/-- the heap has grown alone -/
def exH (H0 H : Heap) : Prop := H0.size ≤ H.size ∧ ∀ q : Nat, q < H0.size → H[q]? = H0[q]?
theorem exH.rf (H : Heap) : exH H H := ⟨Nat.le_refl _, fun _ _ => rfl⟩
theorem exH.tr {H0 H1 H2 : Heap} (h : exH H0 H1) (h2 : exH H1 H2) : exH H0 H2 := ⟨Nat.le_trans h.1 h2.1, fun q hq => (h2.2 q (Nat.lt_of_lt_of_le hq h.1)).trans (h.2 q hq)⟩
theorem exH.P {D : va_G} {cl : List vw_C} {ws : va_W} {H H1 : Heap} (h : exH H H1) (hP : va_P D cl ws H) : va_P D cl ws H1 := fun k q hq => (hP k q hq).kept (h.2 q.1 (hP k q hq).lt)
theorem exH.S {A : Nat → Prop} {H0 H H1 : Heap} {locs : List Loc} (h : exH H H1) (hS : va_S A H0 H locs) : va_S A H0 H1 locs := ⟨Nat.le_trans hS.1 h.1, fun q h1 h2 => (h.2 q (Nat.lt_of_lt_of_le h1 hS.1)).trans (hS.2.1 q h1 h2), hS.2.2⟩
section EXT
variable {p : Program} {l : Launch} {e : Env} {R : Room} {s : State} {m : MethodId} {args : Array Value} {below : List Frame} {meth : Method} {c : Code} {H : Heap} {locs : List Loc} {cells slots : Nat} {Q : State → Prop}
/-- the cell a is being thrown over the frame g -/
def WT (p : Program) (l : Launch) (e : Env) (R : Room) (s : State) (m : MethodId) (args : Array Value) (below : List Frame) (meth : Method) (c : Code) (H : Heap) (locs : List Loc) (cells slots : Nat) (Q : State → Prop) (g : JFrame) (a : Addr) : Prop :=
  ∀ T : State, T.heap = H → Stand p l e R s m args below meth c T locs cells slots → ∃ t, Steps p.tables e below ((T.setTop g).pushFrame (.throwing a)) t ∧ Q t
theorem MetX.ofW {y : MethodName} {ws ws' : List Cond} {rm : Room} {Pc : Array Value → State → Prop} {C : String} {mc ms : Nat} {cc : ByteArray} {maxL : Nat} {ret : Option FieldType} (hy : plainName y.cls = true) (hw : ws = Cond.code y cc maxL ret :: ws')
    (body : ∀ p e s m args below meth c s₁, BodyLoose p l y (headSpec ws rm) cc maxL ret e s m args below meth c s₁ → c.maxLocals = maxL → c.exceptionTable.toList = [] → Pc args s →
      W p l e (headSpec ws rm).room s m args below meth c s.heap [] 0 0 (exQ below C args s mc ms) (entryFrame m args maxL)) : MetX l y ws rm Pc C mc ms := by
  refine MetFree.of_bodyS (code := cc) (maxLocals := maxL) (ret := ret) hy ?_ ?_
  · intro args s m h hn
    obtain ⟨meth, c, h1, h2, h3, h4, h5, h6, -, -⟩ := Cond.code_spec hn (atoms_spec (ws := ws) h _ (by rw [hw]; exact List.mem_cons_self))
    exact ⟨meth, c, h1, h2, h3, h4, h5, h6⟩
  · intro p e s m args below meth c s₁ B hml hP _
    have hh0 : s₁.heap = s.heap := by rw [B.state]; rfl
    have het : c.exceptionTable.toList = [] := by
      have z := B.noHandlers (atoms_spec (ws := ws) B.pre _ (by rw [hw]; exact List.mem_cons_self))
      simpa using z
    obtain ⟨t, a1, o, b1, b2, b3⟩ := body p e s m args below meth c s₁ B hml het hP s₁ hh0 (Stand.of_body B)
    exact ⟨t, o, a1, b1, b2, b3⟩
/-- out of the method -/
theorem WT.out {C : String} {mc ms : Nat} {g : JFrame} {a : Addr} {ce : Cell} (hg : g.method = m) (hlk : g.locked = none) (hen : g.entered = []) (het : c.exceptionTable.toList = []) (hlocks : meth.locks = false) (hce : H[a]? = some ce) (hcc : s.vm.findClass C = some ce.cls) (hvm : ce.vm = .none) (hH : exH s.heap H) (hlo : locs = []) (hm : cells ≤ mc) (hs : slots ≤ ms) : WT p l e R s m args below meth c H locs cells slots (exQ below C args s mc ms) g a := by
  intro T hT X
  subst hlo
  obtain ⟨h1, h2, h3, h4, h5⟩ := X.leaveThrown a hg hlk hen (fun x hx => by rw [het] at hx; cases hx) hlocks
  refine ⟨_, h1, .threw a, h2, h3, a, ce, rfl, ?_, hcc, hvm, ?_, ?_, h4, h5.weaken (fun _ hy _ => hy) hm hs⟩
  · show T.heap[a]? = _; rw [hT]; exact hce
  · show _ ≤ T.heap.size; rw [hT]; exact hH.1
  · intro q hq; show T.heap[q]? = _; rw [hT]; exact hH.2 q hq
/-- caught -/
theorem WT.caught {own : String} (hown : s.vm.findClass own = some m.cls) {a : Addr} {ce : Cell} (hce : H[a]? = some ce) (hvm : ce.vm = .none) {pc : Nat} {ls : Array Slot} {st : List Value}
    {x : ExceptionTableEntry} {rest : List ExceptionTableEntry} {nm : String} (hx : exRow s args own pc x nm) {cT : ClassId} (hcT : s.vm.findClass nm = some cT) (hfit : s.vm.assignable ce.cls cT = true)
    (pre : List (ExceptionTableEntry × String)) (hpre : ∀ z ∈ pre, covers z.1 pc = false ∨ (exRow s args own pc z.1 z.2 ∧ ∃ cP, s.vm.findClass z.2 = some cP ∧ s.vm.assignable ce.cls cP = false)) (hsplit : c.exceptionTable.toList = pre.map (·.1) ++ x :: rest)
    (kk : W p l e R s m args below meth c H locs cells slots Q (F0 m x.handlerPc ls [.ref a])) : WT p l e R s m args below meth c H locs cells slots Q (F0 m pc ls st) a := by
  intro T hT X
  obtain ⟨vm1, X1, st1⟩ := ex_catch X hown (a := a) (cell := ce) (by rw [hT]; exact hce) (by rw [hvm]; rfl) (g := F0 m pc ls st) rfl (rest := rest) hx hcT hfit pre hpre hsplit
  obtain ⟨t, a1, b1⟩ := kk (T.setVm vm1) hT X1
  exact ⟨t, st1 t a1, b1⟩
/-- the machine throws, with a message -/
theorem W.vmMsg {g g' : JFrame} (hexec : p.tables.exec = Jvm.exec) (htr : l.stackTraces = false) {cls : String} {names : List String} {N : Nat}
    (hstep : ∀ T : State, T.heap = H → Stand p l e R s m args below meth c T locs cells slots → ∃ (T1 : State) (text : String), T1.heap = H ∧ Stand p l e R s m args below meth c T1 locs cells slots ∧ (text == notModelled) = false ∧ (stringBytes (stringToUtf16 text)).size ≤ N ∧ ∀ tg, Steps p.tables e below ((T1.setTop g').pushFrame (.throwNew cls (some text) none)) tg → Steps p.tables e below (T.setTop g) tg)
    (hcls : Bundle.fit cls = true) (hnames : ∀ n ∈ names, Bundle.fit n = true) (hsoe : (cls == "java/lang/StackOverflowError") = false) (hoom : (cls == "java/lang/OutOfMemoryError") = false)
    (h : ∀ a ∈ Bundle.messageArmAtoms cls names, a.before args s = true) (hlocs : ∀ x ∈ locs, ∀ cell, s.heap[x.base]? = some cell → cell.vm.isStatics = false)
    (hN2 : N ≤ 4000) (hg : g'.method = m) (hsize : g'.locals.size = c.maxLocals) (hRframes : names.length + 4 < R.frames) (hRlocals : 2 * g'.monitorRoom + (g'.stack.map fun v => v.category).sum + 10240 ≤ R.locals) (hshort : 13 * names.length + 55 ≤ 10240)
    (hRcells : cells + 3 ≤ R.cells) (hRslots : slots + (N + 10) ≤ R.slots)
    (kk : ∀ (H1 : Heap) (ce : Cell), exH H H1 → H1[H.size + 2]? = some ce → s.vm.findClass cls = some ce.cls → ce.vm = .none → WT p l e R s m args below meth c H1 locs (cells + 3) (slots + (N + 10)) Q g' (H.size + 2)) : W p l e R s m args below meth c H locs cells slots Q g := by
  intro T0 hT0 X0
  obtain ⟨T, text, hT, X, htext, hN, hst9⟩ := hstep T0 hT0 X0
  have hp := X.admits.platform
  have h9 : e.platform.stackTraces = false := by rw [hp]; exact htr
  have l9 : e.platform.arrayLengthLimit = ({} : Platform).arrayLengthLimit := by rw [hp]
  have m9 : e.platform.maxHeapBytes = ({} : Platform).maxHeapBytes := by rw [hp]
  have l8 : 4000 ≤ ({} : Platform).arrayLengthLimit := by decide
  have m8 : 4000 ≤ ({} : Platform).maxHeapBytes := by decide
  obtain ⟨U, ce, XU, u1, u2, u3, u4, u5, st⟩ := ex_msg X hexec h9 hcls hnames hsoe hoom h hlocs htext (by rw [l9]; omega) (by rw [m9, show componentBytes .byte = 1 from rfl, Nat.mul_one]; omega) hg hsize hRframes hRlocals hshort hRcells (by omega)
  obtain ⟨t, a1, b1⟩ := kk U.heap ce ⟨by rw [u1, hT]; omega, fun q hq => by rw [u2 q (by rw [hT]; exact hq), hT]⟩ (by rw [← hT]; exact u3) u4 u5 U rfl (stand_widen XU (Nat.le_refl _) (by omega))
  rw [← hT] at a1
  exact ⟨t, hst9 t (st t a1), b1⟩
theorem W.vmNpe {g g' : JFrame} (hexec : p.tables.exec = Jvm.exec) (htr : l.stackTraces = false)
    (hstep : ∀ T : State, T.heap = H → Stand p l e R s m args below meth c T locs cells slots → ∀ tg, Steps p.tables e below ((T.setTop g').pushFrame (.throwNew "java/lang/NullPointerException" none none)) tg → Steps p.tables e below (T.setTop g) tg)
    (h : ∀ a ∈ Bundle.npeArmAtoms 8, a.before args s = true) (hlocs : ∀ x ∈ locs, ∀ cell, s.heap[x.base]? = some cell → cell.vm.isStatics = false)
    (hg : g'.method = m) (hsize : g'.locals.size = c.maxLocals) (hRframes : 7 < R.frames) (hRlocals : 2 * g'.monitorRoom + (g'.stack.map fun v => v.category).sum + 10240 ≤ R.locals)
    (hRcells : cells + 1 ≤ R.cells) (hRslots : slots + 8 ≤ R.slots)
    (kk : ∀ (H1 : Heap) (ce : Cell), exH H H1 → H1[H.size]? = some ce → s.vm.findClass "java/lang/NullPointerException" = some ce.cls → ce.vm = .none → WT p l e R s m args below meth c H1 locs (cells + 1) (slots + 8) Q g' H.size) : W p l e R s m args below meth c H locs cells slots Q g := by
  intro T hT X
  have h9 : e.platform.stackTraces = false := by rw [X.admits.platform]; exact htr
  obtain ⟨U, ce, XU, u1, u2, u3, u4, u5, st⟩ := ex_npe X hexec h9 h hlocs hg hsize hRframes hRlocals hRcells hRslots
  obtain ⟨t, a1, b1⟩ := kk U.heap ce ⟨by rw [u1, hT]; omega, fun q hq => by rw [u2 q (by rw [hT]; exact hq), hT]⟩ (by rw [← hT]; exact u3) u4 u5 U rfl XU
  rw [← hT] at a1
  exact ⟨t, hstep T hT X t (st t a1), b1⟩
/-- a static callee throws -/
theorem W.exCall {y : MethodName} {bytes cc : ByteArray} {maxL nL mc ms n index : Nat} {ret : Option FieldType} {ws : List Cond} {rm : Room} {Pc : Array Value → State → Prop} {C own : String} {Ts : List Cond} {As rest : List Value} {pc : Nat} {ls : Array Slot} {st0 : List Value}
    (S : CallFix p m c cc nL s args Ts own) (hM : MetX l y ws rm Pc C mc ms) (cw : CallB R s args own index y bytes maxL ret ws rm mc ms n ∧ (Cond.static y).before args s = true) (hp : PreS s H Pc As)
    (hn : As.length = n) (hsize : ls.size = nL) (hstack : st0 = As.reverse ++ rest) (hW : (rest.map fun v => v.category).sum ≤ 8) (hdg : decode cc pc = .ok (.invokestatic index, 3)) (hf : cells + mc ≤ R.cells ∧ slots + ms ≤ R.slots)
    (kk : ∀ (H1 : Heap) (x : Addr) (ce : Cell), exH H H1 → H1[x]? = some ce → s.vm.findClass C = some ce.cls → ce.vm = .none → WT p l e R s m args below meth c H1 locs (cells + mc) (slots + ms) Q (F0 m pc ls rest) x) : W p l e R s m args below meth c H locs cells slots Q (F0 m pc ls st0) := by
  obtain ⟨⟨hrc, hrs, hfr, hlo, hws, hcw, hcode, hini, hy, hlen, hl⟩, hstt⟩ := cw
  obtain ⟨hx, hb, hml, ho, -⟩ := S
  intro T hT X
  obtain ⟨mk, hnamed⟩ := Cond.code_named hcode
  obtain ⟨methM, cM, hmethM, -, -, -, -, -, -, hsigM⟩ := Cond.code_spec hnamed hcode
  have hstatic : methM.isStatic = true := Cond.static_spec hnamed hmethM hstt
  obtain ⟨kP, hkP, -⟩ := className_of_methodNamed hnamed
  have hinitP : kP.init = .initialized := Cond.initialized_spec (findClass_of_methodNamed hnamed) hkP hini
  obtain ⟨vm₁, X₁, hstep₁⟩ := X.invokestatic hx ho hl hnamed hmethM hstatic hkP hinitP hy (g := F0 m pc ls st0) rfl (argsL := As) (rest := rest) (hn.trans (hlen _ hsigM)) hstack (by rw [hb]; exact hdg)
  have happ := X₁.appliesAt (S := headSpec ws rm) (y := y) (bytes := bytes) (maxL := maxL) (ret := ret) (g := F0 m pc ls rest) rfl (hsize.trans hml.symm) (W := 8) (by rw [hb]; exact hdg) (by show 2 * 0 + (rest.map fun v => v.category).sum ≤ 8; omega) (a := As.toArray) (X₁.named hnamed)
    (atoms_intro fun w hw => hws w hw _ _ X₁.warmed) (hws _ hcw _ _ X₁.warmed) (word_at X₁.warmed (Or.inl (by first | rfl | simp [Cond.onTables, Cond.keeps, Cond.steady])) hini) hfr (by show 8 + (maxL + 11) + rm.locals ≤ R.locals; exact hlo) (by show cells + rm.cells ≤ _; rw [hrc]; exact hf.1) (by show slots + rm.slots ≤ _; rw [hrs]; exact hf.2)
  obtain ⟨mid, hmid⟩ := X₁.here.above
  have hfr2 : ((T.setVm vm₁).setTop (F0 m pc ls rest)).frames = (.java (F0 m pc ls rest) :: mid) ++ below := by rw [State.frames_setTop' _ X₁.here.top, hmid]; rfl
  obtain ⟨o, s₂, hsteps, -, hend, hq⟩ := Steps.callFree hM p X.admits X.cas X.clock (acts := []) hfr2 happ (hp.1 _ _ (F0 m pc ls rest) mk (hp.2 (T.setVm vm₁) hT X₁.warmed)) trivial
  rw [State.frames_setTop' _ X₁.here.top, X₁.tail] at hend
  obtain ⟨x, ce, rfl, q1, q2, q3, q4, q5, q6, q7⟩ := hq
  obtain ⟨T', X', -, hsame, ht⟩ := X₁.outOfThrown (g := F0 m pc ls rest) rfl hend q6 q7
  have hh : T'.heap = s₂.heap := by rw [ht]; simp [State.pushFrame, State.setFrames, State.setTop, State.modifyTopJava]
  have hc0 : ((T.setVm vm₁).calling (F0 m pc ls rest) mk As.toArray).heap = H := hT
  have X2 : Stand p l e R s m args below meth c T' locs (cells + mc) (slots + ms) := by
    have z := X'; rw [List.append_nil] at z; exact z
  have q2' : s.vm.findClass C = some ce.cls := by
    rw [← X₁.warmed.alike.findClass]; exact q2
  obtain ⟨t, a1, b1⟩ := kk T'.heap x ce ⟨by rw [hh, ← hc0]; exact q4, fun q hq => by have z := q5 q (show q < T.heap.size by rw [hT]; exact hq); rw [hh]; exact z.trans (show T.heap[q]? = H[q]? by rw [hT])⟩ (by rw [hh]; exact q1) q2' q3 T' rfl X2
  refine ⟨t, hstep₁ t (fun acts => ?_), b1⟩
  rw [doInvoke_state]
  refine hsteps.trans ?_
  rw [ht]
  exact a1
end EXT
