/-! the machine's NullPointerException; handlers -/
section EXC
variable {p : Program} {l : Launch} {e : Env} {R : Room} {s : State} {m : MethodId} {args : Array Value} {below : List Frame} {meth : Method} {c : Code} {T : State} {locs : List Loc} {cells slots : Nat}
set_option maxHeartbeats 4000000 in
theorem ex_npe (X : Stand p l e R s m args below meth c T locs cells slots) (hexec : p.tables.exec = Jvm.exec) (htr : e.platform.stackTraces = false)
    (h : ∀ a ∈ Bundle.npeArmAtoms 8, a.before args s = true) (hlocs : ∀ x ∈ locs, ∀ cell, s.heap[x.base]? = some cell → cell.vm.isStatics = false)
    {g : JFrame} (hg : g.method = m) (hsize : g.locals.size = c.maxLocals) (hRframes : 7 < R.frames) (hRlocals : 2 * g.monitorRoom + (g.stack.map fun v => v.category).sum + 10240 ≤ R.locals)
    (hRcells : cells + 1 ≤ R.cells) (hRslots : slots + 8 ≤ R.slots) :
    ∃ (U : State) (ce : Cell), Stand p l e R s m args below meth c U locs (cells + 1) (slots + 8) ∧ U.heap.size = T.heap.size + 1 ∧ (∀ a, a < T.heap.size → U.heap[a]? = T.heap[a]?) ∧ U.heap[T.heap.size]? = some ce ∧ s.vm.findClass "java/lang/NullPointerException" = some ce.cls ∧ ce.vm = .none ∧
      ∀ tg, Steps p.tables e below ((U.setTop g).pushFrame (.throwing T.heap.size)) tg → Steps p.tables e below ((T.setTop g).pushFrame (.throwNew "java/lang/NullPointerException" none none)) tg := by
  have hA : At T g.method c below := by rw [hg]; exact X.here
  have howns : e.platform.frameOwnsMonitors = true := by rw [X.admits.platform]
  have hfin : e.platform.finalization = false := by rw [X.admits.platform]
  have hpl : e.platform.magicAccessors = ({} : Platform).magicAccessors := by rw [X.admits.platform]
  have hpl2 : e.platform.arrayCloneIsPublic = true := by rw [X.admits.platform]
  have a : ∀ x, x ∈ Bundle.npeArmAtoms 8 → x.holds args s none s [] = true := fun x hx => h x hx
  obtain ⟨Th, Z, L, LZ, Y⟩ := ThrowableC.of_atoms (args := args) howns hfin hpl (fun x hx => h x (by simp [Bundle.npeArmAtoms, hx]))
  obtain ⟨N, LN, hcN, hnNF, hordN, hffS⟩ := NpeC.of_atoms (args := args) hpl hpl2 L Y (fun x hx => h x (by simp [Bundle.npeArmAtoms, hx]))
  obtain ⟨P1, L1, hP1m, hP1s⟩ := PassC.of_atoms (args := args) (s := s) hpl (X := Bundle.nN) (Y := Bundle.rN) (by decide) (by decide) LibCode.NullPointerException.Init0.at_0 LibCode.NullPointerException.Init0.at_1 LibCode.NullPointerException.Init0.at_4 (fun x hx => h x (by simp [Bundle.npeArmAtoms, hx]))
  obtain ⟨PR, LR, hPRm, hPRs⟩ := PassC.of_atoms (args := args) (s := s) hpl (X := Bundle.rN) (Y := Bundle.eN) (by decide) (by decide) LibCode.RuntimeException.Init0.at_0 LibCode.RuntimeException.Init0.at_1 LibCode.RuntimeException.Init0.at_4 (fun x hx => h x (by simp [Bundle.npeArmAtoms, hx]))
  obtain ⟨PE, LEx, hPEm, hPEs⟩ := PassC.of_atoms (args := args) (s := s) hpl (X := Bundle.eN) (Y := Bundle.tN) (by decide) (by decide) LibCode.Exception.Init0.at_0 LibCode.Exception.Init0.at_1 LibCode.Exception.Init0.at_4 (fun x hx => h x (by simp [Bundle.npeArmAtoms, hx]))
  have hfound : s.vm.findClass Bundle.nN = some P1.m.cls := findClass_of_methodNamed hP1m
  have ecls : N.cN = P1.m.cls := Option.some.inj (hcN.symm.trans hfound)
  have hk : s.vm.classes[P1.m.cls]? = some N.kN := by rw [← ecls]; exact LN.cls
  have hinit := Cond.initialized_spec hfound hk (a (.initialized Bundle.nN) (by simp [Bundle.npeArmAtoms]))
  have hctor : N.kN.findMethod "<init>" "()V" = some P1.m.idx := findMethod_of_methodNamed hP1m hk
  obtain ⟨c1, k1, hc1, hk1, -, -, -, hn⟩ := Cond.instantiable_spec (a (.instantiable Bundle.nN 8) (by simp [Bundle.npeArmAtoms]))
  cases Option.some.inj (hc1.symm.trans hfound)
  cases Option.some.inj (hk1.symm.trans hk)
  have hlink1 : P1.sup = PR.m := Option.some.inj (hP1s.symm.trans hPRm)
  have hlinkR : PR.sup = PE.m := Option.some.inj (hPRs.symm.trans hPEm)
  have hlinkE : PE.sup = Z.m Th.toThrowableT := Option.some.inj (hPEs.symm.trans Y.init0)
  have hsel0 := ex_selF X hfound Y.fill0 (by decide) Y.fill0 (a (.selects Bundle.nN Bundle.tFill0 Bundle.tFill0) (by simp [Bundle.npeArmAtoms]))
  have hselF := ex_selF X hfound Y.fill (by decide) hnNF (a (.selects Bundle.nN Bundle.tFill Bundle.nFill) (by simp [Bundle.npeArmAtoms]))
  obtain ⟨cellS0, hcS0, hiss⟩ := Y.statics
  obtain ⟨u0, hu0⟩ := Cond.staticRefV Y.unassigned L.unassignedStatic L.statics hcS0 hiss (a (.isRef (.static Bundle.tN "UNASSIGNED_STACK" Bundle.steD)) (by simp [Bundle.npeArmAtoms]))
  obtain ⟨sen, hsen⟩ := Cond.staticRefV Y.sentinel L.sentinelStatic L.statics hcS0 hiss (a (.isRef (.static Bundle.tN "SUPPRESSED_SENTINEL" Bundle.listD)) (by simp [Bundle.npeArmAtoms]))
  obtain ⟨ci198, i198, fB, hk198, hg198, ha198, hsB, -, hnB, htB, hffB⟩ := Cond.ownField (t := .object "java/lang/Object") Y.found L.cls (by decide +kernel) (a (.fieldLink Bundle.tN 198 Bundle.tN "backtrace" Bundle.objD) (by simp [Bundle.npeArmAtoms])) (a (.lays Bundle.tN Bundle.tN "backtrace" Bundle.objD) (by simp [Bundle.npeArmAtoms])) e.platform hpl
  obtain ⟨cellS, hcellS, heS, -, hkeep⟩ := X.same.2.2.2.2.2 Th.aS cellS0 hcS0
  have hcellS : T.heap[Th.aS]? = some cellS := hcellS
  have hoff : ∀ i, (⟨Th.aS, i⟩ : Loc) ∉ locs := fun i hm => by
    have z := hlocs _ hm cellS0 hcS0
    rw [hiss] at z; cases z
  have hknownS : cellS.vm ≠ .unknown := by
    rw [heS]; intro hu
    rw [show cellS0.vm = .unknown from hu] at hiss
    cases hiss
  obtain ⟨tyC, dC, hdC, hdnC⟩ := Cond.laysAt hfound hk Y.cause (a (.lays Bundle.nN Bundle.tN "cause" "Ljava/lang/Throwable;") (by simp [Bundle.npeArmAtoms]))
  obtain ⟨tyS, dS, hdS, hdnS⟩ := Cond.laysAt hfound hk Y.stack (a (.lays Bundle.nN Bundle.tN "stackTrace" Bundle.steD) (by simp [Bundle.npeArmAtoms]))
  obtain ⟨tyP, dP, hdP, hdnP⟩ := Cond.laysAt hfound hk Y.supp (a (.lays Bundle.nN Bundle.tN "suppressedExceptions" Bundle.listD) (by simp [Bundle.npeArmAtoms]))
  obtain ⟨tyX, dX, hdX, hdnX⟩ := Cond.laysAt hfound hk hffS (a (.lays Bundle.nN Bundle.nN "extendedMessageState" "I") (by simp [Bundle.npeArmAtoms, Bundle.npeAtoms]))
  have hnX : N.fState.name = "extendedMessageState" := (State.fieldFound?_type hffS (t := .int) (by decide +kernel)).1
  obtain ⟨tyB, dB, hdB, hdnB⟩ := Cond.laysAt hfound hk hffB (a (.lays Bundle.nN Bundle.tN "backtrace" Bundle.objD) (by simp [Bundle.npeArmAtoms]))
  have bC := Cond.laysApart hdB hdC hdnB hdnC (by rw [hnB, Y.causeName]; decide)
  have bS := Cond.laysApart hdB hdS hdnB hdnS (by rw [hnB, Y.stackName]; decide)
  have bP := Cond.laysApart hdB hdP hdnB hdnP (by rw [hnB, Y.suppName]; decide)
  have bX := Cond.laysApart hdB hdX hdnB hdnX (by rw [hnB, hnX]; decide)
  have hskip : SkipFacts Th e.platform s (fun u => u) u0 ((npeCell N.toNpeT (preparedCellV Th.toThrowableT (freshCell P1.m.cls N.kN) T.heap.size u0 sen) T.cur).withEntry T.cur) :=
    ⟨{ ci198 := ci198, i198 := i198, fBack := fB }, ⟨hk198, hg198, ha198, hsB⟩, by
      have z := fresh_default (c := P1.m.cls) tyB
      rw [htB] at z
      simpa [npeCell, preparedCellV, Cell.setSlot, Cell.withEntry, Array.getElem?_setIfInBounds, bC, bS, bP, bX, bC.symm, bS.symm, bP.symm, bX.symm, defaultValue] using z, fun _ _ => rfl⟩
  obtain ⟨hbeyond, hfreeW⟩ := X.vmMayThrow hsize (.throwNew "java/lang/NullPointerException" none none) (fun f hf => by cases hf) rfl hRlocals
  have hfr : T.frames.length + [PR, PE].length + 5 < (e.platform.stackLimits T.me).1 := by have := X.framesAbove hRframes; simp only [List.length_cons, List.length_nil]; omega
  have hwd : (stackUse (.java g :: T.frames.tail)).2 + 13 * [PR, PE].length + 68 ≤ (e.platform.stackLimits T.me).2 := by have := X.stackAbove hsize (K := 13 * 2 + 68) (by omega); simp only [List.length_cons, List.length_nil]; omega
  obtain ⟨vm1, hW1, st⟩ := Steps.vmThrowsNpeColdByV p (s₀ := s) (S := T) (g := g) hA hexec Th L Z LZ N LN X.warmed (t := T.cur) rfl P1 L1 [PR, PE] (fun P hP => by
      simp only [List.mem_cons, List.not_mem_nil, or_false] at hP
      rcases hP with rfl | rfl
      · exact LR
      · exact LEx) hlink1 ⟨hlinkR, hlinkE, trivial⟩ hfound hk hinit hordN hctor
    (Launch.admits_hotImplicitExceptions X.admits) hbeyond hfreeW (X.cellsAbove hRcells) (by rw [hn]; exact X.slotsAbove hRslots)
    (Nn := fun u => u) heapOnly_id (fun _ _ => rfl) (fun _ => rfl) (fun u x y => setCell_twice _ _ _ _) (fun _ => Nat.le_refl _) (cN := ((npeCell N.toNpeT (preparedCellV Th.toThrowableT (freshCell P1.m.cls N.kN) T.heap.size u0 sen) T.cur).withEntry T.cur))
    hsel0 hcellS hknownS (by rw [hkeep _ (hoff _)]; exact hu0) (by rw [fresh_default tyX, LN.stateInt]; rfl)
    (Cond.laysApart hdC hdX hdnC hdnX (by rw [Y.causeName, hnX]; decide)) (Cond.laysApart hdS hdX hdnS hdnX (by rw [Y.stackName, hnX]; decide)) (Cond.laysApart hdP hdX hdnP hdnX (by rw [Y.suppName, hnX]; decide))
    (Takes.of_laid hk hordN tyS (by rw [Y.stackType]; exact fits_refV_array _ u0)) (Takes.of_laid hk hordN tyX (by rw [LN.stateInt]; rfl)) (fun _ hu => hu) (fun _ hu => hu) rfl rfl rfl (by simp [npeCell, preparedCellV, Cell.setSlot, Cell.withEntry]) hskip
    (fun _ _ hA hW _ hroom _ hrest => L.nativeOff p htr hA hW hroom hrest) hselF (by rw [hkeep _ (hoff _)]; exact hsen) (Takes.of_laid hk hordN tyC (by rw [Y.causeType]; rfl)) (Takes.of_laid hk hordN tyP (by rw [Y.suppType]; exact fits_refV_object _ sen)) Y.objLocals rfl hfr hwd
  rw [npeBareV_eq Th.toThrowableT N.toNpeT T.heap.size u0 sen T.cur rfl rfl] at st
  have X2 := (X.pushed (freshCell P1.m.cls N.kN)).noted hW1
  have hsz : ((T.pushCell (freshCell P1.m.cls N.kN)).setVm vm1).heap.size = T.heap.size + 1 := State.heap_size_pushCell _ _
  have ha : T.heap.size < ((T.pushCell (freshCell P1.m.cls N.kN)).setVm vm1).heap.size := by rw [hsz]; omega
  have hcl : ((T.pushCell (freshCell P1.m.cls N.kN)).setVm vm1).heap[T.heap.size]? = some (freshCell P1.m.cls N.kN) := State.heap_pushCell_size T (freshCell P1.m.cls N.kN)
  have X5 := ex_again (ex_again (ex_again (ex_again (X2.stored hcl Th.fCause.slot (.ref T.heap.size)) ha Th.fStack.slot u0.v) ha Th.fSupp.slot sen.v) ha N.fState.slot (.int 1)) ha Th.fStack.slot u0.v
  simp only [List.append_assoc, List.cons_append, List.nil_append] at X5
  have hge : s.heap.size ≤ T.heap.size := X.same.2.1
  have X6 := Stand.forget X5 (fun y hy => by
    simp only [List.mem_cons, List.not_mem_nil, or_false] at hy
    rcases hy with rfl | rfl | rfl | rfl | rfl <;> exact hge)
  have b3 : (freshCell P1.m.cls N.kN).slots.size = 8 := by simp [hn]
  rw [b3] at X6
  refine ⟨_, _, X6, ?_, fun i hi => ?_, heapAt_setCell_self (s := (T.pushCell (freshCell P1.m.cls N.kN)).setVm vm1) _ ha, hfound, rfl, fun tg hr => st tg ?_⟩
  · show (((T.pushCell (freshCell P1.m.cls N.kN)).setVm vm1).heap.setIfInBounds _ _).size = _
    rw [Array.size_setIfInBounds]; exact hsz
  · show (((T.pushCell (freshCell P1.m.cls N.kN)).setVm vm1).heap.setIfInBounds _ _)[i]? = _
    rw [Array.getElem?_setIfInBounds, if_neg (by omega)]
    show (T.heap.push _)[i]? = _
    rw [Array.getElem?_push, if_neg (by omega)]
  · have e9 := ex_top X6 g T.heap.size
    rw [X6.tail] at e9
    rw [X.tail, e9]
    exact hr
/-- one row of a method's table: it covers the pc, its class is found by its name -/
def exRow (s : State) (args : Array Value) (own : String) (pc : Nat) (x : ExceptionTableEntry) (nm : String) : Prop := covers x pc = true ∧ x.catchType ≠ 0 ∧ (Cond.classLink own x.catchType nm).before args s = true
/-- the search goes through rows whose class isn't the exception's, up to one whose class is -/
theorem ex_find (X : Stand p l e R s m args below meth c T locs cells slots) {own : String} (hown : s.vm.findClass own = some m.cls) {a : Addr} {cell : Cell} (hcell : T.heap[a]? = some cell) (hobj : cell.vm.isStatics = false) {g : JFrame} (hg : g.method = m)
    {x : ExceptionTableEntry} {rest : List ExceptionTableEntry} {nm : String} (hx : exRow s args own g.pc x nm) {cT : ClassId} (hcT : s.vm.findClass nm = some cT) (hfit : s.vm.assignable cell.cls cT = true) (hk : ∃ k, s.vm.classes[cell.cls]? = some k) :
    ∀ (pre : List (ExceptionTableEntry × String)) (vm0 : Vm), s.WarmedH vm0 → (∀ z ∈ pre, covers z.1 g.pc = false ∨ (exRow s args own g.pc z.1 z.2 ∧ ∃ cP, s.vm.findClass z.2 = some cP ∧ s.vm.assignable cell.cls cP = false)) →
      ∃ vm1, s.WarmedH vm1 ∧ ∀ (Q : Handler → Pre) (E : CtlPost) (d : Bool) (acts : List Action), wp (findHandler.go g a (pre.map (·.1) ++ x :: rest)) Q E e d acts ((((T.setTop g).pushFrame (.throwing a))).setVm vm0) ↔ Q (.found x.handlerPc) d acts ((((T.setTop g).pushFrame (.throwing a))).setVm vm1) := by
  have hpl : e.platform.magicAccessors = ({} : Platform).magicAccessors := by rw [X.admits.platform]
  have one : ∀ (y : ExceptionTableEntry) (n9 : String) (c9 : ClassId) (t9 : List ExceptionTableEntry) (vm0 : Vm), s.WarmedH vm0 → exRow s args own g.pc y n9 → s.vm.findClass n9 = some c9 →
      ∃ vm1, s.WarmedH vm1 ∧ ∀ (Q : Handler → Pre) (E : CtlPost) (d : Bool) (acts : List Action), wp (findHandler.go g a (y :: t9)) Q E e d acts (((T.setTop g).pushFrame (.throwing a)).setVm vm0) ↔ (if s.vm.assignable cell.cls c9 = true then Q (.found y.handlerPc) d acts (((T.setTop g).pushFrame (.throwing a)).setVm vm1) else wp (findHandler.go g a t9) Q E e d acts (((T.setTop g).pushFrame (.throwing a)).setVm vm1)) := by
    intro y n9 c9 t9 vm0 hW hy hc9
    obtain ⟨hy1, hy2, hy3⟩ := hy
    obtain ⟨c', hc', hcl⟩ := Cond.classLink_spec hown hy3 e.platform hpl
    cases hc9.symm.trans hc'
    obtain ⟨dk, _, _, kt, hd, _, _, _, _, hkt, _, hop9⟩ := hcl.here
    have hcl₀ := hW.classLinks hcl
    have hW' : s.WarmedH (vm0.noted m.cls y.catchType (.cls c9)) := hW.noted hd hop9 (State.rightAt_cls hcl)
    refine ⟨_, hW', fun Q E d acts => ?_⟩
    subst hg
    simp only [covers] at hy1
    obtain ⟨ha, ht⟩ := (resolveClass_links e.toSetting hcl₀).op (op := VmOp.resolveClass g.method.cls y.catchType) rfl
    obtain ⟨k1, hk1⟩ := hk
    obtain ⟨k1', hk1', -⟩ := hW'.alike.2.2 _ _ hk1
    obtain ⟨k2', hk2', -⟩ := hW'.alike.2.2 _ _ hkt
    have hasg : (vm0.noted g.method.cls y.catchType (.cls c9)).assignable cell.cls c9 = s.vm.assignable cell.cls c9 := hW'.alike.assignable _ _
    have hc2 : (((T.setTop g).pushFrame (.throwing a)).setVm vm0).heap[a]? = some cell := hcell
    have hobj' : ∀ k, cell.vm ≠ .statics k := VmData.ne_statics_of hobj
    have hc3 : ((T.setTop g).pushFrame (.throwing a)).heap[a]? = some cell := hcell
    cases hf : s.vm.assignable cell.cls c9 <;>
      · rw [hf] at hasg
        simp [findHandler.go, hy1, hy2, ha, ht, hc2, hc3, hobj', hk1', hk2', hasg, VmOp.dirties, VmOp.acts, State.setVm_twice]
  intro pre
  induction pre with
  | nil =>
    intro vm0 hW _
    obtain ⟨vm1, hW1, st⟩ := one x nm cT rest vm0 hW hx hcT
    refine ⟨vm1, hW1, fun Q E d acts => ?_⟩
    show wp (findHandler.go g a (x :: rest)) Q E e d acts _ ↔ _
    rw [st, if_pos hfit]
  | cons z ps ih =>
    intro vm0 hW hps
    rcases hps z (List.mem_cons_self ..) with hcov | ⟨hz, cP, hcP, hno⟩
    · obtain ⟨vm2, hW2, st2⟩ := ih vm0 hW (fun w hw => hps w (List.mem_cons_of_mem _ hw))
      refine ⟨vm2, hW2, fun Q E d acts => ?_⟩
      show wp (findHandler.go g a (z.1 :: (ps.map (·.1) ++ x :: rest))) Q E e d acts _ ↔ _
      rw [← st2 Q E d acts]
      simp only [covers] at hcov
      simp [findHandler.go, hcov]
    obtain ⟨vm1, hW1, st⟩ := one z.1 z.2 cP (ps.map (·.1) ++ x :: rest) vm0 hW hz hcP
    obtain ⟨vm2, hW2, st2⟩ := ih vm1 hW1 (fun w hw => hps w (List.mem_cons_of_mem _ hw))
    refine ⟨vm2, hW2, fun Q E d acts => ?_⟩
    show wp (findHandler.go g a (z.1 :: (ps.map (·.1) ++ x :: rest))) Q E e d acts _ ↔ _
    rw [st, if_neg (by rw [hno]; decide), st2]
/-- caught: on at the handler -/
theorem ex_catch (X : Stand p l e R s m args below meth c T locs cells slots) {own : String} (hown : s.vm.findClass own = some m.cls) {a : Addr} {cell : Cell} (hcell : T.heap[a]? = some cell) (hobj : cell.vm.isStatics = false) {g : JFrame} (hg : g.method = m)
    {x : ExceptionTableEntry} {rest : List ExceptionTableEntry} {nm : String} (hx : exRow s args own g.pc x nm) {cT : ClassId} (hcT : s.vm.findClass nm = some cT) (hfit : s.vm.assignable cell.cls cT = true)
    (pre : List (ExceptionTableEntry × String)) (hpre : ∀ z ∈ pre, covers z.1 g.pc = false ∨ (exRow s args own g.pc z.1 z.2 ∧ ∃ cP, s.vm.findClass z.2 = some cP ∧ s.vm.assignable cell.cls cP = false)) (hsplit : c.exceptionTable.toList = pre.map (·.1) ++ x :: rest) :
    ∃ vm1, Stand p l e R s m args below meth c (T.setVm vm1) locs cells slots ∧ ∀ tg, Steps p.tables e below ((T.setVm vm1).setTop { g with pc := x.handlerPc, stack := [.ref a] }) tg → Steps p.tables e below ((T.setTop g).pushFrame (.throwing a)) tg := by
  have hk : ∃ k, s.vm.classes[cell.cls]? = some k := Vm.classAt_of_assignable hfit (Vm.classAt_of_findClass hcT)
  obtain ⟨vm1, hW1, st⟩ := ex_find X hown hcell hobj hg (rest := rest) hx hcT hfit hk pre T.vm X.warmed hpre
  refine ⟨vm1, X.noted hW1, fun tg hr => ?_⟩
  have hfind : ∀ (Q : Handler → Pre) (E : CtlPost) (d : Bool) (acts : List Action), wp (findHandler g a) Q E e d acts ((T.setTop g).pushFrame (.throwing a)) ↔ Q (.found x.handlerPc) d acts (((T.setTop g).pushFrame (.throwing a)).setVm vm1) := by
    intro Q E d acts
    rw [W.findHandler_eq (meth := meth) (code := c) (by rw [hg]; exact X.method') X.code, hsplit]
    exact st Q E d acts
  have hAt : At T g.method c below := by rw [hg]; exact X.here
  obtain ⟨hgo, hw⟩ := hAt.throwing a
  refine Steps.head hgo hw ?_
  obtain ⟨g₀, hfr⟩ := X.frames_eq
  have hstep : (stepThrowing e ((T.setTop g).pushFrame (.throwing a)) a (.java g :: T.frames.tail)).1 = ((((T.setTop g).pushFrame (.throwing a)).setVm vm1).setFrames (.java { g with pc := x.handlerPc, stack := [.ref a] } :: T.frames.tail)) := by
    simp only [stepThrowing, searchFrame, vmDo]
    generalize hr : Sem.go _ e false [] _ = res
    obtain ⟨as, rfl, ha⟩ := Sem.eq_ok_of hr (a := Handler.found x.handlerPc) (s' := ((T.setTop g).pushFrame (.throwing a)).setVm vm1) (acts' := []) (by simp [hfind _ _ _ _])
    rfl
  rw [stepThread_throwing (frames_entered hAt.top _), hstep]
  have hr' : (T.setVm vm1).frames = .java g₀ :: below := hfr
  rw [State.setTop_of_frames _ hr'] at hr
  have e1 : ((((T.setTop g).pushFrame (.throwing a)).setVm vm1).setFrames (.java { g with pc := x.handlerPc, stack := [.ref a] } :: T.frames.tail)) = (T.setVm vm1).setFrames (.java { g with pc := x.handlerPc, stack := [.ref a] } :: below) := by
    rw [X.tail, State.pushFrame, State.setTop_of_frames _ hfr]
    show (((T.setFrames _).setFrames _).setVm vm1).setFrames _ = _
    rw [State.setFrames_setFrames]
    show ((T.setVm vm1).setFrames _).setFrames _ = _
    rw [State.setFrames_setFrames]
  rw [e1]
  exact hr
end EXC
