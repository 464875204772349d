/-! WHAT THE MACHINE THROWS: its steps up to the note that it is being thrown -/
section EXC
variable {p : Program} {l : Launch} {e : Env} {R : Room} {s : State} {m : MethodId} {args : Array Value} {below : List Frame} {meth : Method} {c : Code} {T : State} {locs : List Loc} {cells slots : Nat}
theorem ex_top (X : Stand p l e R s m args below meth c T locs cells slots) (g : JFrame) (a : Addr) : T.setFrames (.throwing a :: .java g :: T.frames.tail) = (T.setTop g).pushFrame (.throwing a) := by
  obtain ⟨g₁, hfr⟩ := X.frames_eq
  rw [State.pushFrame, State.frames_setTop _ hfr, State.setTop_of_frames _ hfr, State.setFrames_setFrames, X.tail]
theorem ex_again {U : State} {a : Addr} {cell : Cell} (X : Stand p l e R s m args below meth c (U.setCell a cell) locs cells slots) (ha : a < U.heap.size) (i : Nat) (v : Value) : Stand p l e R s m args below meth c (U.setCell a (cell.setSlot i v)) (locs ++ [⟨a, i⟩]) cells slots := by
  have h := X.stored (heapAt_setCell_self cell ha) i v
  rwa [setCell_twice] at h
theorem ex_selF (X : Stand p l e R s m args below meth c T locs cells slots) {C : String} {x y : MethodName} {cC : ClassId} {r k : MethodId} (hc : s.vm.findClass C = some cC) (hr : s.methodNamed? x = some r) (hx : x.cls ≠ "java/lang/invoke/MethodHandle" ∧ x.cls ≠ "java/lang/invoke/VarHandle") (hk : s.methodNamed? y = some k) (h : (Cond.selects C x y).before args s = true) : selectMethod e.platform s.vm cC r = .method k := by
  obtain ⟨c2, r2, m2, q1, q2, q3, q4, -⟩ := Cond.selects_spec h
  cases Option.some.inj (q1.symm.trans hc)
  cases Option.some.inj (q2.symm.trans (State.methodFound?_of_named hr hx))
  cases Option.some.inj (q3.symm.trans hk)
  rw [Launch.admits_selectMethod X.admits]; exact q4
set_option maxHeartbeats 4000000 in
/-- an exception with a message: it is made, and is being thrown over the frame g -/
theorem ex_msg (X : Stand p l e R s m args below meth c T locs cells slots) (hexec : p.tables.exec = Jvm.exec) (htr : e.platform.stackTraces = false) {cls : String} {names : List String} {text : String}
    (hcls : Bundle.fit cls = true) (hnames : ∀ n ∈ names, Bundle.fit n = true) (hsoe : (cls == "java/lang/StackOverflowError") = false) (hoom : (cls == "java/lang/OutOfMemoryError") = false)
    (h : ∀ a ∈ Bundle.messageArmAtoms cls names, a.before args s = true) (hlocs : ∀ x ∈ locs, ∀ cell, s.heap[x.base]? = some cell → cell.vm.isStatics = false)
    (htext : (text == notModelled) = false) (hlimit : ¬ (stringBytes (stringToUtf16 text)).size > e.platform.arrayLengthLimit) (hheap : ¬ (stringBytes (stringToUtf16 text)).size * componentBytes .byte > e.platform.maxHeapBytes)
    {g : JFrame} (hg : g.method = m) (hsize : g.locals.size = c.maxLocals) (hRframes : names.length + 4 < R.frames) (hRlocals : 2 * g.monitorRoom + (g.stack.map fun v => v.category).sum + 10240 ≤ R.locals) (hshort : 13 * names.length + 55 ≤ 10240)
    (hRcells : cells + 3 ≤ R.cells) (hRslots : slots + ((stringBytes (stringToUtf16 text)).size + 4 + 6) ≤ R.slots) :
    ∃ (U : State) (ce : Cell), Stand p l e R s m args below meth c U locs (cells + 3) (slots + ((stringBytes (stringToUtf16 text)).size + 4 + 6)) ∧ U.heap.size = T.heap.size + 3 ∧ (∀ a, a < T.heap.size → U.heap[a]? = T.heap[a]?) ∧ U.heap[T.heap.size + 2]? = some ce ∧ s.vm.findClass cls = some ce.cls ∧ ce.vm = .none ∧
      ∀ tg, Steps p.tables e below ((U.setTop g).pushFrame (.throwing (T.heap.size + 2))) tg → Steps p.tables e below ((T.setTop g).pushFrame (.throwNew cls (some text) none)) tg := by
  have hA : At T g.method c below := by rw [hg]; exact X.here
  have howns : e.platform.frameOwnsMonitors = true := by rw [X.admits.platform]
  have hfin : e.platform.finalization = false := by rw [X.admits.platform]
  have hpl : e.platform.magicAccessors = ({} : Platform).magicAccessors := by rw [X.admits.platform]
  have a : ∀ x, x ∈ Bundle.messageArmAtoms cls names → x.holds args s none s [] = true := fun x hx => h x hx
  obtain ⟨Th, Z0, L, -, Y⟩ := ThrowableC.of_atoms (args := args) howns hfin hpl (fun x hx => h x (by simp [Bundle.messageArmAtoms, hx]))
  obtain ⟨Z, M, LZ, LM, hnZ⟩ := Init0T.ofS_atoms (args := args) hpl L Y (fun x hx => h x (by simp [Bundle.messageArmAtoms, hx]))
  obtain ⟨P1, Ps, hlen, L1, hL, hP1m, hlink1, hlink⟩ := Bundle.chainS (args := args) hpl hnZ names cls hcls hnames (fun x hx => h x (by simp [Bundle.messageArmAtoms, hx]))
  obtain ⟨Zs, LZs, hn4, hfitv, hfitc⟩ := StringT.of_atoms (args := args) (fun x hx => h x (by simp [Bundle.messageArmAtoms, hx]))
  have hfound : s.vm.findClass cls = some P1.m.cls := findClass_of_methodNamed hP1m
  obtain ⟨c1, kX, hc1, hk, hord, -, -, hn6⟩ := Cond.instantiable_spec (a (.instantiable cls 6) (by simp [Bundle.messageArmAtoms]))
  cases Option.some.inj (hc1.symm.trans hfound)
  have hinit := Cond.initialized_spec hfound hk (a (.initialized cls) (by simp [Bundle.messageArmAtoms]))
  have hctor : kX.findMethod "<init>" "(Ljava/lang/String;)V" = some P1.m.idx := findMethod_of_methodNamed hP1m hk
  have hsel0 := ex_selF X hfound Y.fill0 (by decide) Y.fill0 (a (.selects cls Bundle.tFill0 Bundle.tFill0) (by simp [Bundle.messageArmAtoms]))
  have hselF := ex_selF X hfound Y.fill (by decide) Y.fill (a (.selects cls Bundle.tFill Bundle.tFill) (by simp [Bundle.messageArmAtoms]))
  obtain ⟨cellS0, hcS0, hiss⟩ := Y.statics
  obtain ⟨u0, hu0⟩ := Cond.staticRefV Y.unassigned L.unassignedStatic L.statics hcS0 hiss (a (.isRef (.static Bundle.tN "UNASSIGNED_STACK" Bundle.steD)) (by simp [Bundle.messageArmAtoms]))
  obtain ⟨sen, hsen⟩ := Cond.staticRefV Y.sentinel L.sentinelStatic L.statics hcS0 hiss (a (.isRef (.static Bundle.tN "SUPPRESSED_SENTINEL" Bundle.listD)) (by simp [Bundle.messageArmAtoms]))
  obtain ⟨ci198, i198, fB, hk198, hg198, ha198, hsB, -, hnB, htB, hffB⟩ := Cond.ownField (t := .object "java/lang/Object") Y.found L.cls (by decide +kernel) (a (.fieldLink Bundle.tN 198 Bundle.tN "backtrace" "Ljava/lang/Object;") (by simp [Bundle.messageArmAtoms])) (a (.lays Bundle.tN Bundle.tN "backtrace" "Ljava/lang/Object;") (by simp [Bundle.messageArmAtoms])) e.platform hpl
  obtain ⟨cellS, hcellS, heS, -, hkeep⟩ := X.same.2.2.2.2.2 Th.aS cellS0 hcS0
  have hcellS : T.heap[Th.aS]? = some cellS := hcellS
  have hoff : ∀ i, (⟨Th.aS, i⟩ : Loc) ∉ locs := fun i hm => by
    have z := hlocs _ hm cellS0 hcS0
    rw [hiss] at z; cases z
  have hknownS : cellS.vm ≠ .unknown := by
    rw [heS]; intro hu
    rw [show cellS0.vm = .unknown from hu] at hiss
    cases hiss
  obtain ⟨iM, hffM⟩ := Y.msg
  obtain ⟨tyC, dC, hdC, hdnC⟩ := Cond.laysAt hfound hk Y.cause (a (.lays cls Bundle.tN "cause" "Ljava/lang/Throwable;") (by simp [Bundle.messageArmAtoms]))
  obtain ⟨tyS, dS, hdS, hdnS⟩ := Cond.laysAt hfound hk Y.stack (a (.lays cls Bundle.tN "stackTrace" Bundle.steD) (by simp [Bundle.messageArmAtoms]))
  obtain ⟨tyP, dP, hdP, hdnP⟩ := Cond.laysAt hfound hk Y.supp (a (.lays cls Bundle.tN "suppressedExceptions" Bundle.listD) (by simp [Bundle.messageArmAtoms]))
  obtain ⟨tyM, dM, hdM, hdnM⟩ := Cond.laysAt hfound hk hffM (a (.lays cls Bundle.tN "detailMessage" "Ljava/lang/String;") (by simp [Bundle.messageArmAtoms]))
  obtain ⟨tyB, dB, hdB, hdnB⟩ := Cond.laysAt hfound hk hffB (a (.lays cls Bundle.tN "backtrace" "Ljava/lang/Object;") (by simp [Bundle.messageArmAtoms]))
  have bC := Cond.laysApart hdB hdC hdnB hdnC (by rw [hnB, Y.causeName]; decide)
  have bS := Cond.laysApart hdB hdS hdnB hdnS (by rw [hnB, Y.stackName]; decide)
  have bP := Cond.laysApart hdB hdP hdnB hdnP (by rw [hnB, Y.suppName]; decide)
  have hskip : SkipFacts Th e.platform s (fun u => u) u0 ((preparedCellV Th.toThrowableT (freshCell P1.m.cls kX) (T.heap.size + 2) u0 sen).withEntry T.cur) :=
    ⟨{ ci198 := ci198, i198 := i198, fBack := fB }, ⟨hk198, hg198, ha198, hsB⟩, by
      have z := fresh_default (c := P1.m.cls) tyB
      rw [htB] at z
      simpa [preparedCellV, Cell.setSlot, Cell.withEntry, Array.getElem?_setIfInBounds, bC, bS, bP, bC.symm, bS.symm, bP.symm, defaultValue] using z, fun _ _ => rfl⟩
  obtain ⟨hbeyond, hfreeW⟩ := X.vmMayThrow hsize (.throwNew cls (some text) none) (fun f hf => by cases hf) rfl hRlocals
  have hfr : T.frames.length + Ps.length + 4 < (e.platform.stackLimits T.me).1 := by have := X.framesAbove hRframes; rw [hlen]; omega
  have hwd : (stackUse (.java g :: T.frames.tail)).2 + 13 * Ps.length + 55 ≤ (e.platform.stackLimits T.me).2 := by have := X.stackAbove hsize (K := 13 * names.length + 55) (by omega); rw [hlen]; omega
  have hsl : T.slotsUsed + (stringBytes (stringToUtf16 text)).size + Zs.kS.instanceTypes.size + kX.instanceTypes.size ≤ e.platform.maxSlots := by have := X.slotsAbove hRslots; rw [hn4, hn6]; omega
  obtain ⟨vm1, hW1, st⟩ := Steps.vmThrowsMessageColdByV p (s₀ := s) (S := T) (g := g) hA hexec Th L Z LZ M LM X.warmed (t := T.cur) rfl Zs LZs P1 L1 Ps hL hlink1 hlink hsoe hoom hfound hk hinit hord hctor
    (Launch.admits_hotImplicitExceptions X.admits) hbeyond hfreeW htext hlimit hheap (X.cellsAbove hRcells) hsl (hfitv _) (hfitc _)
    (Nn := fun u => u) heapOnly_id (fun _ _ => rfl) (fun _ => rfl) (fun u x y => setCell_twice _ _ _ _) (fun _ => Nat.le_refl _) (cN := ((preparedCellV Th.toThrowableT (freshCell P1.m.cls kX) (T.heap.size + 2) u0 sen).withEntry T.cur))
    hsel0 hcellS hknownS (by rw [hkeep _ (hoff _)]; exact hu0) (Takes.of_laid hk hord tyS (by rw [Y.stackType]; exact fits_refV_array _ u0)) (fun _ hu => hu) (fun _ hu => hu) rfl rfl rfl (by simp [preparedCellV, Cell.setSlot, Cell.withEntry]) hskip
    (fun _ _ hA hW _ hroom _ hrest => L.nativeOff p htr hA hW hroom hrest) hselF (by rw [hkeep _ (hoff _)]; exact hsen) (Takes.of_laid hk hord tyC (by rw [Y.causeType]; rfl)) (Takes.of_laid hk hord tyP (by rw [Y.suppType]; exact fits_refV_object _ sen)) (Takes.of_laid hk hord tyM (by rw [Y.msgType]; rfl)) Y.objLocals rfl hfr hwd
  rw [plainBareV_eq Th.toThrowableT (T.heap.size + 2) u0 sen (.ref (T.heap.size + 1)) T.cur rfl rfl] at st
  obtain ⟨-, -, w3, w4, w5, -, -⟩ := withThrown_facts e.platform T Zs text P1.m.cls kX
  have X3 := ((X.pushed (bytesOf Zs.cB (stringToUtf16 text))).pushed (stringAt Zs.cS Zs.kS Zs.fv Zs.fc (stringToUtf16 text) T.heap.size)).pushed (freshCell P1.m.cls kX)
  rw [← withString_eq] at X3
  have X4 := X3.noted hW1
  have ha : T.heap.size + 2 < ((withThrown T Zs text P1.m.cls kX).setVm vm1).heap.size := by show _ < (withThrown T Zs text P1.m.cls kX).heap.size; rw [w3]; omega
  have hcl : ((withThrown T Zs text P1.m.cls kX).setVm vm1).heap[T.heap.size + 2]? = some (freshCell P1.m.cls kX) := w4
  have X5 := ex_again (ex_again (ex_again (ex_again (X4.stored hcl Th.fCause.slot (.ref (T.heap.size + 2))) ha Th.fStack.slot u0.v) ha Th.fSupp.slot sen.v) ha Th.fStack.slot u0.v) ha Th.fMsg.slot (.ref (T.heap.size + 1))
  simp only [List.append_assoc, List.cons_append, List.nil_append] at X5
  have hge : s.heap.size ≤ T.heap.size := X.same.2.1
  have X6 := Stand.forget X5 (fun y hy => by
    simp only [List.mem_cons, List.not_mem_nil, or_false] at hy
    rcases hy with rfl | rfl | rfl | rfl | rfl <;> exact Nat.le_trans hge (Nat.le_add_right _ 2))
  have b1 : (bytesOf Zs.cB (stringToUtf16 text)).slots.size = (stringBytes (stringToUtf16 text)).size := by rw [(Cell.writeAll_facts _ _).2.2]; simp [bytes0]
  have b2 : (stringAt Zs.cS Zs.kS Zs.fv Zs.fc (stringToUtf16 text) T.heap.size).slots.size = 4 := by simp [string0, Cell.setSlot, hn4]
  have b3 : (freshCell P1.m.cls kX).slots.size = 6 := by simp [hn6]
  rw [b1, b2, b3] at X6
  refine ⟨_, _, stand_widen X6 (Nat.le_refl _) (by omega), ?_, fun i hi => ?_, heapAt_setCell_self (s := (withThrown T Zs text P1.m.cls kX).setVm vm1) _ ha, hfound, rfl, fun tg hr => st tg ?_⟩
  · show (((withThrown T Zs text P1.m.cls kX).setVm vm1).heap.setIfInBounds _ _).size = _
    rw [Array.size_setIfInBounds]; exact w3
  · show (((withThrown T Zs text P1.m.cls kX).setVm vm1).heap.setIfInBounds _ _)[i]? = _
    rw [Array.getElem?_setIfInBounds, if_neg (by omega)]
    exact w5 i hi
  · have e9 := ex_top X6 g (T.heap.size + 2)
    rw [X6.tail] at e9
    rw [X.tail, e9]
    exact hr
end EXC
