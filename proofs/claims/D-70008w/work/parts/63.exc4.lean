/-! a cast that fails, and its words -/
theorem ex_cls {vm : Vm} {name : String} {c : ClassId} (h : vm.findClass name = some c) : ∃ k, vm.classes[c]? = some k ∧ k.name = name ∧ k.hidden = none ∧ k.loader = none := by
  obtain ⟨hlt, hp, _⟩ := Array.findIdx?_eq_some_iff_getElem.mp h
  refine ⟨vm.classes[c], by simp [hlt], ?_⟩
  simp only [Bool.and_eq_true, beq_iff_eq, Option.isNone_iff_eq_none] at hp
  exact ⟨hp.1.1.1, hp.1.1.2, hp.2⟩
theorem ex_home {vm : Vm} (hM : (vm.modules.all fun m => m.loader.isSome || m.name == "java.base" || !(castPackages_1.any fun p => m.packages.contains p)) = true) {k : Class} (hl : k.loader = none) (hp : packageOf k.name ∈ castPackages_1) : (vm.home k).toList.length ≤ 40 := by
  have hn : ∀ md, vm.moduleOf k = some md → md.name = "java.base" := by
    intro md hmd
    unfold Vm.moduleOf at hmd
    split at hmd
    · have z := List.find?_some hmd
      simpa using z
    · have h1 := List.find?_some hmd
      have h2 := List.mem_of_find?_eq_some hmd
      rw [List.all_eq_true] at hM
      have h3 := hM md h2
      simp only [Bool.and_eq_true, beq_iff_eq] at h1
      rw [h1.1, hl] at h3
      simp only [Option.isSome_none, Bool.false_or, Bool.or_eq_true, beq_iff_eq] at h3
      rcases h3 with h3 | h3
      · exact h3
      · exfalso
        simp only [Bool.not_eq_true', List.any_eq_false] at h3
        exact h3 (packageOf k.name) hp h1.2
  unfold Vm.home
  rw [hl]
  cases hm : vm.moduleOf k with
  | none =>
    show ("unnamed module" ++ " of loader " ++ "'bootstrap'").toList.length ≤ 40
    exact Nat.le_of_ble_eq_true (by decide +kernel)
  | some md =>
    show (("module " ++ md.name) ++ " of loader " ++ "'bootstrap'").toList.length ≤ 40
    rw [hn md hm]
    exact Nat.le_of_ble_eq_true (by decide +kernel)
theorem ex_text {vm : Vm} (hM : (vm.modules.all fun m => m.loader.isSome || m.name == "java.base" || !(castPackages_1.any fun p => m.packages.contains p)) = true) {k t : Class} (hk : k.loader = none) (hp : packageOf k.name ∈ castPackages_1) (ht : t.loader = none) (hq : packageOf t.name ∈ castPackages_1) (hs : k.hidden = none) (hs2 : t.hidden = none) (h1 : (dotted k.name).toList.length ≤ 24) (h2 : (dotted t.name).toList.length ≤ 24) :
    ((checkcast.message vm k t) == notModelled) = false ∧ (stringBytes (stringToUtf16 (checkcast.message vm k t))).size ≤ 1200 := by
  have e1 : k.shown = dotted k.name := by unfold Class.shown; rw [hs]
  have e2 : t.shown = dotted t.name := by unfold Class.shown; rw [hs2]
  have a1 := ex_home hM hk hp
  have a2 := ex_home hM ht hq
  have hl : (vm.homes k t).toList.length ≤ 160 := by
    unfold Vm.homes
    rw [e1, e2]
    split
    · show (toString (dotted k.name) ++ toString " and " ++ toString (dotted t.name) ++ toString " are in " ++ toString (vm.home k)).toList.length ≤ 160
      simp only [String.toList_append, List.length_append]
      have b1 : (toString " and ").toList.length = 5 := by decide
      have b2 : (toString " are in ").toList.length = 8 := by decide
      have b3 : (toString (dotted k.name)).toList.length ≤ 24 := h1
      have b4 : (toString (dotted t.name)).toList.length ≤ 24 := h2
      have b5 : (toString (vm.home k)).toList.length ≤ 40 := a1
      omega
    · show (toString (dotted k.name) ++ toString " is in " ++ toString (vm.home k) ++ toString "; " ++ toString (dotted t.name) ++ toString " is in " ++ toString (vm.home t)).toList.length ≤ 160
      simp only [String.toList_append, List.length_append]
      have b1 : (toString " is in ").toList.length = 7 := by decide
      have b2 : (toString "; ").toList.length = 2 := by decide
      have b3 : (toString (dotted k.name)).toList.length ≤ 24 := h1
      have b4 : (toString (dotted t.name)).toList.length ≤ 24 := h2
      have b5 : (toString (vm.home k)).toList.length ≤ 40 := a1
      have b6 : (toString (vm.home t)).toList.length ≤ 40 := a2
      omega
  have hm : checkcast.message vm k t = toString "class " ++ toString (dotted k.name) ++ toString " cannot be cast to class " ++ toString (dotted t.name) ++ toString " (" ++ toString (vm.homes k t) ++ toString ")" := by
    unfold checkcast.message
    rw [e1, e2]
  constructor
  · rw [beq_eq_false_iff_ne]
    intro h
    have h3 := congrArg String.toList h
    rw [hm] at h3
    simp only [String.toList_append] at h3
    rw [show (toString "class ").toList = 'c' :: "lass ".toList from rfl, show notModelled.toList = '\u0000' :: " a message that is not modelled".toList by decide] at h3
    simp at h3
  · have b1 := stringBytes_size_le (stringToUtf16 (checkcast.message vm k t))
    have b2 := utf16_size_le (checkcast.message vm k t)
    have b3 : (checkcast.message vm k t).toList.length ≤ 260 := by
      rw [hm]
      simp only [String.toList_append, List.length_append]
      have c1 : (toString "class ").toList.length = 6 := by decide
      have c2 : (toString " cannot be cast to class ").toList.length = 25 := by decide
      have c3 : (toString " (").toList.length = 2 := by decide
      have c4 : (toString ")").toList.length = 1 := by decide
      have c5 : (toString (dotted k.name)).toList.length ≤ 24 := h1
      have c6 : (toString (dotted t.name)).toList.length ≤ 24 := h2
      have c7 : (toString (vm.homes k t)).toList.length ≤ 160 := hl
      omega
    omega
section EXD
variable {p : Program} {l : Launch} {e : Env} {R : Room} {s : State} {m : MethodId} {args : Array Value} {below : List Frame} {meth : Method} {c : Code} {T : State} {locs : List Loc} {cells slots : Nat}
theorem ex_castNo (X : Stand p l e R s m args below meth c T locs cells slots) (hexec : p.tables.exec = Jvm.exec) {own name C : String} {index : Nat} (hown : s.vm.findClass own = some m.cls) (hlink : (Cond.classLink own index name).before args s = true)
    {a : Addr} {cell : Cell} {cT : ClassId} (hcell : T.heap[a]? = some cell) (hobj : cell.vm.isStatics = false) (hC : s.vm.findClass C = some cell.cls) (hcT : s.vm.findClass name = some cT) (hasg : s.vm.assignable cell.cls cT = false) (hM : modulesRight_1 s = true)
    (hp : packageOf C ∈ castPackages_1) (hq : packageOf name ∈ castPackages_1) (h1 : (dotted C).toList.length ≤ 24) (h2 : (dotted name).toList.length ≤ 24)
    {g : JFrame} (hg : g.method = m) {rest : List Value} (hstack : g.stack = .ref a :: rest) (hdg : decode c.code g.pc = .ok (.checkcast index, 3)) :
    ∃ (T1 : State) (text : String), T1.heap = T.heap ∧ Stand p l e R s m args below meth c T1 locs cells slots ∧ (text == notModelled) = false ∧ (stringBytes (stringToUtf16 text)).size ≤ 1200 ∧
      ∀ tg, Steps p.tables e below ((T1.setTop g).pushFrame (.throwNew "java/lang/ClassCastException" (some text) none)) tg → Steps p.tables e below (T.setTop g) tg := by
  have hpl : e.platform.magicAccessors = ({} : Platform).magicAccessors := by rw [X.admits.platform]
  obtain ⟨c', hc', hcl⟩ := Cond.classLink_spec hown hlink e.platform hpl
  cases hcT.symm.trans hc'
  obtain ⟨dk, _, _, kt, hd, _, _, _, _, hkt, _, hop9⟩ := hcl.here
  have hcl₀ := X.warmed.classLinks hcl
  have hW' : s.WarmedH (T.vm.noted m.cls index (.cls cT)) := X.warmed.noted hd hop9 (State.rightAt_cls hcl)
  have f1 : (T.vm.noted m.cls index (.cls cT)).findClass C = some cell.cls := by rw [hW'.alike.findClass]; exact hC
  have f2 : (T.vm.noted m.cls index (.cls cT)).findClass name = some cT := by rw [hW'.alike.findClass]; exact hcT
  obtain ⟨ks', hks', n1, n2, n3⟩ := ex_cls f1
  obtain ⟨kt', hkt', m1, m2, m3⟩ := ex_cls f2
  have hmods : (T.vm.noted m.cls index (.cls cT)).modules = s.vm.modules := by
    have z := hW'.alike.1
    rw [z]
  have hMM : ((T.vm.noted m.cls index (.cls cT)).modules.all fun m => m.loader.isSome || m.name == "java.base" || !(castPackages_1.any fun p => m.packages.contains p)) = true := by rw [hmods]; exact hM
  obtain ⟨t1, t2⟩ := ex_text hMM n3 (by rw [n1]; exact hp) m3 (by rw [m1]; exact hq) n2 m2 (by rw [n1]; exact h1) (by rw [m1]; exact h2)
  refine ⟨T.setVm (T.vm.noted m.cls index (.cls cT)), _, rfl, X.noted hW', t1, t2, fun target hrest => ?_⟩
  subst hg
  jvm_step X.here [hexec, hdg, checkcast.wp_cold (e := e) (s := T) (f := g) X.here.top hstack (resolveClass_links e.toSetting hcl₀) hcl₀.ready,
    checkcast.wp_ready (e := e) (s := T.setVm (T.vm.noted g.method.cls index (.cls cT))) (f := g) X.here.top hcl₀.ready hstack]
  refine ⟨cell, hcell, VmData.noStatics_of hobj, ks', hks', kt', hkt', ?_⟩
  have h3 : (T.vm.noted g.method.cls index (Resolved.cls cT)).assignable cell.cls cT = false := by rw [hW'.alike.assignable]; exact hasg
  rw [h3, if_neg (by decide)]
  exact hrest
end EXD
