/-! METHODS WITH HANDLERS: bodies, calls, a rule of consequence; the sheets' rows -/
theorem Met.conv {l : Launch} {y : MethodName} {ws : List Cond} {rm : Room} {Pc : Array Value → State → Prop} {Qc : Array Value → State → Outcome → State → Prop} {mc ms : Nat} {free : Addr → Prop}
    (h : ∀ (args : Array Value) (s : State), Pc args s → ∃ (Pc' : Array Value → State → Prop) (Qc' : Array Value → State → Outcome → State → Prop) (free' : Addr → Prop), Met l y ws rm Pc' Qc' mc ms free' ∧ Pc' args s ∧ (∀ o t, Qc' args s o t → Qc args s o t) ∧ (∀ q, free' q → free q)) : Met l y ws rm Pc Qc mc ms free := by
  intro p e h1 h2 h3 s m args below h4 h5 h6 h7
  obtain ⟨Pc', Qc', free', hM, hp, hq, hf⟩ := h args s h6
  obtain ⟨n, o, a1, a2, a3, a4, L, a5, a6⟩ := hM p e h1 h2 h3 s m args below h4 h5 hp h7
  exact ⟨n, o, a1, a2, a3, hq _ _ a4, L, a5, fun q hq => hf _ (a6 q hq)⟩
abbrev cxT (hh : List (Nat × Nat × Nat × Nat)) : List ExceptionTableEntry := hh.map (fun z => ⟨z.1, z.2.1, z.2.2.1, z.2.2.2⟩)
theorem cx_tab {t : List ExceptionTableEntry} {hh : List (Nat × Nat × Nat × Nat)} (h : t.map (fun h => (h.startPc, h.endPc, h.handlerPc, h.catchType)) = hh) : t = cxT hh := by
  subst h
  unfold cxT
  rw [List.map_map]
  exact (List.map_id t).symm
theorem cx_MetW {l : Launch} {y : MethodName} {ws ws' : List Cond} {rm : Room} {Pc : Array Value → State → Prop} {Qc : Array Value → State → Outcome → State → Prop} {mc ms : Nat} {free : Addr → Prop} {cc : ByteArray} {maxL : Nat} {ret : Option FieldType} {hh : List (Nat × Nat × Nat × Nat)}
    (hy : plainName y.cls = true) (hw : ws = Cond.codeWith y cc maxL ret hh :: ws')
    (body : ∀ p e s m args below meth c s₁, BodyLoose p l y (headSpec ws rm) cc maxL ret e s m args below meth c s₁ → c.maxLocals = maxL → c.exceptionTable.toList = cxT hh → Pc args s →
      W p l e (headSpec ws rm).room s m args below meth c s.heap [] 0 0 (MQ below Qc args s mc ms free) (entryFrame m args maxL)) : Met l y ws rm Pc Qc mc ms free := by
  refine va_MetW hy hw ?_
  intro p e s m args below meth c s₁ B hml hP
  refine body p e s m args below meth c s₁ B hml (cx_tab ?_) hP
  obtain ⟨m9, meth9, c9, hn9, h1, h2, -, -, h5, -⟩ := Cond.codeWith_spec (atoms_spec (ws := ws) B.pre _ (by rw [hw]; exact List.mem_cons_self))
  cases B.named.symm.trans hn9
  cases B.method.symm.trans h1
  cases (Stand.of_body B).code.symm.trans h2
  exact h5
section CXC
variable {p : Program} {l : Launch} {e : Env} {R : Room} {s : State} {m : MethodId} {args : Array Value} {below : List Frame} {meth : Method} {c : Code} {H : Heap} {locs : List Loc} {cells slots : Nat} {Q : State → Prop}
abbrev cxB (R : Room) (s : State) (args : Array Value) (own C : String) (index : Nat) (y : MethodName) (bytes : ByteArray) (maxL : Nat) (ret : Option FieldType) (hh : List (Nat × Nat × Nat × Nat)) (ws : List Cond) (rm : Room) (mc ms n : Nat) : Prop :=
  (rm.cells = mc ∧ rm.slots = ms ∧ rm.frames + 1 ≤ R.frames ∧ 8 + (maxL + 11) + rm.locals ≤ R.locals ∧ (∀ w ∈ ws, ∀ (a' : Array Value) (U : State), s.WarmedH U.vm → w.before a' U = true) ∧ Cond.codeWith y bytes maxL ret hh ∈ ws) ∧
  (Cond.codeWith y bytes maxL ret hh).before args s = true ∧ (Cond.initialized y.cls).before args s = true ∧ (y.cls ≠ "java/lang/invoke/MethodHandle" ∧ y.cls ≠ "java/lang/invoke/VarHandle") ∧ (∀ sig, parseMethodDescriptor y.desc = some sig → n = sig.parameters.length) ∧ (Cond.methodLink own index y).before args s = true ∧ (Cond.instanceMethod y).before args s = true ∧ (Cond.selects C y y).before args s = true
theorem cx_cw {own C : String} {index maxL mc ms : Nat} {y : MethodName} {bytes : ByteArray} {ret : Option FieldType} {hh : List (Nat × Nat × Nat × Nat)} {Ts ws ws' : List Cond} {rm : Room} (n : Nat) (ht : ∀ w ∈ Ts, w.before args s = true) (hT : GoodIn Ts (wsV own index C y ws)) (hw : ws = Cond.codeWith y bytes maxL ret hh :: ws') (hrc : rm.cells = mc) (hrs : rm.slots = ms)
    (hd : y.cls = C ∧ y.cls ≠ "java/lang/invoke/MethodHandle" ∧ y.cls ≠ "java/lang/invoke/VarHandle" ∧ (parseMethodDescriptor y.desc).map (fun d => d.parameters.length) = some n) (hR : rm.frames + 1 ≤ R.frames ∧ 8 + (maxL + 11) + rm.locals ≤ R.locals) : cxB R s args own C index y bytes maxL ret hh ws rm mc ms n := by
  obtain ⟨hC, hd⟩ := hd
  subst hC
  have ok : ∀ w ∈ wsV own index y.cls y ws, w.before args s = true := fun w h => ht w (hT w h).1
  have hG : GoodIn Ts ws := fun w h => hT w (by unfold wsV; exact List.mem_append_right _ h)
  have hc : Cond.codeWith y bytes maxL ret hh ∈ ws := by rw [hw]; exact List.mem_cons_self
  refine ⟨⟨hrc, hrs, hR.1, hR.2, pay_in ht hG, hc⟩, ht _ (hG _ hc).1, ok _ (by simp [wsV]), ⟨hd.1, hd.2.1⟩, fun sig h => ?_, ok _ (by simp [wsV]), ok _ (by simp [wsV]), ok _ (by simp [wsV])⟩
  have h2 := hd.2.2
  rw [h] at h2
  exact (Option.some.inj h2).symm
/-- a method with handlers is called -/
theorem cx_runV {y : MethodName} {bytes cc : ByteArray} {maxL nL mc ms n index : Nat} {ret : Option FieldType} {hh : List (Nat × Nat × Nat × Nat)} {ws : List Cond} {rm : Room} {Pc : Array Value → State → Prop} {Qc : Array Value → State → Outcome → State → Prop} {free : Addr → Prop} {Ts : List Cond} {own C : String} {b : Addr} {As rest : List Value} {g : JFrame}
    (S : CallFix p m c cc nL s args Ts own) (hM : Met l y ws rm Pc Qc mc ms free) (cw : cxB R s args own C index y bytes maxL ret hh ws rm mc ms n) (hp : PreV s H C b Pc As)
    (hg : g.method = m) (hn : As.length = n) (hsize : g.locals.size = nL) (hstack : g.stack = As.reverse ++ .ref b :: rest) (hW : 2 * g.monitorRoom + (rest.map fun v => v.category).sum ≤ 8) (hdg : decode cc g.pc = .ok (.invokevirtual index, 3)) (hf : cells + mc ≤ R.cells ∧ slots + ms ≤ R.slots) :
    va_Run p l e R s m args below meth c H locs cells slots mc ms g rest (Qc (Value.ref b :: As).toArray) (free) := by
  obtain ⟨⟨hrc, hrs, hfr, hlo, hws, hcw⟩, hcode, hini, hy, hlen, hl, hin, hse⟩ := cw
  have hK : Back l R p e below s args y 3 8 (PreOf R mc ms Pc) (PostOf Qc mc ms free) := va_backW (hh := hh) (bytes := bytes) (maxL := maxL) (ret := ret) hM hp.1 hrc hrs hfr hlo hws hcw (fun a' U hW => word_at hW (Or.inl (by first | rfl | simp [Cond.onTables, Cond.keeps, Cond.steady])) hini)
  obtain ⟨hx, hb, hml, ho, -⟩ := S
  obtain ⟨-, ⟨cellB, hcB, hoB, hclB⟩, hPc⟩ := hp
  intro T hT X
  obtain ⟨mk, methM, hnamed, hmethM, hstM, habM⟩ := Cond.instanceMethod_spec hin
  obtain ⟨m9, meth9, c9, hn9, hm9, -, -, -, -, -, -, hsigM⟩ := Cond.codeWith_spec hcode
  cases hnamed.symm.trans hn9
  cases hmethM.symm.trans hm9
  obtain ⟨c2, r2, m2, q1, q2, q3, q4, kP, hkP, hkPi⟩ := Cond.selects_spec hse
  cases hclB.symm.trans q1
  cases (State.methodFound?_of_named hnamed hy).symm.trans q2
  cases hnamed.symm.trans q3
  have hselP : selectMethod e.platform s.vm cellB.cls mk = .method mk := by rw [Launch.admits_selectMethod X.admits]; exact q4
  obtain ⟨vm₁, X₁, hstep₁⟩ := X.invokevirtual hx ho hl hnamed hmethM hstM hkP hkPi hy (a := b) (cell := cellB) (by rw [hT]; exact hcB)
    (fun z h => by rw [h] at hoB; cases hoB) hselP hmethM habM hkP hkPi (g := g) hg (argsL := As) (rest := rest) (hn.trans (hlen _ hsigM)) hstack (by rw [hb]; exact hdg)
  obtain ⟨v, ⟨U', l2, c2, s2⟩, X', ⟨g', mk', t, L, e1, e2, hq, h1, hL, h2, h3⟩, hsteps⟩ := hK m meth c ⟨T.setVm vm₁, locs, cells, slots⟩ { g with stack := rest } (.invokevirtual index) mk (Value.ref b :: As).toArray X₁ hg (hsize.trans hml.symm) (by rw [hb]; exact hdg) hW (X₁.named hnamed) ⟨hf.1, hf.2, hPc (T.setVm vm₁) hT X₁.warmed⟩
  dsimp only [Pt.U, Pt.locs, Pt.cells, Pt.slots] at X' e1 e2 h1 h2 h3 hsteps
  subst h1; subst h2; subst h3
  exact ⟨v, (T.setVm vm₁).calling g' mk' (Value.ref b :: As).toArray, t, U', L, hT, X', hL, e1, e2, hq, fun target h => hstep₁ _ fun acts => by rw [doInvoke_state]; exact hsteps.trans h⟩
end CXC
/-- no cell of A is a class's statics -/
def nst (A : Nat → Prop) (U : State) : Prop := ∀ (q : Nat) (cell : Cell), A q → U.heap[q]? = some cell → cell.vm.isStatics = false
theorem nst_lo {A : Nat → Prop} {s : State} {H : Heap} {locs : List Loc} (h : nst A s) (hS : va_S A s.heap H locs) : ∀ x ∈ locs, ∀ cell, s.heap[x.base]? = some cell → cell.vm.isStatics = false := fun x hx cell hc => h x.base cell (hS.2.2 x hx) hc
theorem va_at_st {D : va_G} {cl : List vw_C} {q : Nat × va_E} {H : Heap} {cell : Cell} (h : va_at D cl q H) (hc : H[q.1]? = some cell) : cell.vm.isStatics = false := by
  obtain ⟨a, e⟩ := q
  match e with
  | .inl (cA, n, .inl f) => have z : H[a]? = _ := h; rw [hc] at z; cases z; rfl
  | .inl (cA, n, .inr (.inl f)) => have z : H[a]? = _ := h; rw [hc] at z; cases z; rfl
  | .inl (cA, n, .inr (.inr (.inl f))) => have z : H[a]? = _ := h; rw [hc] at z; cases z; rfl
  | .inl (cA, n, .inr (.inr (.inr (.inl f)))) => have z : H[a]? = _ := h; rw [hc] at z; cases z; rfl
  | .inl (cA, n, .inr (.inr (.inr (.inr f)))) => have z : H[a]? = _ := h; rw [hc] at z; cases z; rfl
  | .inr (ci, fs) =>
    obtain ⟨r, h1, cell2, q1, q2, q3, q4⟩ := h
    have z : H[a]? = some cell := hc
    rw [q1] at z
    cases z
    rw [q3]; rfl
theorem nst_A {D : va_G} {cl : List vw_C} {ws : va_W} {s : State} (hP : va_P D cl ws s.heap) : nst (va_A ws s.heap.size) s := by
  intro q cell hA hc
  rcases hA with ⟨k, e, hk⟩ | h
  · exact va_at_st (hP k _ hk) hc
  · exact absurd (Array.getElem?_eq_some_iff.mp hc).1 (by omega)
theorem exE.sub {A B : Nat → Prop} {U : State} (h : exE A U) (hs : ∀ q, B q → A q) : exE B U := fun V hW hz hk => h V hW hz (fun q h1 h2 => hk q h1 (fun z => h2 (hs q z)))
theorem va_P.left {D : va_G} {cl : List vw_C} {w1 w2 : va_W} {H : Heap} (h : va_P D cl (w1 ++ w2) H) : va_P D cl w1 H := fun k q hk => h k q (by rw [List.getElem?_append_left (List.getElem?_eq_some_iff.mp hk).1]; exact hk)
theorem va_D.left {A : Nat → Prop} {w1 w2 : va_W} (h : va_D A (w1 ++ w2)) : va_D A w1 := by
  have at' : ∀ (k : Nat) (q : Nat × va_E), w1[k]? = some q → (w1 ++ w2)[k]? = some q := fun k q hk => by rw [List.getElem?_append_left (List.getElem?_eq_some_iff.mp hk).1]; exact hk
  exact ⟨fun i j p q hi hj he => h.1 i j p q (at' i p hi) (at' j q hj) he, fun k q hk => h.2 k q (at' k q hk)⟩
theorem xG_app {ct : Nat → ClassId} {o : Nat} {q : Nat → Nat} {L : XL} {y : Nat → Nat} {g : Nat → Int32} {a : Nat → Nat → Int32} {ex e2 : va_W} : xG ct o q L y g a (ex ++ e2) = xG ct o q L y g a ex ++ e2 := by
  unfold xG
  rw [List.append_assoc, List.append_assoc]
theorem xG_exs {ct : Nat → ClassId} {o : Nat} {q : Nat → Nat} {ql qs : Nat} {md : Int32} {qe n : Nat} {y : Nat → Nat} {g : Nat → Int32} {a : Nat → Nat → Int32} {ex : va_W} (j : Nat) (x : Nat × va_E) : (xG ct o q (ql, qs, md, qe, n) y g a ex).set (xps n + j) x = xG ct o q (ql, qs, md, qe, n) y g a (ex.set j x) := by
  rw [xG_def, xG_def, ← List.append_assoc, ← List.append_assoc, List.set_append_right _ _ (by rw [List.length_append, xC_len, peW_len]; omega), List.length_append, xC_len, peW_len]
  congr 2
  omega
section SHR
variable {p : Program} {l : Launch} {e : Env} {R : Room} {s : State} {m : MethodId} {args : Array Value} {below : List Frame} {meth : Method} {c : Code} {H : Heap} {locs : List Loc} {cells slots : Nat} {Q : State → Prop}
variable {cc : ByteArray} {pc : Nat} {ls : Array Slot} {rest : List Value} {dC : Nat → ClassId} {dI : Nat → Nat → Nat} {ct : Nat → ClassId} {A : Nat → Prop} {H0 : Heap} {ws : va_W}
theorem s_pla (hexec : p.tables.exec = Jvm.exec) (hb : c.code = cc) (hK : va_K (dC, dI) clA (tyA ct) s) (hP : va_P (dC, dI) clA ws H) (k : Nat) {qs : Nat} {pl : Nat → Nat} (hk : ws[k]? = some (qs, .inl (ct 5, 4, .inr (.inr (.inr (.inr (fun j => some (pl j)))))))) (K : Nat) (hK4 : K < 4) (hdg : decode cc pc = .ok (.aaload, 1))
    (kk : W p l e R s m args below meth c H locs cells slots Q (F0 m (pc + 1) ls (.ref (pl K) :: rest))) : W p l e R s m args below meth c H locs cells slots Q (F0 m pc ls (.int (nI K) :: .ref qs :: rest)) := by
  have e1 : (nI K).toNatClampNeg = K := cix_nI (by omega)
  refine va_aldq hexec hb hK hP k 5 hk rfl ?_ hdg ?_
  · rintro (z | z)
    · exact absurd (nI_pos' (show K < 2 ^ 31 by omega)) (Int32.not_le.mpr z)
    · rw [e1] at z; omega
  · rw [e1]; exact kk
theorem s_has (hexec : p.tables.exec = Jvm.exec) (hb : c.code = cc) (hts : ∀ w ∈ lw_all, w.before args s = true) (hown : s.vm.findClass RX0 = some m.cls) (hK : va_K (dC, dI) clA (tyA ct) s) (hP : va_P (dC, dI) clA ws H) (hE : xE s) (k : Nat) {pa : Nat} {v : Value} (hk : ws[k]? = some (pa, .inr (6, [v]))) (hdg : decode cc pc = .ok (.getfield 157, 3))
    (kk : W p l e R s m args below meth c H locs cells slots Q (F0 m (pc + 3) ls (v :: rest))) : W p l e R s m args below meth c H locs cells slots Q (F0 m pc ls (.ref pa :: rest)) :=
  va_getN (D := (dC, dI)) (ci := 6) (C := RX1) (T := TX1) (N := 1) hexec hb hts in_X1 hown hK hP k hk rfl 0 (by decide) (va_Nw.use rfl (xE_q138 hE)) (fun _ h9 => h9) rfl hdg kk
theorem s_put (hexec : p.tables.exec = Jvm.exec) (hb : c.code = cc) (hts : ∀ w ∈ lw_all, w.before args s = true) (hown : s.vm.findClass RX0 = some m.cls) (hK : va_K (dC, dI) clA (tyA ct) s) (hP : va_P (dC, dI) clA ws H) (hD : va_D A ws) (hS : va_S A H0 H locs) (hE : xE s) (k : Nat) {pa : Nat} {v0 : Value} {r : Option Nat} (hk : ws[k]? = some (pa, .inr (6, [v0]))) (hdg : decode cc pc = .ok (.putfield 157, 3))
    (kk : ∀ (H1 : Heap) (locs1 : List Loc), va_P (dC, dI) clA (ws.set k (pa, .inr (6, [va_rf r]))) H1 → va_D A (ws.set k (pa, .inr (6, [va_rf r]))) → va_S A H0 H1 locs1 → W p l e R s m args below meth c H1 locs1 cells slots Q (F0 m (pc + 3) ls rest)) : W p l e R s m args below meth c H locs cells slots Q (F0 m pc ls (va_rf r :: .ref pa :: rest)) :=
  va_putN (D := (dC, dI)) (ci := 6) (v := va_rf r) (ty := .object "java/lang/Object") (C := RX1) (T := TX1) (N := 1) hexec hb hts in_X1 tyX1 tyX1_ok nmX1 hown hK hP hD hS k hk rfl 0 (by decide) (va_Nw.use rfl (xE_q138 hE)) (fun _ h9 => h9) rfl (by decide +kernel) (by cases r <;> rfl) (by cases r <;> rfl) Nat.zero_lt_one hdg kk
end SHR
def xI (U : State) : Prop := va_Nw (Cond.castable "java/lang/ArrayIndexOutOfBoundsException" "java/lang/IndexOutOfBoundsException") U
abbrev sPre (dC : Nat → ClassId) (dI : Nat → Nat → Nat) (ct : Nat → ClassId) (A : Nat → Prop) (ex : va_W) (o : Nat) (q : Nat → Nat) (L : XL) (y : Nat → Nat) (g : Nat → Int32) (a : Nat → Nat → Int32) (av : List Value) : Array Value → State → Prop := va_Pc av (fun U => va_P (dC, dI) clA (xG ct o q L y g a ex) U.heap ∧ va_K (dC, dI) clA (tyA ct) U ∧ va_D A (xG ct o q L y g a ex) ∧ xE U ∧ exE A U ∧ (∀ q, U.heap.size ≤ q → A q) ∧ nst A U ∧ xI U)
