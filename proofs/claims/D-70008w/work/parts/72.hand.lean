/-! A DEFAULT METHOD of an interface is called; casts of childhoods -/
abbrev hnN : MethodName := ⟨"LentYouths$Handed", "hand", "()I"⟩
def xDf (C : String) (U : State) : Prop := ∃ c r, U.vm.findClass C = some c ∧ U.methodNamed? hnN = some r ∧ selectMethod {} U.vm c r = .method r
theorem xDf.moved {C : String} {u U : State} (h : u.vm.Alike U.vm) (z : xDf C u) : xDf C U := by
  obtain ⟨c, r, h1, h2, h3⟩ := z
  refine ⟨c, r, by rw [h.findClass]; exact h1, ?_, by rw [h.selectMethod]; exact h3⟩
  show (u.setVm U.vm).methodNamed? hnN = some r
  rw [State.methodNamed?_setVm h]
  exact h2
theorem xDf.start {C : String} {s : State} {b : Array Value} (hface : (Cond.interfaceMethod "LentYouths$Handed" "LentYouths$Handed" "hand" "()I").before b s = true) (h : (Cond.landsInDefault C hnN hnN).before b s = true) : xDf C s := by
  obtain ⟨cL, kL, r1, hcL, hkL, hiL, hfoundL, hn1⟩ := Cond.interfaceMethod_spec hface
  have h : (Cond.landsInDefault C hnN hnN).holds b s none s [] = true := h
  simp only [Cond.holds, Cond.value] at h
  cases hc : s.vm.findClass C with
  | none => simp [hc] at h
  | some c =>
  have hfl : s.methodFound? hnN.cls hnN.name hnN.desc = some r1 := hfoundL
  have hnm : s.methodNamed? hnN = some r1 := hn1
  cases hrm : s.vm.method? r1 with
  | none => simp [hc, hfl, hnm, hrm] at h
  | some rm =>
  simp only [hc, hfl, hnm, hrm, Option.map_some, beq_iff_eq, Option.some.injEq] at h
  split at h
  · rename_i m' hsel
    simp only [Bool.and_eq_true, decide_eq_true_eq] at h
    obtain ⟨⟨⟨⟨rfl, -⟩, -⟩, -⟩, -⟩ := h
    exact ⟨c, m', hc, hnm, hsel⟩
  · cases h
section DFR
variable {p : Program} {l : Launch} {e : Env} {R : Room} {s : State} {m : MethodId} {args : Array Value} {below : List Frame} {meth : Method} {c : Code} {H : Heap} {locs : List Loc} {cells slots : Nat} {Q : State → Prop}
theorem d_run {cc : ByteArray} {nL index count : Nat} {rm : Room} {Pc : Array Value → State → Prop} {Qc : Array Value → State → Outcome → State → Prop} {free : Addr → Prop} {own C : String} {cC : ClassId} {b : Addr} {rest : List Value} {g : JFrame}
    (hat : ClassAt s C cC) (S : CallFix p m c cc nL s args lw_all own) (hM : Met l yX6_hand (ws_ yX6_hand cX6_hand 1 (some .int)) rm Pc Qc 0 0 free) (hrc : rm.cells = 0) (hrs : rm.slots = 0) (hR : rm.frames + 1 ≤ R.frames ∧ 8 + (1 + 11) + rm.locals ≤ R.locals) (hlink : Cond.methodLink own index hnN ∈ lw_all) (hF : va_Fw C hnN hnN s) (hDf : xDf C s) (hp : PreV s H C b Pc [])
    (hg : g.method = m) (hsize : g.locals.size = nL) (hstack : g.stack = .ref b :: rest) (hW : 2 * g.monitorRoom + (rest.map fun v => v.category).sum ≤ 8) (hdg : decode cc g.pc = .ok (.invokeinterface index count, 5)) (hf : cells + 0 ≤ R.cells ∧ slots + 0 ≤ R.slots) :
    va_Run5 p l e R s m args below meth c H locs cells slots 0 0 g rest (Qc [Value.ref b].toArray) (free) := by
  obtain ⟨hx, hb, hml, ho, hts⟩ := S
  have hK : Back l R p e below s args yX6_hand 5 8 (PreOf R 0 0 Pc) (PostOf Qc 0 0 free) := back_of (bytes := cX6_hand) (maxL := 1) (ret := some .int) hM hp.1 hrc hrs hR.1 hR.2 (pay_in hts (lw_meth q937)) List.mem_cons_self (fun a' U hW => word_at hW (Or.inl (by first | rfl | simp [Cond.onTables, Cond.keeps, Cond.steady])) (hts _ ))
  obtain ⟨-, ⟨cellB, hcB, hoB, hclB⟩, hPc⟩ := hp
  obtain ⟨hfc, kB, hkB, -⟩ := hat
  cases hfc.symm.trans hclB
  intro T hT X
  have hdecl : (Cond.declares hnN).before args s = true := va_any rfl hF.1
  have hface : (Cond.interfaceMethod hnN.cls hnN.cls hnN.name hnN.desc).before args s = true := va_any rfl hF.2.1
  have hpub : (Cond.publicMethod hnN).before args s = true := va_any rfl hF.2.2.1
  have hunh : (Cond.unhidden C hnN.name hnN.desc).before args s = true := va_any rfl hF.2.2.2.1
  have hcast : (Cond.castable C hnN.cls).before args s = true := va_any rfl hF.2.2.2.2
  obtain ⟨r0, r, hn, hrm, hstR, hsigR⟩ := Cond.declares_spec hdecl
  obtain ⟨cL, kL, r1, hcL, hkL, hiL, hfoundL, hn1⟩ := Cond.interfaceMethod_spec hface
  cases hn.symm.trans hn1
  have hr0cls : r0.cls = cL := Option.some.inj ((findClass_of_methodNamed hn).symm.trans hcL)
  obtain ⟨hnameR, hdescR⟩ := name_of_methodNamed hn hrm
  obtain ⟨mk, methM, hnamed, hmethM, -, habM⟩ := Cond.instanceMethod_spec (hts _ q935)
  have hnamed : s.methodNamed? hnN = some mk := hnamed
  cases hnamed.symm.trans hn
  cases hrm.symm.trans hmethM
  obtain ⟨c2, r2, q1, q2, q4⟩ := hDf
  cases hclB.symm.trans q1
  cases hnamed.symm.trans q2
  have hselP : selectMethod e.platform s.vm cellB.cls r0 = .method r0 := by rw [Launch.admits_selectMethod X.admits]; exact q4
  have hpubM : hasFlag r.accessFlags Acc.public_ = true := Cond.publicMethod_spec hnamed hrm hpub
  have hway : ((cellB.cls :: s.vm.superclasses cellB.cls).any fun k => (declaredIn s.vm r.name r.desc k).any fun (_, z) => z.isPrivate || z.isStatic) = false := by
    rw [hnameR, hdescR]; exact Cond.unhidden_spec hclB hunh
  obtain ⟨c3, t3, w1, w2, w3⟩ := Cond.castable_spec hcast
  cases hclB.symm.trans w1
  cases hcL.symm.trans w2
  obtain ⟨vm₁, X₁, hstep₁⟩ := X.invokeinterface hx ho (hts _ hlink) hn hrm hstR (by rw [hr0cls]; exact hkL) hiL (by decide) (a := b) (cell := cellB) (kcell := kB) (by rw [hT]; exact hcB)
    (fun z h => by rw [h] at hoB; cases hoB) hkB (by rw [hr0cls]; exact w3) hselP hrm hway hpubM habM (g := g) hg (argsL := []) (rest := rest) (by
      have z : (parseMethodDescriptor hnN.desc).map (fun d => d.parameters.length) = some 0 := by decide +kernel
      rw [hsigR] at z; exact (Option.some.inj z).symm) hstack (by rw [hb]; exact hdg)
  obtain ⟨v, ⟨U', l2, c2, s2⟩, X', ⟨g', mk', t, L, e1, e2, hq, h1, hL, h2, h3⟩, hsteps⟩ := hK m meth c ⟨T.setVm vm₁, locs, cells, slots⟩ { g with stack := rest } (.invokeinterface index count) r0 [Value.ref b].toArray X₁ hg (hsize.trans hml.symm) (by rw [hb]; exact hdg) hW (X₁.named hnamed) ⟨hf.1, hf.2, hPc (T.setVm vm₁) hT X₁.warmed⟩
  dsimp only [Pt.U, Pt.locs, Pt.cells, Pt.slots] at X' e1 e2 h1 h2 h3 hsteps
  subst h1; subst h2; subst h3
  exact ⟨v, (T.setVm vm₁).calling g' mk' [Value.ref b].toArray, t, U', L, hT, X', hL, e1, e2, hq, fun target h => hstep₁ _ fun acts => by rw [doInvoke_state]; exact hsteps.trans h⟩
end DFR
abbrev hPre (dC : Nat → ClassId) (dI : Nat → Nat → Nat) (ct : Nat → ClassId) (A : Nat → Prop) (ex : va_W) (o : Nat) (q : Nat → Nat) (L : XL) (y : Nat → Nat) (g : Nat → Int32) (a : Nat → Nat → Int32) (av : List Value) : Array Value → State → Prop := va_Pc av (fun U => va_P (dC, dI) clA (xG ct o q L y g a ex) U.heap ∧ va_K (dC, dI) clA (tyA ct) U ∧ va_D A (xG ct o q L y g a ex) ∧ xE U ∧ xDf "LentYouths$Childhood" U ∧ xDf "LentYouths$Sad" U)
section HPS
variable {dC : Nat → ClassId} {dI : Nat → Nat → Nat} {ct : Nat → ClassId} {A : Nat → Prop} {ex : va_W} {o : Nat} {q : Nat → Nat} {ql qs : Nat} {md : Int32} {qe n : Nat} {y : Nat → Nat} {g : Nat → Int32} {a : Nat → Nat → Int32} {s : State} {H : Heap}
theorem hPS (hK : va_K (dC, dI) clA (tyA ct) s) (hP : va_P (dC, dI) clA (xG ct o q (ql, qs, md, qe, n) y g a ex) H) (hD : va_D A (xG ct o q (ql, qs, md, qe, n) y g a ex)) (hE : xE s) (h1 : xDf "LentYouths$Childhood" s) (h2 : xDf "LentYouths$Sad" s) (As : List Value) : PreS s H (hPre dC dI ct A ex o q (ql, qs, md, qe, n) y g a As) As :=
  ⟨fun x U k mk z => ⟨z.1, z.2.1, va_K.moved (u := U) (U := U.calling k mk x) (Vm.Alike.refl U.vm) z.2.2.1, z.2.2.2.1, xE.call z.2.2.2.2.1 k mk x, z.2.2.2.2.2.1.moved (Vm.Alike.refl U.vm), z.2.2.2.2.2.2.moved (Vm.Alike.refl U.vm)⟩, fun U hU hW => ⟨rfl, by rw [hU]; exact hP, va_K.moved hW.alike hK, hD, hE.warm hW, h1.moved hW.alike, h2.moved hW.alike⟩⟩
theorem gPS (hK : va_K (dC, dI) clA (tyA ct) s) (hP : va_P (dC, dI) clA (xG ct o q (ql, qs, md, qe, n) y g a ex) H) (hD : va_D A (xG ct o q (ql, qs, md, qe, n) y g a ex)) (hE : xE s) (As : List Value) : PreS s H (gPre dC dI ct A ex o q (ql, qs, md, qe, n) y g a As) As :=
  ⟨fun x U k mk z => ⟨z.1, z.2.1, va_K.moved (u := U) (U := U.calling k mk x) (Vm.Alike.refl U.vm) z.2.2.1, z.2.2.2.1, xE.call z.2.2.2.2 k mk x⟩, fun U hU hW => ⟨rfl, by rw [hU]; exact hP, va_K.moved hW.alike hK, hD, hE.warm hW⟩⟩
end HPS
section KCAST
variable {p : Program} {l : Launch} {e : Env} {R : Room} {s : State} {m : MethodId} {args : Array Value} {below : List Frame} {meth : Method} {c : Code} {H : Heap} {locs : List Loc} {cells slots : Nat} {Q : State → Prop}
variable {cc : ByteArray} {pc : Nat} {ls : Array Slot} {rest : List Value} {dC : Nat → ClassId} {dI : Nat → Nat → Nat} {ct : Nat → ClassId} {A : Nat → Prop} {ex : va_W} {o : Nat} {q : Nat → Nat} {ql qs : Nat} {md : Int32} {qe n : Nat} {y : Nat → Nat} {g : Nat → Int32} {a : Nat → Nat → Int32}
theorem c_castH (hexec : p.tables.exec = Jvm.exec) (hb : c.code = cc) (hown : s.vm.findClass RX0 = some m.cls) (hts : ∀ w ∈ lw_all, w.before args s = true) (hK : va_K (dC, dI) clA (tyA ct) s) (hP : va_P (dC, dI) clA (xG ct o q (ql, qs, md, qe, n) y g a ex) H) (hE : xE s) {x : Nat} (hx : x < n) (hdg : decode cc pc = .ok (.checkcast 389, 3))
    (kk : W p l e R s m args below meth c H locs cells slots Q (F0 m (pc + 3) ls (.ref (y x) :: rest))) : W p l e R s m args below meth c H locs cells slots Q (F0 m pc ls (.ref (y x) :: rest)) := by
  rcases kdN_cases (a 2 x) with h | h | h
  · exact va_castY hexec hb hown (hts _ q925) (xE_q933 hE) (va_recv hK hP (ci := 3) (q0 := 16 + x) rfl (xG_c0 hx h)) hdg kk
  · exact va_castY hexec hb hown (hts _ q925) (xE_q947 hE) (va_recv hK hP (ci := 4) (q0 := 16 + x) rfl (xG_c1 hx h)) hdg kk
  · exact va_castY hexec hb hown (hts _ q925) (xE_q950 hE) (va_recv hK hP (ci := 5) (q0 := 16 + x) rfl (xG_c2 hx h)) hdg kk
theorem c_castSd (hexec : p.tables.exec = Jvm.exec) (hb : c.code = cc) (hown : s.vm.findClass RX0 = some m.cls) (hts : ∀ w ∈ lw_all, w.before args s = true) (hK : va_K (dC, dI) clA (tyA ct) s) (hP : va_P (dC, dI) clA (xG ct o q (ql, qs, md, qe, n) y g a ex) H) (hE : xE s) {x : Nat} (hx : x < n) (hk : kdN (a 2 x) = 1 ∨ kdN (a 2 x) = 2) {idx : Nat} (hq : Cond.classLink RX0 idx RX4 ∈ lw_all) (hdg : decode cc pc = .ok (.checkcast idx, 3))
    (kk : W p l e R s m args below meth c H locs cells slots Q (F0 m (pc + 3) ls (.ref (y x) :: rest))) : W p l e R s m args below meth c H locs cells slots Q (F0 m pc ls (.ref (y x) :: rest)) := by
  rcases hk with h | h
  · exact va_castS hexec hb hown (hts _ hq) (cAt1 hK) (va_recv hK hP (ci := 4) (q0 := 16 + x) rfl (xG_c1 hx h)) hdg kk
  · exact va_castY hexec hb hown (hts _ hq) (xE_q1321 hE) (va_recv hK hP (ci := 5) (q0 := 16 + x) rfl (xG_c2 hx h)) hdg kk
theorem c_castTw (hexec : p.tables.exec = Jvm.exec) (hb : c.code = cc) (hown : s.vm.findClass RX0 = some m.cls) (hts : ∀ w ∈ lw_all, w.before args s = true) (hK : va_K (dC, dI) clA (tyA ct) s) (hP : va_P (dC, dI) clA (xG ct o q (ql, qs, md, qe, n) y g a ex) H) {x : Nat} (hx : x < n) (hk : kdN (a 2 x) = 2) {idx : Nat} (hq : Cond.classLink RX0 idx RX5 ∈ lw_all) (hdg : decode cc pc = .ok (.checkcast idx, 3))
    (kk : W p l e R s m args below meth c H locs cells slots Q (F0 m (pc + 3) ls (.ref (y x) :: rest))) : W p l e R s m args below meth c H locs cells slots Q (F0 m pc ls (.ref (y x) :: rest)) :=
  va_castS hexec hb hown (hts _ hq) (cAt2 hK) (va_recv hK hP (ci := 5) (q0 := 16 + x) rfl (xG_c2 hx hk)) hdg kk
end KCAST
abbrev oPre (dC : Nat → ClassId) (dI : Nat → Nat → Nat) (ct : Nat → ClassId) (A : Nat → Prop) (ex : va_W) (o : Nat) (q : Nat → Nat) (L : XL) (y : Nat → Nat) (g : Nat → Int32) (a : Nat → Nat → Int32) (av : List Value) : Array Value → State → Prop := va_Pc av (fun U => va_P (dC, dI) clA (xG ct o q L y g a ex) U.heap ∧ va_K (dC, dI) clA (tyA ct) U ∧ exE A U)
