/-! A DEFAULT METHOD of an interface is called; casts of childhoods -/
abbrev hnN : MethodName := ⟨"LentYouths$Handed", "hand", "()I"⟩
def xDf (C : String) (U : State) : Prop := ∃ c r, U.vm.findClass C = some c ∧ U.methodNamed? hnN = some r ∧ selectMethod {} U.vm c r = .method r
theorem xDf.moved {C : String} {u U : State} (h : u.vm.Alike U.vm) (z : xDf C u) : xDf C U := by
  obtain ⟨c, r, h1, h2, h3⟩ := z
  refine ⟨c, r, by rw [h.findClass]; exact h1, ?_, by rw [h.selectMethod]; exact h3⟩
  show (u.setVm U.vm).methodNamed? hnN = some r
  rw [State.methodNamed?_setVm h]
  exact h2
theorem xDf.start {C : String} {s : State} {b : Array Value} (hface : (Cond.interfaceMethod "LentYouths$Handed" "LentYouths$Handed" "hand" "()I").before b s = true) (h : (Cond.landsInDefault C hnN hnN).before b s = true) : xDf C s := by
  obtain ⟨cL, kL, r1, hcL, hkL, hiL, hfoundL, hn1⟩ := Cond.interfaceMethod_spec hface
  have h : (Cond.landsInDefault C hnN hnN).holds b s none s [] = true := h
  simp only [Cond.holds, Cond.value] at h
  cases hc : s.vm.findClass C with
  | none => simp [hc] at h
  | some c =>
  have hfl : s.methodFound? hnN.cls hnN.name hnN.desc = some r1 := hfoundL
  have hnm : s.methodNamed? hnN = some r1 := hn1
  cases hrm : s.vm.method? r1 with
  | none => simp [hc, hfl, hnm, hrm] at h
  | some rm =>
  simp only [hc, hfl, hnm, hrm, Option.map_some, beq_iff_eq, Option.some.injEq] at h
  split at h
  · rename_i m' hsel
    simp only [Bool.and_eq_true, decide_eq_true_eq] at h
    obtain ⟨⟨⟨⟨rfl, -⟩, -⟩, -⟩, -⟩ := h
    exact ⟨c, m', hc, hnm, hsel⟩
  · cases h
section DFR
variable {p : Program} {l : Launch} {e : Env} {R : Room} {s : State} {m : MethodId} {args : Array Value} {below : List Frame} {meth : Method} {c : Code} {H : Heap} {locs : List Loc} {cells slots : Nat} {Q : State → Prop}
/-- a callee is walked whose class isn't known to be initialised -/
theorem d_enter {WN len : Nat} {y : MethodName} {bytes : ByteArray} {maxL : Nat} {ret : Option FieldType} {Qc : Array Value → State → Outcome → State → Prop} {free : Addr → Prop} {rm : Room} {U : State}
    (X : Stand p l e R s m args below meth c U locs cells slots) (hy : plainName y.cls = true) {g : JFrame} (hg : g.method = m) (hsize : g.locals.size = c.maxLocals) {ig : Instr} (hdg : decode c.code g.pc = .ok (ig, len)) (hW : 2 * g.monitorRoom + (g.stack.map fun v => v.category).sum ≤ WN) {mk : MethodId} (hn : U.methodNamed? y = some mk) {a : Array Value} (hcode : (Cond.code y bytes maxL ret).before a U = true)
    (hR : rm.frames + 1 ≤ R.frames ∧ WN + (maxL + 11) + rm.locals ≤ R.locals ∧ cells + rm.cells ≤ R.cells ∧ slots + rm.slots ≤ R.slots)
    (body : ∀ methY cY, cY.code = bytes → cY.maxLocals = maxL → methY.sig.returnType = ret → methY.locks = false → W p l e rm (U.calling g mk a) mk a (U.setTop g).frames methY cY U.heap [] 0 0 (MQ (U.setTop g).frames Qc a (U.calling g mk a) 0 0 free) (entryFrame mk a maxL)) :
    ∃ (v : Option Value) (t T' : State) (L : List Loc), (∃ o, o = Outcome.returned v ∧ Qc a (U.calling g mk a) o t) ∧ Stand p l e R s m args below meth c T' (locs ++ L) (cells + 0) (slots + 0) ∧ (∀ q ∈ L, free q.base) ∧ T'.heap = t.heap ∧ T'.vm = t.vm ∧ Steps p.tables e below (doInvoke e (U.setTop g) [] mk a).1 (T'.setTop { g with pc := g.pc + len, stack := v.toList ++ g.stack }) := by
  obtain ⟨methY, cY, hmY, hcY, hbY, hlY, hrY, hlkY, -, -⟩ := Cond.code_spec hn hcode
  have h : At U g.method c below := by rw [hg]; exact X.here
  have hft : (U.setTop g).frames = .java g :: U.frames.tail := State.frames_setTop' g h.top
  have hf : (U.calling g mk a).frames = .invoking mk a :: (U.setTop g).frames := by rw [State.frames_calling h.top, hft]
  have hcur := State.cur_lt_of_frames hf
  have hroom : (U.calling g mk a).hasRoom e.platform rm = true := X.room_calling (g := g) (R' := rm) hsize hmY hcY hR.1 (by rw [hlY]; omega) hR.2.2.1 hR.2.2.2
  have hcodeC : (U.calling g mk a).code? g.method = some c := by
    have := h.code
    rw [State.code?_eq] at this ⊢
    simpa [State.calling, State.pushFrame, State.setFrames] using this
  have hhears : (U.calling g mk a).hears mk (U.setTop g).frames = true := by
    rw [hft]; simp [State.hears, hcodeC, hdg, Except.toOption]
  have hmC : (U.calling g mk a).vm.method? mk = some methY := hmY
  have hf1 : ((U.calling g mk a).setFrames (.java (entryFrame mk a maxL) :: (U.setTop g).frames)).frames = .java (entryFrame mk a maxL) :: (U.setTop g).frames := State.frames_setFrames _ hcur
  have ht1 := State.topJava?_of_frames hf1
  have hplain : ((U.calling g mk a).setFrames (.java (entryFrame mk a maxL) :: (U.setTop g).frames)).plainMethod mk := State.plainMethod.of_named (s := U.calling g mk a) (plainFor_of_name hy) hn hmC
  have hAt : At ((U.calling g mk a).setFrames (.java (entryFrame mk a maxL) :: (U.setTop g).frames)) mk cY (U.setTop g).frames :=
    ⟨by rw [ht1]; rfl, ⟨[], by rw [hf1]; rfl⟩, h.running, by simpa [State.calling] using h.runnable, by simpa [State.calling] using h.alone,
      by rw [State.code?_eq]; simp [State.setFrames, hmC, hcY], hplain⟩
  obtain ⟨tt, htt, -⟩ := State.frames_cons hf
  have hsame := (State.sameButNew.refl (U.calling g mk a) htt).setFrames (.java (entryFrame mk a maxL) :: (U.setTop g).frames) hcur
  have X2 : Stand p l e rm (U.calling g mk a) mk a (U.setTop g).frames methY cY ((U.calling g mk a).setFrames (.java (entryFrame mk a maxL) :: (U.setTop g).frames)) [] 0 0 :=
    ⟨X.admits, X.cas, X.clock, hf, hroom, hhears, hmC, hcY, hAt, by rw [hf1]; rfl, State.WarmedH.refl _, by rw [State.stackLimits_setFrames], by rw [State.stackBytes_setFrames], hsame⟩
  obtain ⟨s₂, hst, o, hrun2, hend, hq', L, hfe, hL⟩ := body methY cY hbY hlY hrY hlkY ((U.calling g mk a).setFrames (.java (entryFrame mk a maxL) :: (U.setTop g).frames)) rfl X2
  have hdo : (doInvoke e (U.setTop g) [] mk a).1 = ((U.calling g mk a).setFrames (.java (entryFrame mk a maxL) :: (U.setTop g).frames)).setTop (entryFrame mk a maxL) := by
    rw [(doInvoke_java (s := U.setTop g) (e := e) (meth := methY) (code := cY) hmY hcY hlkY (X.notFull hsize (by omega) (by rw [hlY]; omega))).1, State.setTop_self ht1]
    simp only [State.calling, State.pushFrame, State.setFrames_setFrames, hlY, entryFrame]
  obtain ⟨mid, hmid⟩ := h.above
  have hfr : (U.setTop g).frames = (.java g :: mid) ++ below := by rw [hft, hmid]; rfl
  have aux : ∀ S : State, Within S (U.setTop g).frames → Within S below := by
    rw [hfr]; exact fun S h => h.weaken
  have hsteps : Steps p.tables e below (doInvoke e (U.setTop g) [] mk a).1 s₂ := by
    rw [hdo]
    obtain ⟨n, hn9, hw⟩ := hst
    refine ⟨n, hn9, fun k hk => ?_⟩
    exact aux _ (hw k hk)
  rw [hft] at hend
  obtain ⟨⟨v, rfl⟩, hW₂, e2, q2, q3, q4, q5, q6⟩ := id hfe
  have e3 : s₂ = ({ (U.calling g mk a).setFrames s₂.frames with heap := s₂.heap, slotsUsed := s₂.slotsUsed } : State).setVm s₂.vm := by
    have : s₂ = ({ s₂ with vm := (U.calling g mk a).vm } : State).setVm s₂.vm := rfl
    rw [e2] at this
    exact this
  obtain ⟨c₂, i₂, len₂, hc₂, hd₂, hf₂⟩ := hend
  have hW' : U.WarmedH s₂.vm := hW₂
  have hcc : c₂ = c := by
    have h1 : s₂.code? g.method = U.code? g.method := by
      rw [State.code?_eq, State.code?_eq, hW'.alike.method?]
    exact Option.some.inj (hc₂.symm.trans (h1.trans h.code))
  subst hcc
  have hlen : len₂ = len := by rw [hdg] at hd₂; cases hd₂; rfl
  subst hlen
  obtain ⟨g₀, hg0⟩ := Option.isSome_iff_exists.mp h.top
  obtain ⟨r, hr⟩ := State.topJava?_eq_some.mp hg0
  have hs₂ : s₂ = (({ U with heap := s₂.heap, slotsUsed := s₂.slotsUsed } : State).setVm s₂.vm).setTop { g with pc := g.pc + len₂, stack := v.toList ++ g.stack } := by
    have hr' : (({ U with heap := s₂.heap, slotsUsed := s₂.slotsUsed } : State).setVm s₂.vm).frames = .java g₀ :: r := hr
    refine e3.trans ?_
    rw [hf₂, State.calling_eq h.top, State.setFrames_setFrames, State.setTop_of_frames _ hr', hr]
    rfl
  have hsame2 : U.sameButNew ({ U with heap := s₂.heap, slotsUsed := s₂.slotsUsed } : State) L 0 0 := by
    refine ⟨?_, q2, q3, q4, q5, q6⟩
    obtain ⟨t, ht, -⟩ := State.frames_cons hr
    show ({ U with heap := s₂.heap, slotsUsed := s₂.slotsUsed } : State) = { U.setFrames U.frames with heap := s₂.heap, slotsUsed := s₂.slotsUsed }
    rw [State.setFrames_self ht]
  subst hg
  refine ⟨v, s₂, (({ U with heap := s₂.heap, slotsUsed := s₂.slotsUsed } : State).setVm s₂.vm), L, ⟨_, rfl, hq'⟩,
    ⟨X.admits, X.cas, X.clock, X.frames, X.room, X.hears, X.method, X.code, (X.here.setHeapUsed s₂.heap s₂.slotsUsed).setVm hW'.alike, X.tail, State.WarmedH.trans X.warmed hW', X.limits, X.bytes, X.same.trans (hsame2.setVm s.vm)⟩, hL, rfl, rfl, ?_⟩
  rw [← hs₂]
  exact hsteps
end DFR
abbrev hPre (dC : Nat → ClassId) (dI : Nat → Nat → Nat) (ct : Nat → ClassId) (A : Nat → Prop) (ex : va_W) (o : Nat) (q : Nat → Nat) (L : XL) (y : Nat → Nat) (g : Nat → Int32) (a : Nat → Nat → Int32) (av : List Value) : Array Value → State → Prop := va_Pc av (fun U => va_P (dC, dI) clA (xG ct o q L y g a ex) U.heap ∧ va_K (dC, dI) clA (tyA ct) U ∧ va_D A (xG ct o q L y g a ex) ∧ xE U ∧ xDf "LentYouths$Childhood" U ∧ xDf "LentYouths$Sad" U)
section HPS
variable {dC : Nat → ClassId} {dI : Nat → Nat → Nat} {ct : Nat → ClassId} {A : Nat → Prop} {ex : va_W} {o : Nat} {q : Nat → Nat} {ql qs : Nat} {md : Int32} {qe n : Nat} {y : Nat → Nat} {g : Nat → Int32} {a : Nat → Nat → Int32} {s : State} {H : Heap}
theorem hPS (hK : va_K (dC, dI) clA (tyA ct) s) (hP : va_P (dC, dI) clA (xG ct o q (ql, qs, md, qe, n) y g a ex) H) (hD : va_D A (xG ct o q (ql, qs, md, qe, n) y g a ex)) (hE : xE s) (h1 : xDf "LentYouths$Childhood" s) (h2 : xDf "LentYouths$Sad" s) (As : List Value) : PreS s H (hPre dC dI ct A ex o q (ql, qs, md, qe, n) y g a As) As :=
  ⟨fun x U k mk z => ⟨z.1, z.2.1, va_K.moved (u := U) (U := U.calling k mk x) (Vm.Alike.refl U.vm) z.2.2.1, z.2.2.2.1, xE.call z.2.2.2.2.1 k mk x, z.2.2.2.2.2.1.moved (Vm.Alike.refl U.vm), z.2.2.2.2.2.2.moved (Vm.Alike.refl U.vm)⟩, fun U hU hW => ⟨rfl, by rw [hU]; exact hP, va_K.moved hW.alike hK, hD, hE.warm hW, h1.moved hW.alike, h2.moved hW.alike⟩⟩
end HPS
section KCAST
variable {p : Program} {l : Launch} {e : Env} {R : Room} {s : State} {m : MethodId} {args : Array Value} {below : List Frame} {meth : Method} {c : Code} {H : Heap} {locs : List Loc} {cells slots : Nat} {Q : State → Prop}
variable {cc : ByteArray} {pc : Nat} {ls : Array Slot} {rest : List Value} {dC : Nat → ClassId} {dI : Nat → Nat → Nat} {ct : Nat → ClassId} {A : Nat → Prop} {ex : va_W} {o : Nat} {q : Nat → Nat} {ql qs : Nat} {md : Int32} {qe n : Nat} {y : Nat → Nat} {g : Nat → Int32} {a : Nat → Nat → Int32}
theorem c_castH (hexec : p.tables.exec = Jvm.exec) (hb : c.code = cc) (hown : s.vm.findClass RX0 = some m.cls) (hts : ∀ w ∈ lw_all, w.before args s = true) (hK : va_K (dC, dI) clA (tyA ct) s) (hP : va_P (dC, dI) clA (xG ct o q (ql, qs, md, qe, n) y g a ex) H) (hE : xE s) {x : Nat} (hx : x < n) (hdg : decode cc pc = .ok (.checkcast 389, 3))
    (kk : W p l e R s m args below meth c H locs cells slots Q (F0 m (pc + 3) ls (.ref (y x) :: rest))) : W p l e R s m args below meth c H locs cells slots Q (F0 m pc ls (.ref (y x) :: rest)) := by
  rcases kdN_cases (a 2 x) with h | h | h
  · exact va_castY hexec hb hown (hts _ q925) (xE_q933 hE) (va_recv hK hP (ci := 3) (q0 := 16 + x) rfl (xG_c0 hx h)) hdg kk
  · exact va_castY hexec hb hown (hts _ q925) (xE_q947 hE) (va_recv hK hP (ci := 4) (q0 := 16 + x) rfl (xG_c1 hx h)) hdg kk
  · exact va_castY hexec hb hown (hts _ q925) (xE_q950 hE) (va_recv hK hP (ci := 5) (q0 := 16 + x) rfl (xG_c2 hx h)) hdg kk
theorem c_castSd (hexec : p.tables.exec = Jvm.exec) (hb : c.code = cc) (hown : s.vm.findClass RX0 = some m.cls) (hts : ∀ w ∈ lw_all, w.before args s = true) (hK : va_K (dC, dI) clA (tyA ct) s) (hP : va_P (dC, dI) clA (xG ct o q (ql, qs, md, qe, n) y g a ex) H) (hE : xE s) {x : Nat} (hx : x < n) (hk : kdN (a 2 x) = 1 ∨ kdN (a 2 x) = 2) {idx : Nat} (hq : Cond.classLink RX0 idx RX4 ∈ lw_all) (hdg : decode cc pc = .ok (.checkcast idx, 3))
    (kk : W p l e R s m args below meth c H locs cells slots Q (F0 m (pc + 3) ls (.ref (y x) :: rest))) : W p l e R s m args below meth c H locs cells slots Q (F0 m pc ls (.ref (y x) :: rest)) := by
  rcases hk with h | h
  · exact va_castS hexec hb hown (hts _ hq) (cAt1 hK) (va_recv hK hP (ci := 4) (q0 := 16 + x) rfl (xG_c1 hx h)) hdg kk
  · exact va_castY hexec hb hown (hts _ hq) (xE_q1321 hE) (va_recv hK hP (ci := 5) (q0 := 16 + x) rfl (xG_c2 hx h)) hdg kk
theorem c_castTw (hexec : p.tables.exec = Jvm.exec) (hb : c.code = cc) (hown : s.vm.findClass RX0 = some m.cls) (hts : ∀ w ∈ lw_all, w.before args s = true) (hK : va_K (dC, dI) clA (tyA ct) s) (hP : va_P (dC, dI) clA (xG ct o q (ql, qs, md, qe, n) y g a ex) H) {x : Nat} (hx : x < n) (hk : kdN (a 2 x) = 2) {idx : Nat} (hq : Cond.classLink RX0 idx RX5 ∈ lw_all) (hdg : decode cc pc = .ok (.checkcast idx, 3))
    (kk : W p l e R s m args below meth c H locs cells slots Q (F0 m (pc + 3) ls (.ref (y x) :: rest))) : W p l e R s m args below meth c H locs cells slots Q (F0 m pc ls (.ref (y x) :: rest)) :=
  va_castS hexec hb hown (hts _ hq) (cAt2 hK) (va_recv hK hP (ci := 5) (q0 := 16 + x) rfl (xG_c2 hx hk)) hdg kk
end KCAST
abbrev oPre (dC : Nat → ClassId) (dI : Nat → Nat → Nat) (ct : Nat → ClassId) (A : Nat → Prop) (ex : va_W) (o : Nat) (q : Nat → Nat) (L : XL) (y : Nat → Nat) (g : Nat → Int32) (a : Nat → Nat → Int32) (av : List Value) : Array Value → State → Prop := va_Pc av (fun U => va_P (dC, dI) clA (xG ct o q L y g a ex) U.heap ∧ va_K (dC, dI) clA (tyA ct) U ∧ exE A U)
