/-! A childhood's default hand: walked -/
section DHD
variable {p : Program} {l : Launch} {e : Env} {R : Room} {s : State} {m : MethodId} {args : Array Value} {below : List Frame} {meth : Method} {c : Code} {H : Heap} {locs : List Loc} {cells slots : Nat} {Q : State → Prop}
variable {dC : Nat → ClassId} {dI : Nat → Nat → Nat} {ct : Nat → ClassId} {A : Nat → Prop} {ex : va_W} {o : Nat} {q : Nat → Nat} {ql qs : Nat} {md : Int32} {qe n : Nat} {y : Nat → Nat} {g : Nat → Int32} {a : Nat → Nat → Int32}
theorem d_body {rm : Room} {x : Nat} (hx : x < n) (hk : kdN (a 2 x) = 0 ∨ kdN (a 2 x) = 1) {below' : List Frame} {mk : MethodId} {methY : Method} {cY : Code} {s' : State} (hexec : p.tables.exec = Jvm.exec) (hb : cY.code = cX6_hand) (hml : cY.maxLocals = 1) (hr : methY.sig.returnType = some .int) (hlocks : methY.locks = false)
    (hts : ∀ w ∈ lw_all, w.before [Value.ref (y x)].toArray s' = true) (hown : s'.vm.findClass "LentYouths$Handed" = some mk.cls) (hK : va_K (dC, dI) clA (tyA ct) s') (hP : va_P (dC, dI) clA (xG ct o q (ql, qs, md, qe, n) y g a ex) s'.heap) (hD : va_D A (xG ct o q (ql, qs, md, qe, n) y g a ex)) (hE : xE s') (hf : 2 ≤ rm.frames) (hl9 : 41 ≤ rm.locals) :
    W p l e rm s' mk [Value.ref (y x)].toArray below' methY cY s'.heap [] 0 0 (MQ below' (va_Qi (fun (r : Int32) (u : MS) => r = nI x ∧ u = ((upd g 29 (31 * (g 29) + 4)), a)) (gB dC dI ct A ex o q (ql, qs, md, qe, n) y) A) [Value.ref (y x)].toArray s' 0 0 A) (entryFrame mk [Value.ref (y x)].toArray 1) := by
  have hS : va_S A s'.heap s'.heap [] := va_S.rf
  have hl := lv_entry ([.ref (y x)]) (n := 1) (Nat.le_of_ble_eq_true rfl)
  rw [lg_entry_eq]
  generalize (lg_sl ([.ref (y x)]) ++ List.replicate (1 - (lg_sl ([.ref (y x)])).length) Slot.unset).toArray = ls at hl ⊢
  have hl : lv_has ls 1 [(0, .ref (y x))] := hl
  refine lv_aload_n hexec hb dX6_hand_0 rfl (lv_at hl 0 rfl) ?_
  have hRm : ({ frames := 1, cells := 0, slots := 0, locals := 21 } : Room).frames + 1 ≤ rm.frames ∧ 8 + (1 + 11) + ({ frames := 1, cells := 0, slots := 0, locals := 21 } : Room).locals ≤ rm.locals := ⟨hf, hl9⟩
  refine va_callFi (post := fun (r : Int32) (u : MS) => r = nI x ∧ u = ((upd g 29 (31 * (g 29) + 4)), a)) (B := gB dC dI ct A ex o q (ql, qs, md, qe, n) y) (A1 := A) (mc := 0) (ms := 0) (free := A) (a := [Value.ref (y x)].toArray) (rest := []) ?_ hS (fun q _ h => h) (fun q h => h) (fun r u t H1 locs ht hvm hw hB hz1 hk1 hS => ?_)
  · rcases hk with hk | hk
    · exact va_runF (As := []) (rest := []) (cAt0 hK) ⟨hexec, hb, hml, hown, hts⟩ (metX3_usual l dC dI ct A ex o q ql qs md qe n y g a x hx) (va_cwF 0 hts (lw_F q939 q942 q944 q85 q946) rfl rfl rfl (xE_fw_usualC hE) (by decide +kernel) hRm) (cPV0 hx hk hK hP hD hE _) rfl rfl hl.1 rfl (lv_room (Nat.le_of_ble_eq_true rfl)) dX6_hand_1 ⟨Nat.zero_le _, Nat.zero_le _⟩
    · exact va_runF (As := []) (rest := []) (cAt1 hK) ⟨hexec, hb, hml, hown, hts⟩ (metX3_usual l dC dI ct A ex o q ql qs md qe n y g a x hx) (va_cwF 0 hts (lw_F q939 q948 q944 q85 q946) rfl rfl rfl (xE_fw_usualS hE) (by decide +kernel) hRm) (cPV1 hx hk hK hP hD hE _) rfl rfl hl.1 rfl (lv_room (Nat.le_of_ble_eq_true rfl)) dX6_hand_1 ⟨Nat.zero_le _, Nat.zero_le _⟩
  · obtain ⟨hw, hw2⟩ := hw
    subst hw
    obtain ⟨hP, -, hD⟩ := hB
    rw [ht] at hP
    exact W.iret (v := nI x) hexec hb hr (fun t ht hW => ⟨⟨nI x, u, rfl, ⟨rfl, hw2⟩, by rw [ht]; exact hP, va_K.moved hW.alike hK, hD⟩, hS.F ht⟩) hS.2.2 dX6_hand_6 hlocks
theorem d_hand {cc : ByteArray} {nL index count : Nat} {own C : String} {cC : ClassId} {rest : List Value} {fr : JFrame} {x : Nat} (hx : x < n) (hk : kdN (a 2 x) = 0 ∨ kdN (a 2 x) = 1)
    (hat : ClassAt s C cC) (S : CallFix p m c cc nL s args lw_all own) (hlink : Cond.methodLink own index hnN ∈ lw_all) (hF : va_Fw C hnN hnN s) (hDf : xDf C s) (hcell : ∃ cellB : Cell, H[y x]? = some cellB ∧ cellB.vm.isStatics = false ∧ s.vm.findClass C = some cellB.cls)
    (hK : va_K (dC, dI) clA (tyA ct) s) (hP : va_P (dC, dI) clA (xG ct o q (ql, qs, md, qe, n) y g a ex) H) (hD : va_D A (xG ct o q (ql, qs, md, qe, n) y g a ex)) (hE : xE s)
    (hR : 3 ≤ R.frames ∧ 61 ≤ R.locals)
    (hg : fr.method = m) (hsize : fr.locals.size = nL) (hstack : fr.stack = .ref (y x) :: rest) (hW : 2 * fr.monitorRoom + (rest.map fun v => v.category).sum ≤ 8) (hdg : decode cc fr.pc = .ok (.invokeinterface index count, 5)) (hf : cells + 0 ≤ R.cells ∧ slots + 0 ≤ R.slots) :
    va_Run5 p l e R s m args below meth c H locs cells slots 0 0 fr rest (va_Qi (fun (r : Int32) (u : MS) => r = nI x ∧ u = ((upd g 29 (31 * (g 29) + 4)), a)) (gB dC dI ct A ex o q (ql, qs, md, qe, n) y) A [Value.ref (y x)].toArray) A := by
  obtain ⟨hexec, hb, hml, ho, hts⟩ := S
  obtain ⟨cellB, hcB, hoB, hclB⟩ := hcell
  obtain ⟨hfc, kB, hkB, -⟩ := hat
  cases hfc.symm.trans hclB
  intro T hT X
  have hdecl : (Cond.declares hnN).before args s = true := va_any rfl hF.1
  have hface : (Cond.interfaceMethod hnN.cls hnN.cls hnN.name hnN.desc).before args s = true := va_any rfl hF.2.1
  have hpub : (Cond.publicMethod hnN).before args s = true := va_any rfl hF.2.2.1
  have hunh : (Cond.unhidden C hnN.name hnN.desc).before args s = true := va_any rfl hF.2.2.2.1
  have hcast : (Cond.castable C hnN.cls).before args s = true := va_any rfl hF.2.2.2.2
  obtain ⟨r0, r, hn, hrm, hstR, hsigR⟩ := Cond.declares_spec hdecl
  obtain ⟨cL, kL, r1, hcL, hkL, hiL, hfoundL, hn1⟩ := Cond.interfaceMethod_spec hface
  cases hn.symm.trans hn1
  have hr0cls : r0.cls = cL := Option.some.inj ((findClass_of_methodNamed hn).symm.trans hcL)
  obtain ⟨hnameR, hdescR⟩ := name_of_methodNamed hn hrm
  obtain ⟨mk, methM, hnamed, hmethM, -, habM⟩ := Cond.instanceMethod_spec (hts _ q935)
  have hnamed : s.methodNamed? hnN = some mk := hnamed
  cases hnamed.symm.trans hn
  cases hrm.symm.trans hmethM
  obtain ⟨c2, r2, q1, q2, q4⟩ := hDf
  cases hclB.symm.trans q1
  cases hnamed.symm.trans q2
  have hselP : selectMethod e.platform s.vm cellB.cls r0 = .method r0 := by rw [Launch.admits_selectMethod X.admits]; exact q4
  have hpubM : hasFlag r.accessFlags Acc.public_ = true := Cond.publicMethod_spec hnamed hrm hpub
  have hway : ((cellB.cls :: s.vm.superclasses cellB.cls).any fun k => (declaredIn s.vm r.name r.desc k).any fun (_, z) => z.isPrivate || z.isStatic) = false := by
    rw [hnameR, hdescR]; exact Cond.unhidden_spec hclB hunh
  obtain ⟨c3, t3, w1, w2, w3⟩ := Cond.castable_spec hcast
  cases hclB.symm.trans w1
  cases hcL.symm.trans w2
  obtain ⟨vm₁, X₁, hstep₁⟩ := X.invokeinterface hexec ho (hts _ hlink) hn hrm hstR (by rw [hr0cls]; exact hkL) hiL (by decide) (a := y x) (cell := cellB) (kcell := kB) (by rw [hT]; exact hcB)
    (fun z h => by rw [h] at hoB; cases hoB) hkB (by rw [hr0cls]; exact w3) hselP hrm hway hpubM habM (g := fr) hg (argsL := []) (rest := rest) (by
      have z : (parseMethodDescriptor hnN.desc).map (fun d => d.parameters.length) = some 0 := by decide +kernel
      rw [hsigR] at z; exact (Option.some.inj z).symm) hstack (by rw [hb]; exact hdg)
  have hpay := pay_in hts (lw_meth q937)
  obtain ⟨v, t, T', L, ⟨o9, rfl, hq⟩, X', hL, e1, e2, hsteps⟩ := d_enter (WN := 8) (y := yX6_hand) (bytes := cX6_hand) (maxL := 1) (ret := some .int) (rm := ({ frames := 2, cells := 0, slots := 0, locals := 41 })) (free := A) (Qc := va_Qi (fun (r : Int32) (u : MS) => r = nI x ∧ u = ((upd g 29 (31 * (g 29) + 4)), a)) (gB dC dI ct A ex o q (ql, qs, md, qe, n) y) A) X₁ (by decide) (g := { fr with stack := rest }) hg (hsize.trans hml.symm) (ig := .invokeinterface index count) (len := 5) (by rw [hb]; exact hdg) hW (mk := r0) (X₁.named hnamed) (a := [Value.ref (y x)].toArray) (hpay _ List.mem_cons_self _ _ X₁.warmed) ⟨hR.1, hR.2, hf.1, hf.2⟩ (fun methY cY h1 h2 h3 h4 => by
      have hWs : s.WarmedH (((T.setVm vm₁).calling { fr with stack := rest } r0 [Value.ref (y x)].toArray)).vm := X₁.warmed
      have hown' : (((T.setVm vm₁).calling { fr with stack := rest } r0 [Value.ref (y x)].toArray)).vm.findClass "LentYouths$Handed" = some r0.cls := by
        rw [hWs.alike.findClass]; exact findClass_of_methodNamed hnamed
      have hh : (((T.setVm vm₁).calling { fr with stack := rest } r0 [Value.ref (y x)].toArray)).heap = H := hT
      exact d_body hx hk hexec h1 h2 h3 h4 (fun w hw => hpay w (List.mem_cons_of_mem _ hw) _ _ hWs) hown' (va_K.moved hWs.alike hK) (by rw [hh]; exact hP) hD (hE.warm hWs) (Nat.le_refl _) (Nat.le_refl _))
  exact ⟨v, (T.setVm vm₁).calling { fr with stack := rest } r0 [Value.ref (y x)].toArray, t, T', L, hT, X', hL, e1, e2, hq, fun target h => hstep₁ _ fun acts => by rw [doInvoke_state]; exact hsteps.trans h⟩
end DHD
