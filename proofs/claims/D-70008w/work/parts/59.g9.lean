/-! LENT YOUTHS: a text is read -/
theorem rp_id {g : Nat → Int32} {mm : Nat} (h : g 7 = nI mm) (v : Int32) (a : Nat → Nat → Int32) (f : Nat → Int32) : (upd g 6 v, va_up a 8 f) = (upd (upd g 6 v) 7 (nI mm), va_up (va_up (va_up (va_up a 8 f) 9 (a 9)) 10 (a 10)) 11 (a 11)) := by
  have e1 : upd (upd g 6 v) 7 (nI mm) = upd g 6 v := (congrArg (upd (upd g 6 v) 7) h.symm).trans (upd_id (upd g 6 v) 7)
  have e2 : va_up (va_up a 8 f) 9 (a 9) = va_up a 8 f := va_up_id (va_up a 8 f) 9
  have e3 : va_up (va_up a 8 f) 10 (a 10) = va_up a 8 f := va_up_id (va_up a 8 f) 10
  have e4 : va_up (va_up a 8 f) 11 (a 11) = va_up a 8 f := va_up_id (va_up a 8 f) 11
  rw [e1, e2, e3, e4]
theorem rp_id2 {g : Nat → Int32} {mm : Nat} (h : g 7 = nI mm) (v : Int32) (a : Nat → Nat → Int32) (f f2 : Nat → Int32) : (upd g 6 v, va_up (va_up a 8 f) 9 f2) = (upd (upd g 6 v) 7 (nI mm), va_up (va_up (va_up (va_up a 8 f) 9 f2) 10 (a 10)) 11 (a 11)) := by
  have e1 : upd (upd g 6 v) 7 (nI mm) = upd g 6 v := (congrArg (upd (upd g 6 v) 7) h.symm).trans (upd_id (upd g 6 v) 7)
  have e3 : va_up (va_up (va_up a 8 f) 9 f2) 10 (a 10) = va_up (va_up a 8 f) 9 f2 := va_up_id (va_up (va_up a 8 f) 9 f2) 10
  have e4 : va_up (va_up (va_up a 8 f) 9 f2) 11 (a 11) = va_up (va_up a 8 f) 9 f2 := va_up_id (va_up (va_up a 8 f) 9 f2) 11
  rw [e1, e3, e4]
theorem rp_id3 {g : Nat → Int32} {mm : Nat} (h : g 7 = nI mm) (v : Int32) (a : Nat → Nat → Int32) (f f2 f3 : Nat → Int32) : (upd g 6 v, va_up (va_up (va_up a 8 f) 9 f2) 10 f3) = (upd (upd g 6 v) 7 (nI mm), va_up (va_up (va_up (va_up a 8 f) 9 f2) 10 f3) 11 (a 11)) := by
  have e1 : upd (upd g 6 v) 7 (nI mm) = upd g 6 v := (congrArg (upd (upd g 6 v) 7) h.symm).trans (upd_id (upd g 6 v) 7)
  have e4 : va_up (va_up (va_up (va_up a 8 f) 9 f2) 10 f3) 11 (a 11) = va_up (va_up (va_up a 8 f) 9 f2) 10 f3 := va_up_id (va_up (va_up (va_up a 8 f) 9 f2) 10 f3) 11
  rw [e1, e4]
theorem ra_id (g : Nat → Int32) (a : Nat → Nat → Int32) : (upd (upd g 6 (nI 0)) 7 0, a) = (upd (upd g 6 (nI 0)) 7 0, va_up (va_up (va_up (va_up a 8 (a 8)) 9 (a 9)) 10 (a 10)) 11 (a 11)) := by
  simp only [va_up_id]
theorem pp_le {tx : Nat → Int32} {L t0 : Nat} (h : (pPerson tx L t0).1 = true) : (pPerson tx L t0).2.1 ≤ L := by
  by_cases hl : pcode tx L t0 = 99 ∨ pcode tx L t0 = 115 ∨ pcode tx L t0 = 116
  · cases d1 : rsOk tx L (t0 + 1) with
    | false => rw [pp_rs0 hl d1] at h; cases h
    | true =>
      cases d3 : dgok (pcode tx L (t0 + 3)) 0 6 with
      | false => rw [pp_rs3 hl d1 d3] at h; cases h
      | true =>
        cases d4 : dgok (pcode tx L (t0 + 4)) 1 9 with
        | false => rw [pp_rs4 hl d1 d3 d4] at h; cases h
        | true =>
          rw [pp_rs5 hl d1 d3 d4 rfl]
          exact dg_lt1 (by decide) d4
  · rw [pP_0 hl] at h; cases h
set_option maxHeartbeats 4000000 in
set_option maxRecDepth 100000 in
theorem metX0_isSign (l : Launch) (dC : Nat → ClassId) (dI : Nat → Nat → Nat) (ct : Nat → ClassId) (A : Nat → Prop) (ex : va_W) (o : Nat) (q : Nat → Nat) (ql qs : Nat) (md : Int32) (qe n : Nat) (y : Nat → Nat) (g : Nat → Int32) (a : Nat → Nat → Int32) (k : Int32) (rp rq L : Nat) (rf : Nat → Int32) (at0 : Nat) (hrp : ex[rp]? = some (rq, .inl (ct 0, L, .inl rf))) (hL : L ≤ 61) (hat : at0 ≤ L) (hg6 : g 6 = nI at0) (hk9 : ¬ k = -9) : Met l yX0_isSign (ws_ yX0_isSign cX0_isSign 3 (some .boolean)) ({ frames := 0, cells := 0, slots := 0, locals := 0 }) (gPre dC dI ct A ex o q (ql, qs, md, qe, n) y g a [.ref o, .ref rq, .int k]) (va_Qi (fun (r : Int32) (u : (Nat → Int32) × (Nat → Nat → Int32)) => r = (b2i (sgV rf L at0 k)) ∧ u = ((upd g 6 (nI (sgN rf L at0 k))), a)) (gB dC dI ct A ex o q (ql, qs, md, qe, n) y) A) 0 0 A := by
  refine Met.ofW (cc := cX0_isSign) (maxL := 3) (ret := (some .boolean)) (by decide) rfl ?_
  intro p e s m args below meth c s₁ B hml hv
  obtain ⟨rfl, hP, hK, hD, hE⟩ := hv
  have hx := B.exec
  have hb := B.bytes
  have hr := B.returns
  have hts := atoms_spec (ws := ws_ yX0_isSign cX0_isSign 3 (some .boolean)) B.pre
  have hts : ∀ w ∈ lw_all, w.before _ s = true := fun w h => hts w (List.mem_cons_of_mem _ h)
  have hown : s.vm.findClass RX0 = some m.cls := findClass_of_methodNamed B.named
  have hlocks := B.notSynchronized
  have hS : va_S A s.heap s.heap [] := va_S.rf
  have hl := lv_entry ([.ref o, .ref rq, .int k]) (n := 3) (Nat.le_of_ble_eq_true rfl)
  rw [lg_entry_eq]
  generalize (lg_sl ([.ref o, .ref rq, .int k]) ++ List.replicate (3 - (lg_sl ([.ref o, .ref rq, .int k])).length) Slot.unset).toArray = ls at hl ⊢
  have hl : lv_has ls 3 [(0, .ref o), (1, .ref rq), (2, .int k)] := hl
  refine lv_aload_n hx hb dX0_isSign_0 rfl (lv_at hl 0 rfl) ?_
  refine g_get (v := .int (g 6)) hx hb hts hown hK hP 5 (by decide) rfl q151 rfl dX0_isSign_1 ?_
  refine lv_aload_n hx hb dX0_isSign_4 rfl (lv_at hl 1 rfl) ?_
  refine va_alen (v := nI L) hx hb hK hP (xps n + rp) 0 ((xG_ex rp).trans hrp) rfl rfl dX0_isSign_5 ?_
  refine lv_icmp_eq (tgt := 19) hx hb dX0_isSign_6 (by decide) (fun c_1 => ?_) (fun c_1 => ?_)
  · skip
    have hge : at0 = L := by rw [hg6] at c_1; exact (nI_eq (by omega) (by omega)).mp c_1
    refine lv_iconst (v := 0) hx hb dX0_isSign_19 (by decide) ?_
    have hq : ¬ (pcode rf L at0) = k := sg_end hge hk9
    exact W.zret (v := 0) hx hb hr rfl (fun t ht hW => ⟨⟨0, (g, a), rfl, ⟨(by rw [sgV_f hq]; rfl), (by rw [sgN_f hq, upd_at hg6])⟩, by rw [ht]; exact hP, va_K.moved hW.alike hK, hD⟩, hS.F ht⟩) hS.2.2 dX0_isSign_20
  · skip
    have hlt : at0 < L := Nat.lt_of_le_of_ne hat (fun z => c_1 (by rw [hg6, z]))
    refine lv_aload_n hx hb dX0_isSign_9 rfl (lv_at hl 1 rfl) ?_
    refine lv_aload_n hx hb dX0_isSign_10 rfl (lv_at hl 0 rfl) ?_
    refine g_get (v := .int (g 6)) hx hb hts hown hK hP 5 (by decide) rfl q151 rfl dX0_isSign_11 ?_
    refine ar_ild hx hb hK hP (xps n + rp) 0 ((xG_ex rp).trans hrp) rfl at0 hg6 hlt (by omega) dX0_isSign_14 ?_
    refine lv_iload_n hx hb dX0_isSign_15 rfl (lv_at hl 2 rfl) ?_
    refine lv_icmp_eq (tgt := 21) hx hb dX0_isSign_16 (by decide) (fun c_2 => ?_) (fun c_2 => ?_)
    · skip
      refine lv_aload_n hx hb dX0_isSign_21 rfl (lv_at hl 0 rfl) ?_
      refine lv_dup hx hb dX0_isSign_22 rfl ?_
      refine g_get (v := .int (g 6)) hx hb hts hown hK hP 5 (by decide) rfl q151 rfl dX0_isSign_23 ?_
      refine lv_iconst (v := 1) hx hb dX0_isSign_26 (by decide) ?_
      refine lv_iadd hx hb dX0_isSign_27 ?_
      refine g_put (v := ((g 6) + 1)) hx hb hts hown hK hP hD hS 5 6 (by decide) rfl q151 rfl rfl (by decide +kernel) dX0_isSign_28 (fun H locs hP hD hS => ?_)
      refine lv_iconst (v := 1) hx hb dX0_isSign_31 (by decide) ?_
      have hq : (pcode rf L at0) = k := by rw [sg_in hlt]; exact c_2
      exact W.zret (v := 1) hx hb hr rfl (fun t ht hW => ⟨⟨1, ((upd g 6 ((g 6) + 1)), a), rfl, ⟨(by rw [sgV_t hq]; rfl), (by rw [sgN_t hq, hg6, nI_1])⟩, by rw [ht]; exact hP, va_K.moved hW.alike hK, hD⟩, hS.F ht⟩) hS.2.2 dX0_isSign_32
    · skip
      refine lv_iconst (v := 0) hx hb dX0_isSign_19 (by decide) ?_
      have hq : ¬ (pcode rf L at0) = k := by rw [sg_in hlt]; exact c_2
      exact W.zret (v := 0) hx hb hr rfl (fun t ht hW => ⟨⟨0, (g, a), rfl, ⟨(by rw [sgV_f hq]; rfl), (by rw [sgN_f hq, upd_at hg6])⟩, by rw [ht]; exact hP, va_K.moved hW.alike hK, hD⟩, hS.F ht⟩) hS.2.2 dX0_isSign_20
set_option maxHeartbeats 4000000 in
set_option maxRecDepth 100000 in
theorem metX0_digit (l : Launch) (dC : Nat → ClassId) (dI : Nat → Nat → Nat) (ct : Nat → ClassId) (A : Nat → Prop) (ex : va_W) (o : Nat) (q : Nat → Nat) (ql qs : Nat) (md : Int32) (qe n : Nat) (y : Nat → Nat) (g : Nat → Int32) (a : Nat → Nat → Int32) (lo : Int32) (hi : Int32) (rp rq L : Nat) (rf : Nat → Int32) (at0 : Nat) (hrp : ex[rp]? = some (rq, .inl (ct 0, L, .inl rf))) (hL : L ≤ 61) (hat : at0 ≤ L) (hg6 : g 6 = nI at0) (h0 : 0 ≤ lo.toInt) (h9 : hi.toInt ≤ 9) : Met l yX0_digit (ws_ yX0_digit cX0_digit 4 (some .int)) ({ frames := 1, cells := 0, slots := 0, locals := 25 }) (gPre dC dI ct A ex o q (ql, qs, md, qe, n) y g a [.ref o, .ref rq, .int lo, .int hi]) (va_Qi (fun (r : Int32) (u : (Nat → Int32) × (Nat → Nat → Int32)) => r = (dgv (pcode rf L at0) lo hi) ∧ u = ((upd g 6 (nI (at0 + dgn (pcode rf L at0) lo hi))), a)) (gB dC dI ct A ex o q (ql, qs, md, qe, n) y) A) 0 0 A := by
  refine Met.ofW (cc := cX0_digit) (maxL := 4) (ret := (some .int)) (by decide) rfl ?_
  intro p e s m args below meth c s₁ B hml hv
  obtain ⟨rfl, hP, hK, hD, hE⟩ := hv
  have hx := B.exec
  have hb := B.bytes
  have hr := B.returns
  have hts := atoms_spec (ws := ws_ yX0_digit cX0_digit 4 (some .int)) B.pre
  have hts : ∀ w ∈ lw_all, w.before _ s = true := fun w h => hts w (List.mem_cons_of_mem _ h)
  have hown : s.vm.findClass RX0 = some m.cls := findClass_of_methodNamed B.named
  have hlocks := B.notSynchronized
  have hS : va_S A s.heap s.heap [] := va_S.rf
  have hl := lv_entry ([.ref o, .ref rq, .int lo, .int hi]) (n := 4) (Nat.le_of_ble_eq_true rfl)
  rw [lg_entry_eq]
  generalize (lg_sl ([.ref o, .ref rq, .int lo, .int hi]) ++ List.replicate (4 - (lg_sl ([.ref o, .ref rq, .int lo, .int hi])).length) Slot.unset).toArray = ls at hl ⊢
  have hl : lv_has ls 4 [(0, .ref o), (1, .ref rq), (2, .int lo), (3, .int hi)] := hl
  refine lv_aload_n hx hb dX0_digit_0 rfl (lv_at hl 0 rfl) ?_
  refine g_get (v := .int (g 6)) hx hb hts hown hK hP 5 (by decide) rfl q151 rfl dX0_digit_1 ?_
  refine lv_aload_n hx hb dX0_digit_4 rfl (lv_at hl 1 rfl) ?_
  refine va_alen (v := nI L) hx hb hK hP (xps n + rp) 0 ((xG_ex rp).trans hrp) rfl rfl dX0_digit_5 ?_
  refine lv_icmp_eq (tgt := 30) hx hb dX0_digit_6 (by decide) (fun c_1 => ?_) (fun c_1 => ?_)
  · skip
    have hge : at0 = L := by rw [hg6] at c_1; exact (nI_eq (by omega) (by omega)).mp c_1
    refine lv_bipush (v := (-9)) hx hb dX0_digit_30 (by decide) ?_
    have hq : dgok (pcode rf L at0) lo hi = false := dg_end h0 hge
    exact W.iret (v := (-9)) hx hb hr (fun t ht hW => ⟨⟨(-9), (g, a), rfl, ⟨(by rw [dgv, if_neg (by rw [hq]; decide)]), (by rw [dgn, if_neg (by rw [hq]; decide), Nat.add_zero, upd_at hg6])⟩, by rw [ht]; exact hP, va_K.moved hW.alike hK, hD⟩, hS.F ht⟩) hS.2.2 dX0_digit_32
  · skip
    have hlt : at0 < L := Nat.lt_of_le_of_ne hat (fun z => c_1 (by rw [hg6, z]))
    refine lv_aload_n hx hb dX0_digit_9 rfl (lv_at hl 1 rfl) ?_
    refine lv_aload_n hx hb dX0_digit_10 rfl (lv_at hl 0 rfl) ?_
    refine g_get (v := .int (g 6)) hx hb hts hown hK hP 5 (by decide) rfl q151 rfl dX0_digit_11 ?_
    refine ar_ild hx hb hK hP (xps n + rp) 0 ((xG_ex rp).trans hrp) rfl at0 hg6 hlt (by omega) dX0_digit_14 ?_
    refine lv_i2l (v := (Int32.toInt64 (rf at0))) hx hb dX0_digit_15 rfl ?_
    refine lv_ldc2 (v := 48) hx hb hown (hts _ q436) dX0_digit_16 ?_
    refine lv_lsub hx hb dX0_digit_19 ?_
    refine lv_iload_n hx hb dX0_digit_20 rfl (lv_at hl 2 rfl) ?_
    refine lv_i2l (v := (Int32.toInt64 lo)) hx hb dX0_digit_21 rfl ?_
    refine lv_iload_n hx hb dX0_digit_22 rfl (lv_at hl 3 rfl) ?_
    refine lv_i2l (v := (Int32.toInt64 hi)) hx hb dX0_digit_23 rfl ?_
    refine vp_callSi ((va_runS (As := [.long ((Int32.toInt64 (rf at0)) - 48), .long (Int32.toInt64 lo), .long (Int32.toInt64 hi)]) (rest := []) ⟨hx, hb, hml, hown, hts⟩ (metX0_isIn l ((Int32.toInt64 (rf at0)) - 48) (Int32.toInt64 lo) (Int32.toInt64 hi) ) (va_cwS 3 hts (lw_S q380 q381 q69 q382) rfl rfl rfl (by decide +kernel) ⟨Nat.le_of_ble_eq_true rfl, Nat.le_of_ble_eq_true rfl⟩) (pcS _) rfl rfl hl.1 rfl (lv_room (Nat.le_of_ble_eq_true rfl)) dX0_digit_24 ⟨Nat.zero_le _, Nat.zero_le _⟩)).run (fun r hw => ?_)
    have hw : r = (b2i (lin ((Int32.toInt64 (rf at0)) - 48) (Int32.toInt64 lo) (Int32.toInt64 hi))) := hw
    subst hw
    refine bz_ne (tgt := 33) hx hb dX0_digit_27 (by decide) (fun c_2 => ?_) (fun c_2 => ?_)
    · skip
      refine lv_aload_n hx hb dX0_digit_33 rfl (lv_at hl 0 rfl) ?_
      refine lv_dup hx hb dX0_digit_34 rfl ?_
      refine g_get (v := .int (g 6)) hx hb hts hown hK hP 5 (by decide) rfl q151 rfl dX0_digit_35 ?_
      refine lv_iconst (v := 1) hx hb dX0_digit_38 (by decide) ?_
      refine lv_iadd hx hb dX0_digit_39 ?_
      refine g_put (v := ((g 6) + 1)) hx hb hts hown hK hP hD hS 5 6 (by decide) rfl q151 rfl rfl (by decide +kernel) dX0_digit_40 (fun H locs hP hD hS => ?_)
      refine lv_aload_n hx hb dX0_digit_43 rfl (lv_at hl 1 rfl) ?_
      refine lv_aload_n hx hb dX0_digit_44 rfl (lv_at hl 0 rfl) ?_
      refine g_get (v := .int ((g 6) + 1)) hx hb hts hown hK hP 5 (by decide) rfl q151 rfl dX0_digit_45 ?_
      refine lv_iconst (v := 1) hx hb dX0_digit_48 (by decide) ?_
      refine lv_isub hx hb dX0_digit_49 ?_
      refine ar_ild hx hb hK hP (xps n + rp) 0 ((xG_ex rp).trans hrp) rfl at0 (by rw [hg6, nI_1]; exact nI_pred at0) hlt (by omega) dX0_digit_50 ?_
      refine lv_bipush (v := 48) hx hb dX0_digit_51 (by decide) ?_
      refine lv_isub hx hb dX0_digit_53 ?_
      have hq : dgok (pcode rf L at0) lo hi = true := by rw [sg_in hlt, ← dg_long h0 h9]; exact c_2
      exact W.iret (v := ((rf at0) - 48)) hx hb hr (fun t ht hW => ⟨⟨((rf at0) - 48), ((upd g 6 ((g 6) + 1)), a), rfl, ⟨(by rw [dgv, if_pos hq, sg_in hlt]), (by rw [dgn, if_pos hq, hg6, nI_1])⟩, by rw [ht]; exact hP, va_K.moved hW.alike hK, hD⟩, hS.F ht⟩) hS.2.2 dX0_digit_54
    · skip
      refine lv_bipush (v := (-9)) hx hb dX0_digit_30 (by decide) ?_
      have hq : dgok (pcode rf L at0) lo hi = false := by rw [sg_in hlt, ← dg_long h0 h9]; exact c_2
      exact W.iret (v := (-9)) hx hb hr (fun t ht hW => ⟨⟨(-9), (g, a), rfl, ⟨(by rw [dgv, if_neg (by rw [hq]; decide)]), (by rw [dgn, if_neg (by rw [hq]; decide), Nat.add_zero, upd_at hg6])⟩, by rw [ht]; exact hP, va_K.moved hW.alike hK, hD⟩, hS.F ht⟩) hS.2.2 dX0_digit_32
set_option maxHeartbeats 4000000 in
set_option maxRecDepth 100000 in
theorem metX0_readSet (l : Launch) (dC : Nat → ClassId) (dI : Nat → Nat → Nat) (ct : Nat → ClassId) (A : Nat → Prop) (ex : va_W) (o : Nat) (q : Nat → Nat) (ql qs : Nat) (md : Int32) (qe n : Nat) (y : Nat → Nat) (g : Nat → Int32) (a : Nat → Nat → Int32)  (rp rq L : Nat) (rf : Nat → Int32) (at0 : Nat) (hrp : ex[rp]? = some (rq, .inl (ct 0, L, .inl rf))) (hL : L ≤ 61) (hat : at0 ≤ L) (hg6 : g 6 = nI at0) : Met l yX0_readSet (ws_ yX0_readSet cX0_readSet 4 (some .int)) ({ frames := 2, cells := 0, slots := 0, locals := 48 }) (gPre dC dI ct A ex o q (ql, qs, md, qe, n) y g a [.ref o, .ref rq]) (va_Qi (fun (r : Int32) (u : (Nat → Int32) × (Nat → Nat → Int32)) => r = (rsV rf L at0) ∧ u = ((upd g 6 (nI (rsN rf L at0))), a)) (gB dC dI ct A ex o q (ql, qs, md, qe, n) y) A) 0 0 A := by
  refine Met.ofW (cc := cX0_readSet) (maxL := 4) (ret := (some .int)) (by decide) rfl ?_
  intro p e s m args below meth c s₁ B hml hv
  obtain ⟨rfl, hP, hK, hD, hE⟩ := hv
  have hx := B.exec
  have hb := B.bytes
  have hr := B.returns
  have hts := atoms_spec (ws := ws_ yX0_readSet cX0_readSet 4 (some .int)) B.pre
  have hts : ∀ w ∈ lw_all, w.before _ s = true := fun w h => hts w (List.mem_cons_of_mem _ h)
  have hown : s.vm.findClass RX0 = some m.cls := findClass_of_methodNamed B.named
  have hlocks := B.notSynchronized
  have hS : va_S A s.heap s.heap [] := va_S.rf
  have hl := lv_entry ([.ref o, .ref rq]) (n := 4) (Nat.le_of_ble_eq_true rfl)
  rw [lg_entry_eq]
  generalize (lg_sl ([.ref o, .ref rq]) ++ List.replicate (4 - (lg_sl ([.ref o, .ref rq])).length) Slot.unset).toArray = ls at hl ⊢
  have hl : lv_has ls 4 [(0, .ref o), (1, .ref rq)] := hl
  refine lv_aload_n hx hb dX0_readSet_0 rfl (lv_at hl 0 rfl) ?_
  refine lv_aload_n hx hb dX0_readSet_1 rfl (lv_at hl 1 rfl) ?_
  refine lv_iconst (v := 0) hx hb dX0_readSet_2 (by decide) ?_
  refine lv_bipush (v := 6) hx hb dX0_readSet_3 (by decide) ?_
  refine va_calli (va_runV (As := [.ref rq, .int 0, .int 6]) (rest := []) ⟨hx, hb, hml, hown, hts⟩ (metX0_digit l dC dI ct A ex o q ql qs md qe n y g a 0 6 rp rq L rf at0 hrp hL hat hg6 (by decide) (by decide)) (cwV 3 hts (lw_V q432 q434 qs7 q69 q435) rfl rfl rfl (by decide +kernel) ⟨Nat.le_of_ble_eq_true rfl, Nat.le_of_ble_eq_true rfl⟩) (gPV hK hP hD hE _) rfl rfl hl.1 rfl (lv_room (Nat.le_of_ble_eq_true rfl)) dX0_readSet_5 ⟨Nat.zero_le _, Nat.zero_le _⟩) hS (fun q _ h => h) (fun q h => h) (fun r u t H1 locs ht hvm hw hB hz1 hk1 hS => ?_)
  obtain ⟨hw, hw2⟩ := hw
  have hw : r = (dgv (pcode rf L at0) 0 6) := hw
  subst hw
  subst hw2
  obtain ⟨hP, -, hD⟩ := hB
  rw [ht] at hP
  generalize H1 = H at hP hS ⊢
  have hP : va_P (dC, dI) clA (xG ct o q (ql, qs, md, qe, n) y (upd g 6 (nI (at0 + dgn (pcode rf L at0) 0 6))) a ex) H := hP
  have hD : va_D A (xG ct o q (ql, qs, md, qe, n) y (upd g 6 (nI (at0 + dgn (pcode rf L at0) 0 6))) a ex) := hD
  refine lv_istore_n (lv' := [(2, .int (dgv (pcode rf L at0) 0 6)), (0, .ref o), (1, .ref rq)]) hx hb dX0_readSet_8 rfl hl (by decide) rfl (fun ls hl => ?_)
  refine lv_iload_n hx hb dX0_readSet_9 rfl (lv_at hl 0 rfl) ?_
  refine lv_bipush (v := (-9)) hx hb dX0_readSet_10 (by decide) ?_
  refine lv_icmp_ne (tgt := 18) hx hb dX0_readSet_12 (by decide) (fun c_1 => ?_) (fun c_1 => ?_)
  · skip
    have d1 : dgok (pcode rf L at0) 0 6 = true := by cases z9 : dgok (pcode rf L at0) 0 6 with | true => rfl | false => exact absurd (dg_is9 z9) c_1
    have eg1 : at0 + dgn (pcode rf L at0) 0 6 = at0 + 1 := by rw [dgn, if_pos d1]
    refine lv_aload_n hx hb dX0_readSet_18 rfl (lv_at hl 1 rfl) ?_
    refine lv_aload_n hx hb dX0_readSet_19 rfl (lv_at hl 2 rfl) ?_
    refine lv_iconst (v := 0) hx hb dX0_readSet_20 (by decide) ?_
    refine lv_iload_n hx hb dX0_readSet_21 rfl (lv_at hl 0 rfl) ?_
    refine lv_bipush (v := 6) hx hb dX0_readSet_22 (by decide) ?_
    refine lv_icmp_ne (tgt := 31) hx hb dX0_readSet_24 (by decide) (fun c_2 => ?_) (fun c_2 => ?_)
    · skip
      refine lv_bipush (v := 9) hx hb dX0_readSet_31 (by decide) ?_
      have eh : 9 = rs_hi (pcode rf L at0) := by unfold rs_hi; rw [if_neg c_2]
      refine va_calli (va_runV (As := [.ref rq, .int 0, .int 9]) (rest := []) ⟨hx, hb, hml, hown, hts⟩ (metX0_digit l dC dI ct A ex o q ql qs md qe n y (upd g 6 (nI (at0 + dgn (pcode rf L at0) 0 6))) a 0 9 rp rq L rf (at0 + 1) hrp hL (dg_lt1 (by decide) d1) (by rw [eg1]; rfl) (by decide) (by decide)) (cwV 3 hts (lw_V q432 q434 qs7 q69 q435) rfl rfl rfl (by decide +kernel) ⟨Nat.le_of_ble_eq_true rfl, Nat.le_of_ble_eq_true rfl⟩) (gPV hK hP hD hE _) rfl rfl hl.1 rfl (lv_room (Nat.le_of_ble_eq_true rfl)) dX0_readSet_33 ⟨Nat.zero_le _, Nat.zero_le _⟩) hS (fun q _ h => h) (fun q h => h) (fun r u t H1 locs ht hvm hw hB hz1 hk1 hS => ?_)
      obtain ⟨hw, hw2⟩ := hw
      have hw : r = (dgv (pcode rf L (at0 + 1)) 0 9) := hw
      subst hw
      subst hw2
      obtain ⟨hP, -, hD⟩ := hB
      rw [ht] at hP
      generalize H1 = H at hP hS ⊢
      have hP : va_P (dC, dI) clA (xG ct o q (ql, qs, md, qe, n) y (upd g 6 (nI (at0 + 1 + dgn (pcode rf L (at0 + 1)) 0 9))) a ex) H := hP
      have hD : va_D A (xG ct o q (ql, qs, md, qe, n) y (upd g 6 (nI (at0 + 1 + dgn (pcode rf L (at0 + 1)) 0 9))) a ex) := hD
      refine lv_istore_n (lv' := [(3, .int (dgv (pcode rf L (at0 + 1)) 0 9)), (2, .int (dgv (pcode rf L at0) 0 6)), (0, .ref o), (1, .ref rq)]) hx hb dX0_readSet_36 rfl hl (by decide) rfl (fun ls hl => ?_)
      refine lv_iload_n hx hb dX0_readSet_37 rfl (lv_at hl 0 rfl) ?_
      refine lv_bipush (v := (-9)) hx hb dX0_readSet_38 (by decide) ?_
      refine lv_icmp_ne (tgt := 48) hx hb dX0_readSet_40 (by decide) (fun c_3 => ?_) (fun c_3 => ?_)
      · skip
        refine lv_bipush (v := 10) hx hb dX0_readSet_48 (by decide) ?_
        refine lv_iload_n hx hb dX0_readSet_50 rfl (lv_at hl 1 rfl) ?_
        refine lv_imul hx hb dX0_readSet_51 ?_
        refine lv_iload_n hx hb dX0_readSet_52 rfl (lv_at hl 0 rfl) ?_
        refine lv_iadd hx hb dX0_readSet_53 ?_
        have d2 : dgok (pcode rf L (at0 + 1)) 0 (rs_hi (pcode rf L at0)) = true := by cases z9 : dgok (pcode rf L (at0 + 1)) 0 (rs_hi (pcode rf L at0)) with | true => rfl | false => exact absurd (dg_is9 z9) (eh ▸ c_3)
        exact W.iret (v := ((10 * (dgv (pcode rf L at0) 0 6)) + (dgv (pcode rf L (at0 + 1)) 0 9))) hx hb hr (fun t ht hW => ⟨⟨((10 * (dgv (pcode rf L at0) 0 6)) + (dgv (pcode rf L (at0 + 1)) 0 9)), ((upd g 6 (nI (at0 + 1 + dgn (pcode rf L (at0 + 1)) 0 9))), a), rfl, ⟨(by rw [rsV, if_pos (by rw [rsOk, d1, d2]; rfl), eh]), (by rw [rsN, if_pos d1, eh])⟩, by rw [ht]; exact hP, va_K.moved hW.alike hK, hD⟩, hS.F ht⟩) hS.2.2 dX0_readSet_54
      · skip
        refine lv_bipush (v := (-9)) hx hb dX0_readSet_43 (by decide) ?_
        refine lv_goto (tgt := 54) hx hb dX0_readSet_45 (by decide) ?_
        have d2 : dgok (pcode rf L (at0 + 1)) 0 (rs_hi (pcode rf L at0)) = false := (dg_iff9 (by decide)).mp (eh ▸ c_3)
        exact W.iret (v := (-9)) hx hb hr (fun t ht hW => ⟨⟨(-9), ((upd g 6 (nI (at0 + 1 + dgn (pcode rf L (at0 + 1)) 0 9))), a), rfl, ⟨(by rw [rsV, if_neg (by rw [rsOk, d1, d2]; decide)]), (by rw [rsN, if_pos d1, eh])⟩, by rw [ht]; exact hP, va_K.moved hW.alike hK, hD⟩, hS.F ht⟩) hS.2.2 dX0_readSet_54
    · skip
      refine lv_iconst (v := 3) hx hb dX0_readSet_27 (by decide) ?_
      refine lv_goto (tgt := 33) hx hb dX0_readSet_28 (by decide) ?_
      have eh : 3 = rs_hi (pcode rf L at0) := by unfold rs_hi; rw [if_pos c_2]
      refine va_calli (va_runV (As := [.ref rq, .int 0, .int 3]) (rest := []) ⟨hx, hb, hml, hown, hts⟩ (metX0_digit l dC dI ct A ex o q ql qs md qe n y (upd g 6 (nI (at0 + dgn (pcode rf L at0) 0 6))) a 0 3 rp rq L rf (at0 + 1) hrp hL (dg_lt1 (by decide) d1) (by rw [eg1]; rfl) (by decide) (by decide)) (cwV 3 hts (lw_V q432 q434 qs7 q69 q435) rfl rfl rfl (by decide +kernel) ⟨Nat.le_of_ble_eq_true rfl, Nat.le_of_ble_eq_true rfl⟩) (gPV hK hP hD hE _) rfl rfl hl.1 rfl (lv_room (Nat.le_of_ble_eq_true rfl)) dX0_readSet_33 ⟨Nat.zero_le _, Nat.zero_le _⟩) hS (fun q _ h => h) (fun q h => h) (fun r u t H1 locs ht hvm hw hB hz1 hk1 hS => ?_)
      obtain ⟨hw, hw2⟩ := hw
      have hw : r = (dgv (pcode rf L (at0 + 1)) 0 3) := hw
      subst hw
      subst hw2
      obtain ⟨hP, -, hD⟩ := hB
      rw [ht] at hP
      generalize H1 = H at hP hS ⊢
      have hP : va_P (dC, dI) clA (xG ct o q (ql, qs, md, qe, n) y (upd g 6 (nI (at0 + 1 + dgn (pcode rf L (at0 + 1)) 0 3))) a ex) H := hP
      have hD : va_D A (xG ct o q (ql, qs, md, qe, n) y (upd g 6 (nI (at0 + 1 + dgn (pcode rf L (at0 + 1)) 0 3))) a ex) := hD
      refine lv_istore_n (lv' := [(3, .int (dgv (pcode rf L (at0 + 1)) 0 3)), (2, .int (dgv (pcode rf L at0) 0 6)), (0, .ref o), (1, .ref rq)]) hx hb dX0_readSet_36 rfl hl (by decide) rfl (fun ls hl => ?_)
      refine lv_iload_n hx hb dX0_readSet_37 rfl (lv_at hl 0 rfl) ?_
      refine lv_bipush (v := (-9)) hx hb dX0_readSet_38 (by decide) ?_
      refine lv_icmp_ne (tgt := 48) hx hb dX0_readSet_40 (by decide) (fun c_4 => ?_) (fun c_4 => ?_)
      · skip
        refine lv_bipush (v := 10) hx hb dX0_readSet_48 (by decide) ?_
        refine lv_iload_n hx hb dX0_readSet_50 rfl (lv_at hl 1 rfl) ?_
        refine lv_imul hx hb dX0_readSet_51 ?_
        refine lv_iload_n hx hb dX0_readSet_52 rfl (lv_at hl 0 rfl) ?_
        refine lv_iadd hx hb dX0_readSet_53 ?_
        have d2 : dgok (pcode rf L (at0 + 1)) 0 (rs_hi (pcode rf L at0)) = true := by cases z9 : dgok (pcode rf L (at0 + 1)) 0 (rs_hi (pcode rf L at0)) with | true => rfl | false => exact absurd (dg_is9 z9) (eh ▸ c_4)
        exact W.iret (v := ((10 * (dgv (pcode rf L at0) 0 6)) + (dgv (pcode rf L (at0 + 1)) 0 3))) hx hb hr (fun t ht hW => ⟨⟨((10 * (dgv (pcode rf L at0) 0 6)) + (dgv (pcode rf L (at0 + 1)) 0 3)), ((upd g 6 (nI (at0 + 1 + dgn (pcode rf L (at0 + 1)) 0 3))), a), rfl, ⟨(by rw [rsV, if_pos (by rw [rsOk, d1, d2]; rfl), eh]), (by rw [rsN, if_pos d1, eh])⟩, by rw [ht]; exact hP, va_K.moved hW.alike hK, hD⟩, hS.F ht⟩) hS.2.2 dX0_readSet_54
      · skip
        refine lv_bipush (v := (-9)) hx hb dX0_readSet_43 (by decide) ?_
        refine lv_goto (tgt := 54) hx hb dX0_readSet_45 (by decide) ?_
        have d2 : dgok (pcode rf L (at0 + 1)) 0 (rs_hi (pcode rf L at0)) = false := (dg_iff9 (by decide)).mp (eh ▸ c_4)
        exact W.iret (v := (-9)) hx hb hr (fun t ht hW => ⟨⟨(-9), ((upd g 6 (nI (at0 + 1 + dgn (pcode rf L (at0 + 1)) 0 3))), a), rfl, ⟨(by rw [rsV, if_neg (by rw [rsOk, d1, d2]; decide)]), (by rw [rsN, if_pos d1, eh])⟩, by rw [ht]; exact hP, va_K.moved hW.alike hK, hD⟩, hS.F ht⟩) hS.2.2 dX0_readSet_54
  · skip
    have d1 : dgok (pcode rf L at0) 0 6 = false := (dg_iff9 (by decide)).mp c_1
    have eg1 : at0 + dgn (pcode rf L at0) 0 6 = at0 := by rw [dgn, if_neg (by rw [d1]; decide), Nat.add_zero]
    refine lv_bipush (v := (-9)) hx hb dX0_readSet_15 (by decide) ?_
    exact W.iret (v := (-9)) hx hb hr (fun t ht hW => ⟨⟨(-9), ((upd g 6 (nI (at0 + dgn (pcode rf L at0) 0 6))), a), rfl, ⟨(by rw [rsV, if_neg (by rw [rsOk, d1, Bool.false_and]; decide)]), (by rw [eg1, rsN, if_neg (by rw [d1]; decide)])⟩, by rw [ht]; exact hP, va_K.moved hW.alike hK, hD⟩, hS.F ht⟩) hS.2.2 dX0_readSet_17
set_option maxHeartbeats 4000000 in
set_option maxRecDepth 100000 in
theorem metX0_readPerson (l : Launch) (dC : Nat → ClassId) (dI : Nat → Nat → Nat) (ct : Nat → ClassId) (A : Nat → Prop) (ex : va_W) (o : Nat) (q : Nat → Nat) (ql qs : Nat) (md : Int32) (qe n : Nat) (y : Nat → Nat) (g : Nat → Int32) (a : Nat → Nat → Int32)  (rp rq L : Nat) (rf : Nat → Int32) (at0 mm : Nat) (hrp : ex[rp]? = some (rq, .inl (ct 0, L, .inl rf))) (hL : L ≤ 61) (hat : at0 ≤ L) (hg6 : g 6 = nI at0) (hm6 : mm < 6) (hg7 : g 7 = nI mm) : Met l yX0_readPerson (ws_ yX0_readPerson cX0_readPerson 3 (some .boolean)) ({ frames := 3, cells := 0, slots := 0, locals := 71 }) (gPre dC dI ct A ex o q (ql, qs, md, qe, n) y g a [.ref o, .ref rq]) (va_Qi (fun (r : Int32) (u : (Nat → Int32) × (Nat → Nat → Int32)) => r = (b2i (pPerson rf L at0).1) ∧ ∃ (K1 : Nat → Int32), ∃ (K2 : Nat → Int32), ∃ (K3 : Nat → Int32), ∃ (K4 : Nat → Int32), ∃ (mv : Int32), ∃ (hRd : rdP (pPerson rf L at0) mm (a 8) (a 9) (a 10) (a 11) K1 K2 K3 K4 mv), u = ((upd (upd g 6 (nI (pPerson rf L at0).2.1)) 7 mv), (va_up (va_up (va_up (va_up a 8 K1) 9 K2) 10 K3) 11 K4))) (gB dC dI ct A ex o q (ql, qs, md, qe, n) y) A) 0 0 A := by
  refine Met.ofW (cc := cX0_readPerson) (maxL := 3) (ret := (some .boolean)) (by decide) rfl ?_
  intro p e s m args below meth c s₁ B hml hv
  obtain ⟨rfl, hP, hK, hD, hE⟩ := hv
  have hx := B.exec
  have hb := B.bytes
  have hr := B.returns
  have hts := atoms_spec (ws := ws_ yX0_readPerson cX0_readPerson 3 (some .boolean)) B.pre
  have hts : ∀ w ∈ lw_all, w.before _ s = true := fun w h => hts w (List.mem_cons_of_mem _ h)
  have hown : s.vm.findClass RX0 = some m.cls := findClass_of_methodNamed B.named
  have hlocks := B.notSynchronized
  have hS : va_S A s.heap s.heap [] := va_S.rf
  have hl := lv_entry ([.ref o, .ref rq]) (n := 3) (Nat.le_of_ble_eq_true rfl)
  rw [lg_entry_eq]
  generalize (lg_sl ([.ref o, .ref rq]) ++ List.replicate (3 - (lg_sl ([.ref o, .ref rq])).length) Slot.unset).toArray = ls at hl ⊢
  have hl : lv_has ls 3 [(0, .ref o), (1, .ref rq)] := hl
  refine lv_aload_n hx hb dX0_readPerson_0 rfl (lv_at hl 0 rfl) ?_
  refine g_get (v := .int (g 7)) hx hb hts hown hK hP 6 (by decide) rfl q152 rfl dX0_readPerson_1 ?_
  refine lv_istore_n (lv' := [(2, .int (g 7)), (0, .ref o), (1, .ref rq)]) hx hb dX0_readPerson_4 rfl hl (by decide) rfl (fun ls hl => ?_)
  refine lv_aload_n hx hb dX0_readPerson_5 rfl (lv_at hl 1 rfl) ?_
  refine g_get (v := .ref (q 8)) hx hb hts hown hK hP 7 (by decide) rfl q153 rfl dX0_readPerson_6 ?_
  refine lv_iload_n hx hb dX0_readPerson_9 rfl (lv_at hl 0 rfl) ?_
  refine lv_aload_n hx hb dX0_readPerson_10 rfl (lv_at hl 1 rfl) ?_
  refine lv_aload_n hx hb dX0_readPerson_11 rfl (lv_at hl 2 rfl) ?_
  refine lv_bipush (v := 99) hx hb dX0_readPerson_12 (by decide) ?_
  refine va_calli (va_runV (As := [.ref rq, .int 99]) (rest := [.int (g 7), .ref (q 8)]) ⟨hx, hb, hml, hown, hts⟩ (metX0_isSign l dC dI ct A ex o q ql qs md qe n y g a 99 rp rq L rf at0 hrp hL hat hg6 (by decide)) (cwV 2 hts (lw_V q420 q422 qs4 q69 q423) rfl rfl rfl (by decide +kernel) ⟨Nat.le_of_ble_eq_true rfl, Nat.le_of_ble_eq_true rfl⟩) (gPV hK hP hD hE _) rfl rfl hl.1 rfl (lv_room (Nat.le_of_ble_eq_true rfl)) dX0_readPerson_14 ⟨Nat.zero_le _, Nat.zero_le _⟩) hS (fun q _ h => h) (fun q h => h) (fun r u t H1 locs ht hvm hw hB hz1 hk1 hS => ?_)
  obtain ⟨hw, hw2⟩ := hw
  have hw : r = (b2i (sgV rf L at0 99)) := hw
  subst hw
  subst hw2
  obtain ⟨hP, -, hD⟩ := hB
  rw [ht] at hP
  generalize H1 = H at hP hS ⊢
  have hP : va_P (dC, dI) clA (xG ct o q (ql, qs, md, qe, n) y (upd g 6 (nI (sgN rf L at0 99))) a ex) H := hP
  have hD : va_D A (xG ct o q (ql, qs, md, qe, n) y (upd g 6 (nI (sgN rf L at0 99))) a ex) := hD
  refine bz_eq (tgt := 24) hx hb dX0_readPerson_17 (by decide) (fun c_1 => ?_) (fun c_1 => ?_)
  · skip
    have q1 : ¬ pcode rf L at0 = 99 := of_decide_eq_false c_1
    have eg21 : sgN rf L at0 99 = at0 := sgN_f q1
    rw [eg21] at hP hD
    refine lv_aload_n hx hb dX0_readPerson_24 rfl (lv_at hl 1 rfl) ?_
    refine lv_aload_n hx hb dX0_readPerson_25 rfl (lv_at hl 2 rfl) ?_
    refine lv_bipush (v := 115) hx hb dX0_readPerson_26 (by decide) ?_
    refine va_calli (va_runV (As := [.ref rq, .int 115]) (rest := [.int (g 7), .ref (q 8)]) ⟨hx, hb, hml, hown, hts⟩ (metX0_isSign l dC dI ct A ex o q ql qs md qe n y (upd g 6 (nI at0)) a 115 rp rq L rf at0 hrp hL hat rfl (by decide)) (cwV 2 hts (lw_V q420 q422 qs4 q69 q423) rfl rfl rfl (by decide +kernel) ⟨Nat.le_of_ble_eq_true rfl, Nat.le_of_ble_eq_true rfl⟩) (gPV hK hP hD hE _) rfl rfl hl.1 rfl (lv_room (Nat.le_of_ble_eq_true rfl)) dX0_readPerson_28 ⟨Nat.zero_le _, Nat.zero_le _⟩) hS (fun q _ h => h) (fun q h => h) (fun r u t H1 locs ht hvm hw hB hz1 hk1 hS => ?_)
    obtain ⟨hw, hw2⟩ := hw
    have hw : r = (b2i (sgV rf L at0 115)) := hw
    subst hw
    subst hw2
    obtain ⟨hP, -, hD⟩ := hB
    rw [ht] at hP
    generalize H1 = H at hP hS ⊢
    have hP : va_P (dC, dI) clA (xG ct o q (ql, qs, md, qe, n) y (upd g 6 (nI (sgN rf L at0 115))) a ex) H := hP
    have hD : va_D A (xG ct o q (ql, qs, md, qe, n) y (upd g 6 (nI (sgN rf L at0 115))) a ex) := hD
    refine bz_eq (tgt := 38) hx hb dX0_readPerson_31 (by decide) (fun c_2 => ?_) (fun c_2 => ?_)
    · skip
      have q2 : ¬ pcode rf L at0 = 115 := of_decide_eq_false c_2
      have eg22 : sgN rf L at0 115 = at0 := sgN_f q2
      rw [eg22] at hP hD
      refine lv_aload_n hx hb dX0_readPerson_38 rfl (lv_at hl 1 rfl) ?_
      refine lv_aload_n hx hb dX0_readPerson_39 rfl (lv_at hl 2 rfl) ?_
      refine lv_bipush (v := 116) hx hb dX0_readPerson_40 (by decide) ?_
      refine va_calli (va_runV (As := [.ref rq, .int 116]) (rest := [.int (g 7), .ref (q 8)]) ⟨hx, hb, hml, hown, hts⟩ (metX0_isSign l dC dI ct A ex o q ql qs md qe n y (upd g 6 (nI at0)) a 116 rp rq L rf at0 hrp hL hat rfl (by decide)) (cwV 2 hts (lw_V q420 q422 qs4 q69 q423) rfl rfl rfl (by decide +kernel) ⟨Nat.le_of_ble_eq_true rfl, Nat.le_of_ble_eq_true rfl⟩) (gPV hK hP hD hE _) rfl rfl hl.1 rfl (lv_room (Nat.le_of_ble_eq_true rfl)) dX0_readPerson_42 ⟨Nat.zero_le _, Nat.zero_le _⟩) hS (fun q _ h => h) (fun q h => h) (fun r u t H1 locs ht hvm hw hB hz1 hk1 hS => ?_)
      obtain ⟨hw, hw2⟩ := hw
      have hw : r = (b2i (sgV rf L at0 116)) := hw
      subst hw
      subst hw2
      obtain ⟨hP, -, hD⟩ := hB
      rw [ht] at hP
      generalize H1 = H at hP hS ⊢
      have hP : va_P (dC, dI) clA (xG ct o q (ql, qs, md, qe, n) y (upd g 6 (nI (sgN rf L at0 116))) a ex) H := hP
      have hD : va_D A (xG ct o q (ql, qs, md, qe, n) y (upd g 6 (nI (sgN rf L at0 116))) a ex) := hD
      refine bz_eq (tgt := 52) hx hb dX0_readPerson_45 (by decide) (fun c_3 => ?_) (fun c_3 => ?_)
      · skip
        have q3 : ¬ pcode rf L at0 = 116 := of_decide_eq_false c_3
        have eg23 : sgN rf L at0 116 = at0 := sgN_f q3
        rw [eg23] at hP hD
        refine lv_bipush (v := (-9)) hx hb dX0_readPerson_52 (by decide) ?_
        refine g_ist (x := (-9)) hx hb hK hP hD hS (gWa8 _ _ _ _ _ _ _ _ _ _ _ _) (gWs8 _ _ _ _ _ _ _ _ _ _ _ _) (a 8) rfl mm hg7 (by omega) (by decide) dX0_readPerson_54 (fun H locs hP hD hS => ?_)
        refine lv_aload_n hx hb dX0_readPerson_55 rfl (lv_at hl 1 rfl) ?_
        refine g_get (v := .ref (q 8)) hx hb hts hown hK hP 7 (by decide) rfl q153 rfl dX0_readPerson_56 ?_
        refine lv_iload_n hx hb dX0_readPerson_59 rfl (lv_at hl 0 rfl) ?_
        refine g_ild hx hb hK hP (gWa8 _ _ _ _ _ _ _ _ _ _ _ _) (upd (a 8) mm (-9)) rfl mm hg7 (by omega) (by decide) dX0_readPerson_60 ?_
        refine lv_topi (fun z_4 ez_4 => ?_)
        have ez_4 : z_4 = (-9) := ez_4.trans (upd_s _ _ _)
        subst ez_4
        refine lv_bipush (v := (-9)) hx hb dX0_readPerson_61 (by decide) ?_
        refine lv_icmp_ne (tgt := 68) hx hb dX0_readPerson_63 (by decide) (fun c_5 => ?_) (fun c_5 => ?_)
        · skip
          exact absurd c_5 (by decide)
        · skip
          refine lv_iconst (v := 0) hx hb dX0_readPerson_66 (by decide) ?_
          have eP : pPerson rf L at0 = (false, at0, 0, 0, 0, 0) := pP_0 (fun z => by rcases z with z | z | z; exact q1 z; exact q2 z; exact q3 z)
          exact W.zret (v := 0) hx hb hr rfl (fun t ht hW => ⟨⟨0, ((upd g 6 (nI at0)), (va_up a 8 (upd (a 8) mm (-9)))), rfl, ⟨(by rw [eP]; rfl), ⟨_, _, _, _, _, rdP_f eP, by rw [eP]; exact rp_id hg7 _ a _⟩⟩, by rw [ht]; exact hP, va_K.moved hW.alike hK, hD⟩, hS.F ht⟩) hS.2.2 dX0_readPerson_67
      · skip
        have q3 : pcode rf L at0 = 116 := of_decide_eq_true c_3
        have hl9 : (pcode rf L at0 = 99 ∨ pcode rf L at0 = 115 ∨ pcode rf L at0 = 116) := Or.inr (Or.inr q3)
        have eg9 : sgN rf L at0 116 = at0 + 1 := sgN_t q3
        rw [eg9] at hP hD
        have hat1 : at0 + 1 ≤ L := sg_lt (by decide) q3
        refine lv_iconst (v := 2) hx hb dX0_readPerson_48 (by decide) ?_
        refine lv_goto (tgt := 54) hx hb dX0_readPerson_49 (by decide) ?_
        refine g_ist (x := 2) hx hb hK hP hD hS (gWa8 _ _ _ _ _ _ _ _ _ _ _ _) (gWs8 _ _ _ _ _ _ _ _ _ _ _ _) (a 8) rfl mm hg7 (by omega) (by decide) dX0_readPerson_54 (fun H locs hP hD hS => ?_)
        refine lv_aload_n hx hb dX0_readPerson_55 rfl (lv_at hl 1 rfl) ?_
        refine g_get (v := .ref (q 8)) hx hb hts hown hK hP 7 (by decide) rfl q153 rfl dX0_readPerson_56 ?_
        refine lv_iload_n hx hb dX0_readPerson_59 rfl (lv_at hl 0 rfl) ?_
        refine g_ild hx hb hK hP (gWa8 _ _ _ _ _ _ _ _ _ _ _ _) (upd (a 8) mm 2) rfl mm hg7 (by omega) (by decide) dX0_readPerson_60 ?_
        refine lv_topi (fun z_6 ez_6 => ?_)
        have ez_6 : z_6 = 2 := ez_6.trans (upd_s _ _ _)
        subst ez_6
        refine lv_bipush (v := (-9)) hx hb dX0_readPerson_61 (by decide) ?_
        refine lv_icmp_ne (tgt := 68) hx hb dX0_readPerson_63 (by decide) (fun c_7 => ?_) (fun c_7 => ?_)
        · skip
          refine lv_aload_n hx hb dX0_readPerson_68 rfl (lv_at hl 1 rfl) ?_
          refine g_get (v := .ref (q 9)) hx hb hts hown hK hP 8 (by decide) rfl q155 rfl dX0_readPerson_69 ?_
          refine lv_iload_n hx hb dX0_readPerson_72 rfl (lv_at hl 0 rfl) ?_
          refine lv_aload_n hx hb dX0_readPerson_73 rfl (lv_at hl 1 rfl) ?_
          refine lv_aload_n hx hb dX0_readPerson_74 rfl (lv_at hl 2 rfl) ?_
          refine va_calli (va_runV (As := [.ref rq]) (rest := [.int (g 7), .ref (q 9)]) ⟨hx, hb, hml, hown, hts⟩ (metX0_readSet l dC dI ct A ex o q ql qs md qe n y (upd g 6 (nI (at0 + 1))) (va_up a 8 (upd (a 8) mm 2))  rp rq L rf (at0 + 1) hrp hL hat1 rfl) (cwV 1 hts (lw_V q428 q430 qs6 q69 q431) rfl rfl rfl (by decide +kernel) ⟨Nat.le_of_ble_eq_true rfl, Nat.le_of_ble_eq_true rfl⟩) (gPV hK hP hD hE _) rfl rfl hl.1 rfl (lv_room (Nat.le_of_ble_eq_true rfl)) dX0_readPerson_75 ⟨Nat.zero_le _, Nat.zero_le _⟩) hS (fun q _ h => h) (fun q h => h) (fun r u t H1 locs ht hvm hw hB hz1 hk1 hS => ?_)
          obtain ⟨hw, hw2⟩ := hw
          have hw : r = (rsV rf L (at0 + 1)) := hw
          subst hw
          subst hw2
          obtain ⟨hP, -, hD⟩ := hB
          rw [ht] at hP
          generalize H1 = H at hP hS ⊢
          have hP : va_P (dC, dI) clA (xG ct o q (ql, qs, md, qe, n) y (upd g 6 (nI (rsN rf L (at0 + 1)))) (va_up a 8 (upd (a 8) mm 2)) ex) H := hP
          have hD : va_D A (xG ct o q (ql, qs, md, qe, n) y (upd g 6 (nI (rsN rf L (at0 + 1)))) (va_up a 8 (upd (a 8) mm 2)) ex) := hD
          refine g_ist (x := (rsV rf L (at0 + 1))) hx hb hK hP hD hS (gWa9 _ _ _ _ _ _ _ _ _ _ _ _) (gWs9 _ _ _ _ _ _ _ _ _ _ _ _) (a 9) rfl mm hg7 (by omega) (by decide) dX0_readPerson_78 (fun H locs hP hD hS => ?_)
          refine lv_aload_n hx hb dX0_readPerson_79 rfl (lv_at hl 1 rfl) ?_
          refine g_get (v := .ref (q 9)) hx hb hts hown hK hP 8 (by decide) rfl q155 rfl dX0_readPerson_80 ?_
          refine lv_iload_n hx hb dX0_readPerson_83 rfl (lv_at hl 0 rfl) ?_
          refine g_ild hx hb hK hP (gWa9 _ _ _ _ _ _ _ _ _ _ _ _) (upd (a 9) mm (rsV rf L (at0 + 1))) rfl mm hg7 (by omega) (by decide) dX0_readPerson_84 ?_
          refine lv_topi (fun z_8 ez_8 => ?_)
          have ez_8 : z_8 = (rsV rf L (at0 + 1)) := ez_8.trans (upd_s _ _ _)
          subst ez_8
          refine lv_bipush (v := (-9)) hx hb dX0_readPerson_85 (by decide) ?_
          refine lv_icmp_ne (tgt := 92) hx hb dX0_readPerson_87 (by decide) (fun c_9 => ?_) (fun c_9 => ?_)
          · skip
            skip
            have o2 : rsOk rf L (at0 + 1) = true := by cases z9 : rsOk rf L (at0 + 1) with | true => rfl | false => exact absurd (rsV_9.mpr z9) c_9
            have eg2 : rsN rf L (at0 + 1) = at0 + 3 := rsN_t o2
            rw [eg2] at hP hD
            have hat3 : at0 + 3 ≤ L := rs_lt o2
            refine lv_aload_n hx hb dX0_readPerson_92 rfl (lv_at hl 1 rfl) ?_
            refine g_get (v := .ref (q 10)) hx hb hts hown hK hP 9 (by decide) rfl q157 rfl dX0_readPerson_93 ?_
            refine lv_iload_n hx hb dX0_readPerson_96 rfl (lv_at hl 0 rfl) ?_
            refine lv_aload_n hx hb dX0_readPerson_97 rfl (lv_at hl 1 rfl) ?_
            refine lv_aload_n hx hb dX0_readPerson_98 rfl (lv_at hl 2 rfl) ?_
            refine lv_iconst (v := 0) hx hb dX0_readPerson_99 (by decide) ?_
            refine lv_bipush (v := 6) hx hb dX0_readPerson_100 (by decide) ?_
            refine va_calli (va_runV (As := [.ref rq, .int 0, .int 6]) (rest := [.int (g 7), .ref (q 10)]) ⟨hx, hb, hml, hown, hts⟩ (metX0_digit l dC dI ct A ex o q ql qs md qe n y (upd g 6 (nI (at0 + 3))) (va_up (va_up a 8 (upd (a 8) mm 2)) 9 (upd (a 9) mm (rsV rf L (at0 + 1)))) 0 6 rp rq L rf (at0 + 3) hrp hL hat3 rfl (by decide) (by decide)) (cwV 3 hts (lw_V q432 q434 qs7 q69 q435) rfl rfl rfl (by decide +kernel) ⟨Nat.le_of_ble_eq_true rfl, Nat.le_of_ble_eq_true rfl⟩) (gPV hK hP hD hE _) rfl rfl hl.1 rfl (lv_room (Nat.le_of_ble_eq_true rfl)) dX0_readPerson_102 ⟨Nat.zero_le _, Nat.zero_le _⟩) hS (fun q _ h => h) (fun q h => h) (fun r u t H1 locs ht hvm hw hB hz1 hk1 hS => ?_)
            obtain ⟨hw, hw2⟩ := hw
            have hw : r = (dgv (pcode rf L (at0 + 3)) 0 6) := hw
            subst hw
            subst hw2
            obtain ⟨hP, -, hD⟩ := hB
            rw [ht] at hP
            generalize H1 = H at hP hS ⊢
            have hP : va_P (dC, dI) clA (xG ct o q (ql, qs, md, qe, n) y (upd g 6 (nI (at0 + 3 + dgn (pcode rf L (at0 + 3)) 0 6))) (va_up (va_up a 8 (upd (a 8) mm 2)) 9 (upd (a 9) mm (rsV rf L (at0 + 1)))) ex) H := hP
            have hD : va_D A (xG ct o q (ql, qs, md, qe, n) y (upd g 6 (nI (at0 + 3 + dgn (pcode rf L (at0 + 3)) 0 6))) (va_up (va_up a 8 (upd (a 8) mm 2)) 9 (upd (a 9) mm (rsV rf L (at0 + 1)))) ex) := hD
            refine g_ist (x := (dgv (pcode rf L (at0 + 3)) 0 6)) hx hb hK hP hD hS (gWa10 _ _ _ _ _ _ _ _ _ _ _ _) (gWs10 _ _ _ _ _ _ _ _ _ _ _ _) (a 10) rfl mm hg7 (by omega) (by decide) dX0_readPerson_105 (fun H locs hP hD hS => ?_)
            refine lv_aload_n hx hb dX0_readPerson_106 rfl (lv_at hl 1 rfl) ?_
            refine g_get (v := .ref (q 10)) hx hb hts hown hK hP 9 (by decide) rfl q157 rfl dX0_readPerson_107 ?_
            refine lv_iload_n hx hb dX0_readPerson_110 rfl (lv_at hl 0 rfl) ?_
            refine g_ild hx hb hK hP (gWa10 _ _ _ _ _ _ _ _ _ _ _ _) (upd (a 10) mm (dgv (pcode rf L (at0 + 3)) 0 6)) rfl mm hg7 (by omega) (by decide) dX0_readPerson_111 ?_
            refine lv_topi (fun z_10 ez_10 => ?_)
            have ez_10 : z_10 = (dgv (pcode rf L (at0 + 3)) 0 6) := ez_10.trans (upd_s _ _ _)
            subst ez_10
            refine lv_bipush (v := (-9)) hx hb dX0_readPerson_112 (by decide) ?_
            refine lv_icmp_ne (tgt := 119) hx hb dX0_readPerson_114 (by decide) (fun c_11 => ?_) (fun c_11 => ?_)
            · skip
              skip
              have o3 : dgok (pcode rf L (at0 + 3)) 0 6 = true := by cases z9 : dgok (pcode rf L (at0 + 3)) 0 6 with | true => rfl | false => exact absurd (dg_is9 z9) c_11
              have eh3 : at0 + 3 + dgn (pcode rf L (at0 + 3)) 0 6 = at0 + 4 := by rw [dgn, if_pos o3]
              rw [eh3] at hP hD
              refine lv_aload_n hx hb dX0_readPerson_119 rfl (lv_at hl 1 rfl) ?_
              refine g_get (v := .ref (q 11)) hx hb hts hown hK hP 10 (by decide) rfl q159 rfl dX0_readPerson_120 ?_
              refine lv_iload_n hx hb dX0_readPerson_123 rfl (lv_at hl 0 rfl) ?_
              refine lv_aload_n hx hb dX0_readPerson_124 rfl (lv_at hl 1 rfl) ?_
              refine lv_aload_n hx hb dX0_readPerson_125 rfl (lv_at hl 2 rfl) ?_
              refine lv_iconst (v := 1) hx hb dX0_readPerson_126 (by decide) ?_
              refine lv_bipush (v := 9) hx hb dX0_readPerson_127 (by decide) ?_
              refine va_calli (va_runV (As := [.ref rq, .int 1, .int 9]) (rest := [.int (g 7), .ref (q 11)]) ⟨hx, hb, hml, hown, hts⟩ (metX0_digit l dC dI ct A ex o q ql qs md qe n y (upd g 6 (nI (at0 + 4))) (va_up (va_up (va_up a 8 (upd (a 8) mm 2)) 9 (upd (a 9) mm (rsV rf L (at0 + 1)))) 10 (upd (a 10) mm (dgv (pcode rf L (at0 + 3)) 0 6))) 1 9 rp rq L rf (at0 + 4) hrp hL (dg_lt1 (by decide) o3) rfl (by decide) (by decide)) (cwV 3 hts (lw_V q432 q434 qs7 q69 q435) rfl rfl rfl (by decide +kernel) ⟨Nat.le_of_ble_eq_true rfl, Nat.le_of_ble_eq_true rfl⟩) (gPV hK hP hD hE _) rfl rfl hl.1 rfl (lv_room (Nat.le_of_ble_eq_true rfl)) dX0_readPerson_129 ⟨Nat.zero_le _, Nat.zero_le _⟩) hS (fun q _ h => h) (fun q h => h) (fun r u t H1 locs ht hvm hw hB hz1 hk1 hS => ?_)
              obtain ⟨hw, hw2⟩ := hw
              have hw : r = (dgv (pcode rf L (at0 + 4)) 1 9) := hw
              subst hw
              subst hw2
              obtain ⟨hP, -, hD⟩ := hB
              rw [ht] at hP
              generalize H1 = H at hP hS ⊢
              have hP : va_P (dC, dI) clA (xG ct o q (ql, qs, md, qe, n) y (upd g 6 (nI (at0 + 4 + dgn (pcode rf L (at0 + 4)) 1 9))) (va_up (va_up (va_up a 8 (upd (a 8) mm 2)) 9 (upd (a 9) mm (rsV rf L (at0 + 1)))) 10 (upd (a 10) mm (dgv (pcode rf L (at0 + 3)) 0 6))) ex) H := hP
              have hD : va_D A (xG ct o q (ql, qs, md, qe, n) y (upd g 6 (nI (at0 + 4 + dgn (pcode rf L (at0 + 4)) 1 9))) (va_up (va_up (va_up a 8 (upd (a 8) mm 2)) 9 (upd (a 9) mm (rsV rf L (at0 + 1)))) 10 (upd (a 10) mm (dgv (pcode rf L (at0 + 3)) 0 6))) ex) := hD
              refine g_ist (x := (dgv (pcode rf L (at0 + 4)) 1 9)) hx hb hK hP hD hS (gWa11 _ _ _ _ _ _ _ _ _ _ _ _) (gWs11 _ _ _ _ _ _ _ _ _ _ _ _) (a 11) rfl mm hg7 (by omega) (by decide) dX0_readPerson_132 (fun H locs hP hD hS => ?_)
              refine lv_aload_n hx hb dX0_readPerson_133 rfl (lv_at hl 1 rfl) ?_
              refine lv_dup hx hb dX0_readPerson_134 rfl ?_
              refine g_get (v := .int (g 7)) hx hb hts hown hK hP 6 (by decide) rfl q152 rfl dX0_readPerson_135 ?_
              refine lv_iconst (v := 1) hx hb dX0_readPerson_138 (by decide) ?_
              refine lv_iadd hx hb dX0_readPerson_139 ?_
              refine g_put (v := ((g 7) + 1)) hx hb hts hown hK hP hD hS 6 7 (by decide) rfl q152 rfl rfl (by decide +kernel) dX0_readPerson_140 (fun H locs hP hD hS => ?_)
              refine lv_aload_n hx hb dX0_readPerson_143 rfl (lv_at hl 1 rfl) ?_
              refine g_get (v := .ref (q 11)) hx hb hts hown hK hP 10 (by decide) rfl q159 rfl dX0_readPerson_144 ?_
              refine lv_iload_n hx hb dX0_readPerson_147 rfl (lv_at hl 0 rfl) ?_
              refine g_ild hx hb hK hP (gWa11 _ _ _ _ _ _ _ _ _ _ _ _) (upd (a 11) mm (dgv (pcode rf L (at0 + 4)) 1 9)) rfl mm hg7 (by omega) (by decide) dX0_readPerson_148 ?_
              refine lv_topi (fun z_12 ez_12 => ?_)
              have ez_12 : z_12 = (dgv (pcode rf L (at0 + 4)) 1 9) := ez_12.trans (upd_s _ _ _)
              subst ez_12
              refine lv_bipush (v := (-9)) hx hb dX0_readPerson_149 (by decide) ?_
              refine lv_icmp_eq (tgt := 158) hx hb dX0_readPerson_151 (by decide) (fun c_13 => ?_) (fun c_13 => ?_)
              · skip
                skip
                have o4 : dgok (pcode rf L (at0 + 4)) 1 9 = false := (dg_iff9 (by decide)).mp c_13
                have eh4 : at0 + 4 + dgn (pcode rf L (at0 + 4)) 1 9 = at0 + 4 := by rw [dgn, if_neg (by rw [o4]; decide), Nat.add_zero]
                rw [eh4] at hP hD
                refine lv_iconst (v := 0) hx hb dX0_readPerson_158 (by decide) ?_
                have eP := pp_rs4 hl9 o2 o3 o4
                exact W.zret (v := 0) hx hb hr rfl (fun t ht hW => ⟨⟨0, ((upd (upd g 6 (nI (at0 + 4))) 7 ((g 7) + 1)), (va_up (va_up (va_up (va_up a 8 (upd (a 8) mm 2)) 9 (upd (a 9) mm (rsV rf L (at0 + 1)))) 10 (upd (a 10) mm (dgv (pcode rf L (at0 + 3)) 0 6))) 11 (upd (a 11) mm (dgv (pcode rf L (at0 + 4)) 1 9)))), rfl, ⟨(by rw [eP]; rfl), ⟨_, _, _, _, _, rdP_f eP, by rw [eP]⟩⟩, by rw [ht]; exact hP, va_K.moved hW.alike hK, hD⟩, hS.F ht⟩) hS.2.2 dX0_readPerson_159
              · skip
                skip
                have o4 : dgok (pcode rf L (at0 + 4)) 1 9 = true := by cases z9 : dgok (pcode rf L (at0 + 4)) 1 9 with | true => rfl | false => exact absurd (dg_is9 z9) c_13
                have eh4 : at0 + 4 + dgn (pcode rf L (at0 + 4)) 1 9 = at0 + 5 := by rw [dgn, if_pos o4]
                rw [eh4] at hP hD
                refine lv_iconst (v := 1) hx hb dX0_readPerson_154 (by decide) ?_
                refine lv_goto (tgt := 159) hx hb dX0_readPerson_155 (by decide) ?_
                have eP := pp_rs5 hl9 o2 o3 o4 (k := 2) ((if_neg q1).trans (if_neg q2))
                exact W.zret (v := 1) hx hb hr rfl (fun t ht hW => ⟨⟨1, ((upd (upd g 6 (nI (at0 + 5))) 7 ((g 7) + 1)), (va_up (va_up (va_up (va_up a 8 (upd (a 8) mm 2)) 9 (upd (a 9) mm (rsV rf L (at0 + 1)))) 10 (upd (a 10) mm (dgv (pcode rf L (at0 + 3)) 0 6))) 11 (upd (a 11) mm (dgv (pcode rf L (at0 + 4)) 1 9)))), rfl, ⟨(by rw [eP]; rfl), ⟨_, _, _, _, (g 7 + 1), rdP_t eP (by rw [hg7]; exact nI_1 mm), by rw [eP]⟩⟩, by rw [ht]; exact hP, va_K.moved hW.alike hK, hD⟩, hS.F ht⟩) hS.2.2 dX0_readPerson_159
            · skip
              skip
              have o3 : dgok (pcode rf L (at0 + 3)) 0 6 = false := (dg_iff9 (by decide)).mp c_11
              have eh3 : at0 + 3 + dgn (pcode rf L (at0 + 3)) 0 6 = at0 + 3 := by rw [dgn, if_neg (by rw [o3]; decide), Nat.add_zero]
              rw [eh3] at hP hD
              refine lv_iconst (v := 0) hx hb dX0_readPerson_117 (by decide) ?_
              have eP := pp_rs3 hl9 o2 o3
              exact W.zret (v := 0) hx hb hr rfl (fun t ht hW => ⟨⟨0, ((upd g 6 (nI (at0 + 3))), (va_up (va_up (va_up a 8 (upd (a 8) mm 2)) 9 (upd (a 9) mm (rsV rf L (at0 + 1)))) 10 (upd (a 10) mm (dgv (pcode rf L (at0 + 3)) 0 6)))), rfl, ⟨(by rw [eP]; rfl), ⟨_, _, _, _, _, rdP_f eP, by rw [eP]; exact rp_id3 hg7 _ a _ _ _⟩⟩, by rw [ht]; exact hP, va_K.moved hW.alike hK, hD⟩, hS.F ht⟩) hS.2.2 dX0_readPerson_118
          · skip
            skip
            have o2 : rsOk rf L (at0 + 1) = false := rsV_9.mp c_9
            refine lv_iconst (v := 0) hx hb dX0_readPerson_90 (by decide) ?_
            have eP := pp_rs0 hl9 o2
            exact W.zret (v := 0) hx hb hr rfl (fun t ht hW => ⟨⟨0, ((upd g 6 (nI (rsN rf L (at0 + 1)))), (va_up (va_up a 8 (upd (a 8) mm 2)) 9 (upd (a 9) mm (rsV rf L (at0 + 1))))), rfl, ⟨(by rw [eP]; rfl), ⟨_, _, _, _, _, rdP_f eP, by rw [eP]; exact rp_id2 hg7 _ a _ _⟩⟩, by rw [ht]; exact hP, va_K.moved hW.alike hK, hD⟩, hS.F ht⟩) hS.2.2 dX0_readPerson_91
        · skip
          exact absurd c_7 (by decide)
    · skip
      have q2 : pcode rf L at0 = 115 := of_decide_eq_true c_2
      have hl9 : (pcode rf L at0 = 99 ∨ pcode rf L at0 = 115 ∨ pcode rf L at0 = 116) := Or.inr (Or.inl q2)
      have eg9 : sgN rf L at0 115 = at0 + 1 := sgN_t q2
      rw [eg9] at hP hD
      have hat1 : at0 + 1 ≤ L := sg_lt (by decide) q2
      refine lv_iconst (v := 1) hx hb dX0_readPerson_34 (by decide) ?_
      refine lv_goto (tgt := 54) hx hb dX0_readPerson_35 (by decide) ?_
      refine g_ist (x := 1) hx hb hK hP hD hS (gWa8 _ _ _ _ _ _ _ _ _ _ _ _) (gWs8 _ _ _ _ _ _ _ _ _ _ _ _) (a 8) rfl mm hg7 (by omega) (by decide) dX0_readPerson_54 (fun H locs hP hD hS => ?_)
      refine lv_aload_n hx hb dX0_readPerson_55 rfl (lv_at hl 1 rfl) ?_
      refine g_get (v := .ref (q 8)) hx hb hts hown hK hP 7 (by decide) rfl q153 rfl dX0_readPerson_56 ?_
      refine lv_iload_n hx hb dX0_readPerson_59 rfl (lv_at hl 0 rfl) ?_
      refine g_ild hx hb hK hP (gWa8 _ _ _ _ _ _ _ _ _ _ _ _) (upd (a 8) mm 1) rfl mm hg7 (by omega) (by decide) dX0_readPerson_60 ?_
      refine lv_topi (fun z_14 ez_14 => ?_)
      have ez_14 : z_14 = 1 := ez_14.trans (upd_s _ _ _)
      subst ez_14
      refine lv_bipush (v := (-9)) hx hb dX0_readPerson_61 (by decide) ?_
      refine lv_icmp_ne (tgt := 68) hx hb dX0_readPerson_63 (by decide) (fun c_15 => ?_) (fun c_15 => ?_)
      · skip
        refine lv_aload_n hx hb dX0_readPerson_68 rfl (lv_at hl 1 rfl) ?_
        refine g_get (v := .ref (q 9)) hx hb hts hown hK hP 8 (by decide) rfl q155 rfl dX0_readPerson_69 ?_
        refine lv_iload_n hx hb dX0_readPerson_72 rfl (lv_at hl 0 rfl) ?_
        refine lv_aload_n hx hb dX0_readPerson_73 rfl (lv_at hl 1 rfl) ?_
        refine lv_aload_n hx hb dX0_readPerson_74 rfl (lv_at hl 2 rfl) ?_
        refine va_calli (va_runV (As := [.ref rq]) (rest := [.int (g 7), .ref (q 9)]) ⟨hx, hb, hml, hown, hts⟩ (metX0_readSet l dC dI ct A ex o q ql qs md qe n y (upd g 6 (nI (at0 + 1))) (va_up a 8 (upd (a 8) mm 1))  rp rq L rf (at0 + 1) hrp hL hat1 rfl) (cwV 1 hts (lw_V q428 q430 qs6 q69 q431) rfl rfl rfl (by decide +kernel) ⟨Nat.le_of_ble_eq_true rfl, Nat.le_of_ble_eq_true rfl⟩) (gPV hK hP hD hE _) rfl rfl hl.1 rfl (lv_room (Nat.le_of_ble_eq_true rfl)) dX0_readPerson_75 ⟨Nat.zero_le _, Nat.zero_le _⟩) hS (fun q _ h => h) (fun q h => h) (fun r u t H1 locs ht hvm hw hB hz1 hk1 hS => ?_)
        obtain ⟨hw, hw2⟩ := hw
        have hw : r = (rsV rf L (at0 + 1)) := hw
        subst hw
        subst hw2
        obtain ⟨hP, -, hD⟩ := hB
        rw [ht] at hP
        generalize H1 = H at hP hS ⊢
        have hP : va_P (dC, dI) clA (xG ct o q (ql, qs, md, qe, n) y (upd g 6 (nI (rsN rf L (at0 + 1)))) (va_up a 8 (upd (a 8) mm 1)) ex) H := hP
        have hD : va_D A (xG ct o q (ql, qs, md, qe, n) y (upd g 6 (nI (rsN rf L (at0 + 1)))) (va_up a 8 (upd (a 8) mm 1)) ex) := hD
        refine g_ist (x := (rsV rf L (at0 + 1))) hx hb hK hP hD hS (gWa9 _ _ _ _ _ _ _ _ _ _ _ _) (gWs9 _ _ _ _ _ _ _ _ _ _ _ _) (a 9) rfl mm hg7 (by omega) (by decide) dX0_readPerson_78 (fun H locs hP hD hS => ?_)
        refine lv_aload_n hx hb dX0_readPerson_79 rfl (lv_at hl 1 rfl) ?_
        refine g_get (v := .ref (q 9)) hx hb hts hown hK hP 8 (by decide) rfl q155 rfl dX0_readPerson_80 ?_
        refine lv_iload_n hx hb dX0_readPerson_83 rfl (lv_at hl 0 rfl) ?_
        refine g_ild hx hb hK hP (gWa9 _ _ _ _ _ _ _ _ _ _ _ _) (upd (a 9) mm (rsV rf L (at0 + 1))) rfl mm hg7 (by omega) (by decide) dX0_readPerson_84 ?_
        refine lv_topi (fun z_16 ez_16 => ?_)
        have ez_16 : z_16 = (rsV rf L (at0 + 1)) := ez_16.trans (upd_s _ _ _)
        subst ez_16
        refine lv_bipush (v := (-9)) hx hb dX0_readPerson_85 (by decide) ?_
        refine lv_icmp_ne (tgt := 92) hx hb dX0_readPerson_87 (by decide) (fun c_17 => ?_) (fun c_17 => ?_)
        · skip
          skip
          have o2 : rsOk rf L (at0 + 1) = true := by cases z9 : rsOk rf L (at0 + 1) with | true => rfl | false => exact absurd (rsV_9.mpr z9) c_17
          have eg2 : rsN rf L (at0 + 1) = at0 + 3 := rsN_t o2
          rw [eg2] at hP hD
          have hat3 : at0 + 3 ≤ L := rs_lt o2
          refine lv_aload_n hx hb dX0_readPerson_92 rfl (lv_at hl 1 rfl) ?_
          refine g_get (v := .ref (q 10)) hx hb hts hown hK hP 9 (by decide) rfl q157 rfl dX0_readPerson_93 ?_
          refine lv_iload_n hx hb dX0_readPerson_96 rfl (lv_at hl 0 rfl) ?_
          refine lv_aload_n hx hb dX0_readPerson_97 rfl (lv_at hl 1 rfl) ?_
          refine lv_aload_n hx hb dX0_readPerson_98 rfl (lv_at hl 2 rfl) ?_
          refine lv_iconst (v := 0) hx hb dX0_readPerson_99 (by decide) ?_
          refine lv_bipush (v := 6) hx hb dX0_readPerson_100 (by decide) ?_
          refine va_calli (va_runV (As := [.ref rq, .int 0, .int 6]) (rest := [.int (g 7), .ref (q 10)]) ⟨hx, hb, hml, hown, hts⟩ (metX0_digit l dC dI ct A ex o q ql qs md qe n y (upd g 6 (nI (at0 + 3))) (va_up (va_up a 8 (upd (a 8) mm 1)) 9 (upd (a 9) mm (rsV rf L (at0 + 1)))) 0 6 rp rq L rf (at0 + 3) hrp hL hat3 rfl (by decide) (by decide)) (cwV 3 hts (lw_V q432 q434 qs7 q69 q435) rfl rfl rfl (by decide +kernel) ⟨Nat.le_of_ble_eq_true rfl, Nat.le_of_ble_eq_true rfl⟩) (gPV hK hP hD hE _) rfl rfl hl.1 rfl (lv_room (Nat.le_of_ble_eq_true rfl)) dX0_readPerson_102 ⟨Nat.zero_le _, Nat.zero_le _⟩) hS (fun q _ h => h) (fun q h => h) (fun r u t H1 locs ht hvm hw hB hz1 hk1 hS => ?_)
          obtain ⟨hw, hw2⟩ := hw
          have hw : r = (dgv (pcode rf L (at0 + 3)) 0 6) := hw
          subst hw
          subst hw2
          obtain ⟨hP, -, hD⟩ := hB
          rw [ht] at hP
          generalize H1 = H at hP hS ⊢
          have hP : va_P (dC, dI) clA (xG ct o q (ql, qs, md, qe, n) y (upd g 6 (nI (at0 + 3 + dgn (pcode rf L (at0 + 3)) 0 6))) (va_up (va_up a 8 (upd (a 8) mm 1)) 9 (upd (a 9) mm (rsV rf L (at0 + 1)))) ex) H := hP
          have hD : va_D A (xG ct o q (ql, qs, md, qe, n) y (upd g 6 (nI (at0 + 3 + dgn (pcode rf L (at0 + 3)) 0 6))) (va_up (va_up a 8 (upd (a 8) mm 1)) 9 (upd (a 9) mm (rsV rf L (at0 + 1)))) ex) := hD
          refine g_ist (x := (dgv (pcode rf L (at0 + 3)) 0 6)) hx hb hK hP hD hS (gWa10 _ _ _ _ _ _ _ _ _ _ _ _) (gWs10 _ _ _ _ _ _ _ _ _ _ _ _) (a 10) rfl mm hg7 (by omega) (by decide) dX0_readPerson_105 (fun H locs hP hD hS => ?_)
          refine lv_aload_n hx hb dX0_readPerson_106 rfl (lv_at hl 1 rfl) ?_
          refine g_get (v := .ref (q 10)) hx hb hts hown hK hP 9 (by decide) rfl q157 rfl dX0_readPerson_107 ?_
          refine lv_iload_n hx hb dX0_readPerson_110 rfl (lv_at hl 0 rfl) ?_
          refine g_ild hx hb hK hP (gWa10 _ _ _ _ _ _ _ _ _ _ _ _) (upd (a 10) mm (dgv (pcode rf L (at0 + 3)) 0 6)) rfl mm hg7 (by omega) (by decide) dX0_readPerson_111 ?_
          refine lv_topi (fun z_18 ez_18 => ?_)
          have ez_18 : z_18 = (dgv (pcode rf L (at0 + 3)) 0 6) := ez_18.trans (upd_s _ _ _)
          subst ez_18
          refine lv_bipush (v := (-9)) hx hb dX0_readPerson_112 (by decide) ?_
          refine lv_icmp_ne (tgt := 119) hx hb dX0_readPerson_114 (by decide) (fun c_19 => ?_) (fun c_19 => ?_)
          · skip
            skip
            have o3 : dgok (pcode rf L (at0 + 3)) 0 6 = true := by cases z9 : dgok (pcode rf L (at0 + 3)) 0 6 with | true => rfl | false => exact absurd (dg_is9 z9) c_19
            have eh3 : at0 + 3 + dgn (pcode rf L (at0 + 3)) 0 6 = at0 + 4 := by rw [dgn, if_pos o3]
            rw [eh3] at hP hD
            refine lv_aload_n hx hb dX0_readPerson_119 rfl (lv_at hl 1 rfl) ?_
            refine g_get (v := .ref (q 11)) hx hb hts hown hK hP 10 (by decide) rfl q159 rfl dX0_readPerson_120 ?_
            refine lv_iload_n hx hb dX0_readPerson_123 rfl (lv_at hl 0 rfl) ?_
            refine lv_aload_n hx hb dX0_readPerson_124 rfl (lv_at hl 1 rfl) ?_
            refine lv_aload_n hx hb dX0_readPerson_125 rfl (lv_at hl 2 rfl) ?_
            refine lv_iconst (v := 1) hx hb dX0_readPerson_126 (by decide) ?_
            refine lv_bipush (v := 9) hx hb dX0_readPerson_127 (by decide) ?_
            refine va_calli (va_runV (As := [.ref rq, .int 1, .int 9]) (rest := [.int (g 7), .ref (q 11)]) ⟨hx, hb, hml, hown, hts⟩ (metX0_digit l dC dI ct A ex o q ql qs md qe n y (upd g 6 (nI (at0 + 4))) (va_up (va_up (va_up a 8 (upd (a 8) mm 1)) 9 (upd (a 9) mm (rsV rf L (at0 + 1)))) 10 (upd (a 10) mm (dgv (pcode rf L (at0 + 3)) 0 6))) 1 9 rp rq L rf (at0 + 4) hrp hL (dg_lt1 (by decide) o3) rfl (by decide) (by decide)) (cwV 3 hts (lw_V q432 q434 qs7 q69 q435) rfl rfl rfl (by decide +kernel) ⟨Nat.le_of_ble_eq_true rfl, Nat.le_of_ble_eq_true rfl⟩) (gPV hK hP hD hE _) rfl rfl hl.1 rfl (lv_room (Nat.le_of_ble_eq_true rfl)) dX0_readPerson_129 ⟨Nat.zero_le _, Nat.zero_le _⟩) hS (fun q _ h => h) (fun q h => h) (fun r u t H1 locs ht hvm hw hB hz1 hk1 hS => ?_)
            obtain ⟨hw, hw2⟩ := hw
            have hw : r = (dgv (pcode rf L (at0 + 4)) 1 9) := hw
            subst hw
            subst hw2
            obtain ⟨hP, -, hD⟩ := hB
            rw [ht] at hP
            generalize H1 = H at hP hS ⊢
            have hP : va_P (dC, dI) clA (xG ct o q (ql, qs, md, qe, n) y (upd g 6 (nI (at0 + 4 + dgn (pcode rf L (at0 + 4)) 1 9))) (va_up (va_up (va_up a 8 (upd (a 8) mm 1)) 9 (upd (a 9) mm (rsV rf L (at0 + 1)))) 10 (upd (a 10) mm (dgv (pcode rf L (at0 + 3)) 0 6))) ex) H := hP
            have hD : va_D A (xG ct o q (ql, qs, md, qe, n) y (upd g 6 (nI (at0 + 4 + dgn (pcode rf L (at0 + 4)) 1 9))) (va_up (va_up (va_up a 8 (upd (a 8) mm 1)) 9 (upd (a 9) mm (rsV rf L (at0 + 1)))) 10 (upd (a 10) mm (dgv (pcode rf L (at0 + 3)) 0 6))) ex) := hD
            refine g_ist (x := (dgv (pcode rf L (at0 + 4)) 1 9)) hx hb hK hP hD hS (gWa11 _ _ _ _ _ _ _ _ _ _ _ _) (gWs11 _ _ _ _ _ _ _ _ _ _ _ _) (a 11) rfl mm hg7 (by omega) (by decide) dX0_readPerson_132 (fun H locs hP hD hS => ?_)
            refine lv_aload_n hx hb dX0_readPerson_133 rfl (lv_at hl 1 rfl) ?_
            refine lv_dup hx hb dX0_readPerson_134 rfl ?_
            refine g_get (v := .int (g 7)) hx hb hts hown hK hP 6 (by decide) rfl q152 rfl dX0_readPerson_135 ?_
            refine lv_iconst (v := 1) hx hb dX0_readPerson_138 (by decide) ?_
            refine lv_iadd hx hb dX0_readPerson_139 ?_
            refine g_put (v := ((g 7) + 1)) hx hb hts hown hK hP hD hS 6 7 (by decide) rfl q152 rfl rfl (by decide +kernel) dX0_readPerson_140 (fun H locs hP hD hS => ?_)
            refine lv_aload_n hx hb dX0_readPerson_143 rfl (lv_at hl 1 rfl) ?_
            refine g_get (v := .ref (q 11)) hx hb hts hown hK hP 10 (by decide) rfl q159 rfl dX0_readPerson_144 ?_
            refine lv_iload_n hx hb dX0_readPerson_147 rfl (lv_at hl 0 rfl) ?_
            refine g_ild hx hb hK hP (gWa11 _ _ _ _ _ _ _ _ _ _ _ _) (upd (a 11) mm (dgv (pcode rf L (at0 + 4)) 1 9)) rfl mm hg7 (by omega) (by decide) dX0_readPerson_148 ?_
            refine lv_topi (fun z_20 ez_20 => ?_)
            have ez_20 : z_20 = (dgv (pcode rf L (at0 + 4)) 1 9) := ez_20.trans (upd_s _ _ _)
            subst ez_20
            refine lv_bipush (v := (-9)) hx hb dX0_readPerson_149 (by decide) ?_
            refine lv_icmp_eq (tgt := 158) hx hb dX0_readPerson_151 (by decide) (fun c_21 => ?_) (fun c_21 => ?_)
            · skip
              skip
              have o4 : dgok (pcode rf L (at0 + 4)) 1 9 = false := (dg_iff9 (by decide)).mp c_21
              have eh4 : at0 + 4 + dgn (pcode rf L (at0 + 4)) 1 9 = at0 + 4 := by rw [dgn, if_neg (by rw [o4]; decide), Nat.add_zero]
              rw [eh4] at hP hD
              refine lv_iconst (v := 0) hx hb dX0_readPerson_158 (by decide) ?_
              have eP := pp_rs4 hl9 o2 o3 o4
              exact W.zret (v := 0) hx hb hr rfl (fun t ht hW => ⟨⟨0, ((upd (upd g 6 (nI (at0 + 4))) 7 ((g 7) + 1)), (va_up (va_up (va_up (va_up a 8 (upd (a 8) mm 1)) 9 (upd (a 9) mm (rsV rf L (at0 + 1)))) 10 (upd (a 10) mm (dgv (pcode rf L (at0 + 3)) 0 6))) 11 (upd (a 11) mm (dgv (pcode rf L (at0 + 4)) 1 9)))), rfl, ⟨(by rw [eP]; rfl), ⟨_, _, _, _, _, rdP_f eP, by rw [eP]⟩⟩, by rw [ht]; exact hP, va_K.moved hW.alike hK, hD⟩, hS.F ht⟩) hS.2.2 dX0_readPerson_159
            · skip
              skip
              have o4 : dgok (pcode rf L (at0 + 4)) 1 9 = true := by cases z9 : dgok (pcode rf L (at0 + 4)) 1 9 with | true => rfl | false => exact absurd (dg_is9 z9) c_21
              have eh4 : at0 + 4 + dgn (pcode rf L (at0 + 4)) 1 9 = at0 + 5 := by rw [dgn, if_pos o4]
              rw [eh4] at hP hD
              refine lv_iconst (v := 1) hx hb dX0_readPerson_154 (by decide) ?_
              refine lv_goto (tgt := 159) hx hb dX0_readPerson_155 (by decide) ?_
              have eP := pp_rs5 hl9 o2 o3 o4 (k := 1) ((if_neg q1).trans (if_pos q2))
              exact W.zret (v := 1) hx hb hr rfl (fun t ht hW => ⟨⟨1, ((upd (upd g 6 (nI (at0 + 5))) 7 ((g 7) + 1)), (va_up (va_up (va_up (va_up a 8 (upd (a 8) mm 1)) 9 (upd (a 9) mm (rsV rf L (at0 + 1)))) 10 (upd (a 10) mm (dgv (pcode rf L (at0 + 3)) 0 6))) 11 (upd (a 11) mm (dgv (pcode rf L (at0 + 4)) 1 9)))), rfl, ⟨(by rw [eP]; rfl), ⟨_, _, _, _, (g 7 + 1), rdP_t eP (by rw [hg7]; exact nI_1 mm), by rw [eP]⟩⟩, by rw [ht]; exact hP, va_K.moved hW.alike hK, hD⟩, hS.F ht⟩) hS.2.2 dX0_readPerson_159
          · skip
            skip
            have o3 : dgok (pcode rf L (at0 + 3)) 0 6 = false := (dg_iff9 (by decide)).mp c_19
            have eh3 : at0 + 3 + dgn (pcode rf L (at0 + 3)) 0 6 = at0 + 3 := by rw [dgn, if_neg (by rw [o3]; decide), Nat.add_zero]
            rw [eh3] at hP hD
            refine lv_iconst (v := 0) hx hb dX0_readPerson_117 (by decide) ?_
            have eP := pp_rs3 hl9 o2 o3
            exact W.zret (v := 0) hx hb hr rfl (fun t ht hW => ⟨⟨0, ((upd g 6 (nI (at0 + 3))), (va_up (va_up (va_up a 8 (upd (a 8) mm 1)) 9 (upd (a 9) mm (rsV rf L (at0 + 1)))) 10 (upd (a 10) mm (dgv (pcode rf L (at0 + 3)) 0 6)))), rfl, ⟨(by rw [eP]; rfl), ⟨_, _, _, _, _, rdP_f eP, by rw [eP]; exact rp_id3 hg7 _ a _ _ _⟩⟩, by rw [ht]; exact hP, va_K.moved hW.alike hK, hD⟩, hS.F ht⟩) hS.2.2 dX0_readPerson_118
        · skip
          skip
          have o2 : rsOk rf L (at0 + 1) = false := rsV_9.mp c_17
          refine lv_iconst (v := 0) hx hb dX0_readPerson_90 (by decide) ?_
          have eP := pp_rs0 hl9 o2
          exact W.zret (v := 0) hx hb hr rfl (fun t ht hW => ⟨⟨0, ((upd g 6 (nI (rsN rf L (at0 + 1)))), (va_up (va_up a 8 (upd (a 8) mm 1)) 9 (upd (a 9) mm (rsV rf L (at0 + 1))))), rfl, ⟨(by rw [eP]; rfl), ⟨_, _, _, _, _, rdP_f eP, by rw [eP]; exact rp_id2 hg7 _ a _ _⟩⟩, by rw [ht]; exact hP, va_K.moved hW.alike hK, hD⟩, hS.F ht⟩) hS.2.2 dX0_readPerson_91
      · skip
        exact absurd c_15 (by decide)
  · skip
    have q1 : pcode rf L at0 = 99 := of_decide_eq_true c_1
    have hl9 : (pcode rf L at0 = 99 ∨ pcode rf L at0 = 115 ∨ pcode rf L at0 = 116) := Or.inl q1
    have eg9 : sgN rf L at0 99 = at0 + 1 := sgN_t q1
    rw [eg9] at hP hD
    have hat1 : at0 + 1 ≤ L := sg_lt (by decide) q1
    refine lv_iconst (v := 0) hx hb dX0_readPerson_20 (by decide) ?_
    refine lv_goto (tgt := 54) hx hb dX0_readPerson_21 (by decide) ?_
    refine g_ist (x := 0) hx hb hK hP hD hS (gWa8 _ _ _ _ _ _ _ _ _ _ _ _) (gWs8 _ _ _ _ _ _ _ _ _ _ _ _) (a 8) rfl mm hg7 (by omega) (by decide) dX0_readPerson_54 (fun H locs hP hD hS => ?_)
    refine lv_aload_n hx hb dX0_readPerson_55 rfl (lv_at hl 1 rfl) ?_
    refine g_get (v := .ref (q 8)) hx hb hts hown hK hP 7 (by decide) rfl q153 rfl dX0_readPerson_56 ?_
    refine lv_iload_n hx hb dX0_readPerson_59 rfl (lv_at hl 0 rfl) ?_
    refine g_ild hx hb hK hP (gWa8 _ _ _ _ _ _ _ _ _ _ _ _) (upd (a 8) mm 0) rfl mm hg7 (by omega) (by decide) dX0_readPerson_60 ?_
    refine lv_topi (fun z_22 ez_22 => ?_)
    have ez_22 : z_22 = 0 := ez_22.trans (upd_s _ _ _)
    subst ez_22
    refine lv_bipush (v := (-9)) hx hb dX0_readPerson_61 (by decide) ?_
    refine lv_icmp_ne (tgt := 68) hx hb dX0_readPerson_63 (by decide) (fun c_23 => ?_) (fun c_23 => ?_)
    · skip
      refine lv_aload_n hx hb dX0_readPerson_68 rfl (lv_at hl 1 rfl) ?_
      refine g_get (v := .ref (q 9)) hx hb hts hown hK hP 8 (by decide) rfl q155 rfl dX0_readPerson_69 ?_
      refine lv_iload_n hx hb dX0_readPerson_72 rfl (lv_at hl 0 rfl) ?_
      refine lv_aload_n hx hb dX0_readPerson_73 rfl (lv_at hl 1 rfl) ?_
      refine lv_aload_n hx hb dX0_readPerson_74 rfl (lv_at hl 2 rfl) ?_
      refine va_calli (va_runV (As := [.ref rq]) (rest := [.int (g 7), .ref (q 9)]) ⟨hx, hb, hml, hown, hts⟩ (metX0_readSet l dC dI ct A ex o q ql qs md qe n y (upd g 6 (nI (at0 + 1))) (va_up a 8 (upd (a 8) mm 0))  rp rq L rf (at0 + 1) hrp hL hat1 rfl) (cwV 1 hts (lw_V q428 q430 qs6 q69 q431) rfl rfl rfl (by decide +kernel) ⟨Nat.le_of_ble_eq_true rfl, Nat.le_of_ble_eq_true rfl⟩) (gPV hK hP hD hE _) rfl rfl hl.1 rfl (lv_room (Nat.le_of_ble_eq_true rfl)) dX0_readPerson_75 ⟨Nat.zero_le _, Nat.zero_le _⟩) hS (fun q _ h => h) (fun q h => h) (fun r u t H1 locs ht hvm hw hB hz1 hk1 hS => ?_)
      obtain ⟨hw, hw2⟩ := hw
      have hw : r = (rsV rf L (at0 + 1)) := hw
      subst hw
      subst hw2
      obtain ⟨hP, -, hD⟩ := hB
      rw [ht] at hP
      generalize H1 = H at hP hS ⊢
      have hP : va_P (dC, dI) clA (xG ct o q (ql, qs, md, qe, n) y (upd g 6 (nI (rsN rf L (at0 + 1)))) (va_up a 8 (upd (a 8) mm 0)) ex) H := hP
      have hD : va_D A (xG ct o q (ql, qs, md, qe, n) y (upd g 6 (nI (rsN rf L (at0 + 1)))) (va_up a 8 (upd (a 8) mm 0)) ex) := hD
      refine g_ist (x := (rsV rf L (at0 + 1))) hx hb hK hP hD hS (gWa9 _ _ _ _ _ _ _ _ _ _ _ _) (gWs9 _ _ _ _ _ _ _ _ _ _ _ _) (a 9) rfl mm hg7 (by omega) (by decide) dX0_readPerson_78 (fun H locs hP hD hS => ?_)
      refine lv_aload_n hx hb dX0_readPerson_79 rfl (lv_at hl 1 rfl) ?_
      refine g_get (v := .ref (q 9)) hx hb hts hown hK hP 8 (by decide) rfl q155 rfl dX0_readPerson_80 ?_
      refine lv_iload_n hx hb dX0_readPerson_83 rfl (lv_at hl 0 rfl) ?_
      refine g_ild hx hb hK hP (gWa9 _ _ _ _ _ _ _ _ _ _ _ _) (upd (a 9) mm (rsV rf L (at0 + 1))) rfl mm hg7 (by omega) (by decide) dX0_readPerson_84 ?_
      refine lv_topi (fun z_24 ez_24 => ?_)
      have ez_24 : z_24 = (rsV rf L (at0 + 1)) := ez_24.trans (upd_s _ _ _)
      subst ez_24
      refine lv_bipush (v := (-9)) hx hb dX0_readPerson_85 (by decide) ?_
      refine lv_icmp_ne (tgt := 92) hx hb dX0_readPerson_87 (by decide) (fun c_25 => ?_) (fun c_25 => ?_)
      · skip
        skip
        have o2 : rsOk rf L (at0 + 1) = true := by cases z9 : rsOk rf L (at0 + 1) with | true => rfl | false => exact absurd (rsV_9.mpr z9) c_25
        have eg2 : rsN rf L (at0 + 1) = at0 + 3 := rsN_t o2
        rw [eg2] at hP hD
        have hat3 : at0 + 3 ≤ L := rs_lt o2
        refine lv_aload_n hx hb dX0_readPerson_92 rfl (lv_at hl 1 rfl) ?_
        refine g_get (v := .ref (q 10)) hx hb hts hown hK hP 9 (by decide) rfl q157 rfl dX0_readPerson_93 ?_
        refine lv_iload_n hx hb dX0_readPerson_96 rfl (lv_at hl 0 rfl) ?_
        refine lv_aload_n hx hb dX0_readPerson_97 rfl (lv_at hl 1 rfl) ?_
        refine lv_aload_n hx hb dX0_readPerson_98 rfl (lv_at hl 2 rfl) ?_
        refine lv_iconst (v := 0) hx hb dX0_readPerson_99 (by decide) ?_
        refine lv_bipush (v := 6) hx hb dX0_readPerson_100 (by decide) ?_
        refine va_calli (va_runV (As := [.ref rq, .int 0, .int 6]) (rest := [.int (g 7), .ref (q 10)]) ⟨hx, hb, hml, hown, hts⟩ (metX0_digit l dC dI ct A ex o q ql qs md qe n y (upd g 6 (nI (at0 + 3))) (va_up (va_up a 8 (upd (a 8) mm 0)) 9 (upd (a 9) mm (rsV rf L (at0 + 1)))) 0 6 rp rq L rf (at0 + 3) hrp hL hat3 rfl (by decide) (by decide)) (cwV 3 hts (lw_V q432 q434 qs7 q69 q435) rfl rfl rfl (by decide +kernel) ⟨Nat.le_of_ble_eq_true rfl, Nat.le_of_ble_eq_true rfl⟩) (gPV hK hP hD hE _) rfl rfl hl.1 rfl (lv_room (Nat.le_of_ble_eq_true rfl)) dX0_readPerson_102 ⟨Nat.zero_le _, Nat.zero_le _⟩) hS (fun q _ h => h) (fun q h => h) (fun r u t H1 locs ht hvm hw hB hz1 hk1 hS => ?_)
        obtain ⟨hw, hw2⟩ := hw
        have hw : r = (dgv (pcode rf L (at0 + 3)) 0 6) := hw
        subst hw
        subst hw2
        obtain ⟨hP, -, hD⟩ := hB
        rw [ht] at hP
        generalize H1 = H at hP hS ⊢
        have hP : va_P (dC, dI) clA (xG ct o q (ql, qs, md, qe, n) y (upd g 6 (nI (at0 + 3 + dgn (pcode rf L (at0 + 3)) 0 6))) (va_up (va_up a 8 (upd (a 8) mm 0)) 9 (upd (a 9) mm (rsV rf L (at0 + 1)))) ex) H := hP
        have hD : va_D A (xG ct o q (ql, qs, md, qe, n) y (upd g 6 (nI (at0 + 3 + dgn (pcode rf L (at0 + 3)) 0 6))) (va_up (va_up a 8 (upd (a 8) mm 0)) 9 (upd (a 9) mm (rsV rf L (at0 + 1)))) ex) := hD
        refine g_ist (x := (dgv (pcode rf L (at0 + 3)) 0 6)) hx hb hK hP hD hS (gWa10 _ _ _ _ _ _ _ _ _ _ _ _) (gWs10 _ _ _ _ _ _ _ _ _ _ _ _) (a 10) rfl mm hg7 (by omega) (by decide) dX0_readPerson_105 (fun H locs hP hD hS => ?_)
        refine lv_aload_n hx hb dX0_readPerson_106 rfl (lv_at hl 1 rfl) ?_
        refine g_get (v := .ref (q 10)) hx hb hts hown hK hP 9 (by decide) rfl q157 rfl dX0_readPerson_107 ?_
        refine lv_iload_n hx hb dX0_readPerson_110 rfl (lv_at hl 0 rfl) ?_
        refine g_ild hx hb hK hP (gWa10 _ _ _ _ _ _ _ _ _ _ _ _) (upd (a 10) mm (dgv (pcode rf L (at0 + 3)) 0 6)) rfl mm hg7 (by omega) (by decide) dX0_readPerson_111 ?_
        refine lv_topi (fun z_26 ez_26 => ?_)
        have ez_26 : z_26 = (dgv (pcode rf L (at0 + 3)) 0 6) := ez_26.trans (upd_s _ _ _)
        subst ez_26
        refine lv_bipush (v := (-9)) hx hb dX0_readPerson_112 (by decide) ?_
        refine lv_icmp_ne (tgt := 119) hx hb dX0_readPerson_114 (by decide) (fun c_27 => ?_) (fun c_27 => ?_)
        · skip
          skip
          have o3 : dgok (pcode rf L (at0 + 3)) 0 6 = true := by cases z9 : dgok (pcode rf L (at0 + 3)) 0 6 with | true => rfl | false => exact absurd (dg_is9 z9) c_27
          have eh3 : at0 + 3 + dgn (pcode rf L (at0 + 3)) 0 6 = at0 + 4 := by rw [dgn, if_pos o3]
          rw [eh3] at hP hD
          refine lv_aload_n hx hb dX0_readPerson_119 rfl (lv_at hl 1 rfl) ?_
          refine g_get (v := .ref (q 11)) hx hb hts hown hK hP 10 (by decide) rfl q159 rfl dX0_readPerson_120 ?_
          refine lv_iload_n hx hb dX0_readPerson_123 rfl (lv_at hl 0 rfl) ?_
          refine lv_aload_n hx hb dX0_readPerson_124 rfl (lv_at hl 1 rfl) ?_
          refine lv_aload_n hx hb dX0_readPerson_125 rfl (lv_at hl 2 rfl) ?_
          refine lv_iconst (v := 1) hx hb dX0_readPerson_126 (by decide) ?_
          refine lv_bipush (v := 9) hx hb dX0_readPerson_127 (by decide) ?_
          refine va_calli (va_runV (As := [.ref rq, .int 1, .int 9]) (rest := [.int (g 7), .ref (q 11)]) ⟨hx, hb, hml, hown, hts⟩ (metX0_digit l dC dI ct A ex o q ql qs md qe n y (upd g 6 (nI (at0 + 4))) (va_up (va_up (va_up a 8 (upd (a 8) mm 0)) 9 (upd (a 9) mm (rsV rf L (at0 + 1)))) 10 (upd (a 10) mm (dgv (pcode rf L (at0 + 3)) 0 6))) 1 9 rp rq L rf (at0 + 4) hrp hL (dg_lt1 (by decide) o3) rfl (by decide) (by decide)) (cwV 3 hts (lw_V q432 q434 qs7 q69 q435) rfl rfl rfl (by decide +kernel) ⟨Nat.le_of_ble_eq_true rfl, Nat.le_of_ble_eq_true rfl⟩) (gPV hK hP hD hE _) rfl rfl hl.1 rfl (lv_room (Nat.le_of_ble_eq_true rfl)) dX0_readPerson_129 ⟨Nat.zero_le _, Nat.zero_le _⟩) hS (fun q _ h => h) (fun q h => h) (fun r u t H1 locs ht hvm hw hB hz1 hk1 hS => ?_)
          obtain ⟨hw, hw2⟩ := hw
          have hw : r = (dgv (pcode rf L (at0 + 4)) 1 9) := hw
          subst hw
          subst hw2
          obtain ⟨hP, -, hD⟩ := hB
          rw [ht] at hP
          generalize H1 = H at hP hS ⊢
          have hP : va_P (dC, dI) clA (xG ct o q (ql, qs, md, qe, n) y (upd g 6 (nI (at0 + 4 + dgn (pcode rf L (at0 + 4)) 1 9))) (va_up (va_up (va_up a 8 (upd (a 8) mm 0)) 9 (upd (a 9) mm (rsV rf L (at0 + 1)))) 10 (upd (a 10) mm (dgv (pcode rf L (at0 + 3)) 0 6))) ex) H := hP
          have hD : va_D A (xG ct o q (ql, qs, md, qe, n) y (upd g 6 (nI (at0 + 4 + dgn (pcode rf L (at0 + 4)) 1 9))) (va_up (va_up (va_up a 8 (upd (a 8) mm 0)) 9 (upd (a 9) mm (rsV rf L (at0 + 1)))) 10 (upd (a 10) mm (dgv (pcode rf L (at0 + 3)) 0 6))) ex) := hD
          refine g_ist (x := (dgv (pcode rf L (at0 + 4)) 1 9)) hx hb hK hP hD hS (gWa11 _ _ _ _ _ _ _ _ _ _ _ _) (gWs11 _ _ _ _ _ _ _ _ _ _ _ _) (a 11) rfl mm hg7 (by omega) (by decide) dX0_readPerson_132 (fun H locs hP hD hS => ?_)
          refine lv_aload_n hx hb dX0_readPerson_133 rfl (lv_at hl 1 rfl) ?_
          refine lv_dup hx hb dX0_readPerson_134 rfl ?_
          refine g_get (v := .int (g 7)) hx hb hts hown hK hP 6 (by decide) rfl q152 rfl dX0_readPerson_135 ?_
          refine lv_iconst (v := 1) hx hb dX0_readPerson_138 (by decide) ?_
          refine lv_iadd hx hb dX0_readPerson_139 ?_
          refine g_put (v := ((g 7) + 1)) hx hb hts hown hK hP hD hS 6 7 (by decide) rfl q152 rfl rfl (by decide +kernel) dX0_readPerson_140 (fun H locs hP hD hS => ?_)
          refine lv_aload_n hx hb dX0_readPerson_143 rfl (lv_at hl 1 rfl) ?_
          refine g_get (v := .ref (q 11)) hx hb hts hown hK hP 10 (by decide) rfl q159 rfl dX0_readPerson_144 ?_
          refine lv_iload_n hx hb dX0_readPerson_147 rfl (lv_at hl 0 rfl) ?_
          refine g_ild hx hb hK hP (gWa11 _ _ _ _ _ _ _ _ _ _ _ _) (upd (a 11) mm (dgv (pcode rf L (at0 + 4)) 1 9)) rfl mm hg7 (by omega) (by decide) dX0_readPerson_148 ?_
          refine lv_topi (fun z_28 ez_28 => ?_)
          have ez_28 : z_28 = (dgv (pcode rf L (at0 + 4)) 1 9) := ez_28.trans (upd_s _ _ _)
          subst ez_28
          refine lv_bipush (v := (-9)) hx hb dX0_readPerson_149 (by decide) ?_
          refine lv_icmp_eq (tgt := 158) hx hb dX0_readPerson_151 (by decide) (fun c_29 => ?_) (fun c_29 => ?_)
          · skip
            skip
            have o4 : dgok (pcode rf L (at0 + 4)) 1 9 = false := (dg_iff9 (by decide)).mp c_29
            have eh4 : at0 + 4 + dgn (pcode rf L (at0 + 4)) 1 9 = at0 + 4 := by rw [dgn, if_neg (by rw [o4]; decide), Nat.add_zero]
            rw [eh4] at hP hD
            refine lv_iconst (v := 0) hx hb dX0_readPerson_158 (by decide) ?_
            have eP := pp_rs4 hl9 o2 o3 o4
            exact W.zret (v := 0) hx hb hr rfl (fun t ht hW => ⟨⟨0, ((upd (upd g 6 (nI (at0 + 4))) 7 ((g 7) + 1)), (va_up (va_up (va_up (va_up a 8 (upd (a 8) mm 0)) 9 (upd (a 9) mm (rsV rf L (at0 + 1)))) 10 (upd (a 10) mm (dgv (pcode rf L (at0 + 3)) 0 6))) 11 (upd (a 11) mm (dgv (pcode rf L (at0 + 4)) 1 9)))), rfl, ⟨(by rw [eP]; rfl), ⟨_, _, _, _, _, rdP_f eP, by rw [eP]⟩⟩, by rw [ht]; exact hP, va_K.moved hW.alike hK, hD⟩, hS.F ht⟩) hS.2.2 dX0_readPerson_159
          · skip
            skip
            have o4 : dgok (pcode rf L (at0 + 4)) 1 9 = true := by cases z9 : dgok (pcode rf L (at0 + 4)) 1 9 with | true => rfl | false => exact absurd (dg_is9 z9) c_29
            have eh4 : at0 + 4 + dgn (pcode rf L (at0 + 4)) 1 9 = at0 + 5 := by rw [dgn, if_pos o4]
            rw [eh4] at hP hD
            refine lv_iconst (v := 1) hx hb dX0_readPerson_154 (by decide) ?_
            refine lv_goto (tgt := 159) hx hb dX0_readPerson_155 (by decide) ?_
            have eP := pp_rs5 hl9 o2 o3 o4 (k := 0) (if_pos q1)
            exact W.zret (v := 1) hx hb hr rfl (fun t ht hW => ⟨⟨1, ((upd (upd g 6 (nI (at0 + 5))) 7 ((g 7) + 1)), (va_up (va_up (va_up (va_up a 8 (upd (a 8) mm 0)) 9 (upd (a 9) mm (rsV rf L (at0 + 1)))) 10 (upd (a 10) mm (dgv (pcode rf L (at0 + 3)) 0 6))) 11 (upd (a 11) mm (dgv (pcode rf L (at0 + 4)) 1 9)))), rfl, ⟨(by rw [eP]; rfl), ⟨_, _, _, _, (g 7 + 1), rdP_t eP (by rw [hg7]; exact nI_1 mm), by rw [eP]⟩⟩, by rw [ht]; exact hP, va_K.moved hW.alike hK, hD⟩, hS.F ht⟩) hS.2.2 dX0_readPerson_159
        · skip
          skip
          have o3 : dgok (pcode rf L (at0 + 3)) 0 6 = false := (dg_iff9 (by decide)).mp c_27
          have eh3 : at0 + 3 + dgn (pcode rf L (at0 + 3)) 0 6 = at0 + 3 := by rw [dgn, if_neg (by rw [o3]; decide), Nat.add_zero]
          rw [eh3] at hP hD
          refine lv_iconst (v := 0) hx hb dX0_readPerson_117 (by decide) ?_
          have eP := pp_rs3 hl9 o2 o3
          exact W.zret (v := 0) hx hb hr rfl (fun t ht hW => ⟨⟨0, ((upd g 6 (nI (at0 + 3))), (va_up (va_up (va_up a 8 (upd (a 8) mm 0)) 9 (upd (a 9) mm (rsV rf L (at0 + 1)))) 10 (upd (a 10) mm (dgv (pcode rf L (at0 + 3)) 0 6)))), rfl, ⟨(by rw [eP]; rfl), ⟨_, _, _, _, _, rdP_f eP, by rw [eP]; exact rp_id3 hg7 _ a _ _ _⟩⟩, by rw [ht]; exact hP, va_K.moved hW.alike hK, hD⟩, hS.F ht⟩) hS.2.2 dX0_readPerson_118
      · skip
        skip
        have o2 : rsOk rf L (at0 + 1) = false := rsV_9.mp c_25
        refine lv_iconst (v := 0) hx hb dX0_readPerson_90 (by decide) ?_
        have eP := pp_rs0 hl9 o2
        exact W.zret (v := 0) hx hb hr rfl (fun t ht hW => ⟨⟨0, ((upd g 6 (nI (rsN rf L (at0 + 1)))), (va_up (va_up a 8 (upd (a 8) mm 0)) 9 (upd (a 9) mm (rsV rf L (at0 + 1))))), rfl, ⟨(by rw [eP]; rfl), ⟨_, _, _, _, _, rdP_f eP, by rw [eP]; exact rp_id2 hg7 _ a _ _⟩⟩, by rw [ht]; exact hP, va_K.moved hW.alike hK, hD⟩, hS.F ht⟩) hS.2.2 dX0_readPerson_91
    · skip
      exact absurd c_23 (by decide)
set_option maxHeartbeats 4000000 in
set_option maxRecDepth 100000 in
theorem metX0_readAll (l : Launch) (dC : Nat → ClassId) (dI : Nat → Nat → Nat) (ct : Nat → ClassId) (A : Nat → Prop) (ex : va_W) (o : Nat) (q : Nat → Nat) (ql qs : Nat) (md : Int32) (qe n : Nat) (y : Nat → Nat) (g : Nat → Int32) (a : Nat → Nat → Int32)  (rp rq L : Nat) (rf : Nat → Int32) (hrp : ex[rp]? = some (rq, .inl (ct 0, L, .inl rf))) (hL : L ≤ 61) : Met l yX0_readAll (ws_ yX0_readAll cX0_readAll 2 (some .boolean)) ({ frames := 4, cells := 0, slots := 0, locals := 93 }) (gPre dC dI ct A ex o q (ql, qs, md, qe, n) y g a [.ref o, .ref rq]) (va_Qi (fun (r : Int32) (u : (Nat → Int32) × (Nat → Nat → Int32)) => r = (b2i (pAll rf L (a 8) (a 9) (a 10) (a 11)).1) ∧ ∃ (K1 : Nat → Int32), ∃ (K2 : Nat → Int32), ∃ (K3 : Nat → Int32), ∃ (K4 : Nat → Int32), ∃ (mv : Int32), ∃ (hRd : rdA (pAll rf L (a 8) (a 9) (a 10) (a 11)) K1 K2 K3 K4 mv), u = ((upd (upd g 6 (nI (pAll rf L (a 8) (a 9) (a 10) (a 11)).2.1)) 7 mv), (va_up (va_up (va_up (va_up a 8 K1) 9 K2) 10 K3) 11 K4))) (gB dC dI ct A ex o q (ql, qs, md, qe, n) y) A) 0 0 A := by
  refine Met.ofW (cc := cX0_readAll) (maxL := 2) (ret := (some .boolean)) (by decide) rfl ?_
  intro p e s m args below meth c s₁ B hml hv
  obtain ⟨rfl, hP, hK, hD, hE⟩ := hv
  have hx := B.exec
  have hb := B.bytes
  have hr := B.returns
  have hts := atoms_spec (ws := ws_ yX0_readAll cX0_readAll 2 (some .boolean)) B.pre
  have hts : ∀ w ∈ lw_all, w.before _ s = true := fun w h => hts w (List.mem_cons_of_mem _ h)
  have hown : s.vm.findClass RX0 = some m.cls := findClass_of_methodNamed B.named
  have hlocks := B.notSynchronized
  have hS : va_S A s.heap s.heap [] := va_S.rf
  have hl := lv_entry ([.ref o, .ref rq]) (n := 2) (Nat.le_of_ble_eq_true rfl)
  rw [lg_entry_eq]
  generalize (lg_sl ([.ref o, .ref rq]) ++ List.replicate (2 - (lg_sl ([.ref o, .ref rq])).length) Slot.unset).toArray = ls at hl ⊢
  have hl : lv_has ls 2 [(0, .ref o), (1, .ref rq)] := hl
  refine lv_aload_n hx hb dX0_readAll_0 rfl (lv_at hl 0 rfl) ?_
  refine lv_iconst (v := 0) hx hb dX0_readAll_1 (by decide) ?_
  refine g_put (v := 0) hx hb hts hown hK hP hD hS 5 6 (by decide) rfl q151 rfl rfl (by decide +kernel) dX0_readAll_2 (fun H locs hP hD hS => ?_)
  refine lv_aload_n hx hb dX0_readAll_5 rfl (lv_at hl 0 rfl) ?_
  refine lv_iconst (v := 0) hx hb dX0_readAll_6 (by decide) ?_
  refine g_put (v := 0) hx hb hts hown hK hP hD hS 6 7 (by decide) rfl q152 rfl rfl (by decide +kernel) dX0_readAll_7 (fun H locs hP hD hS => ?_)
  refine lv_aload_n hx hb dX0_readAll_10 rfl (lv_at hl 0 rfl) ?_
  refine lv_aload_n hx hb dX0_readAll_11 rfl (lv_at hl 1 rfl) ?_
  refine lv_bipush (v := 107) hx hb dX0_readAll_12 (by decide) ?_
  refine va_calli (va_runV (As := [.ref rq, .int 107]) (rest := []) ⟨hx, hb, hml, hown, hts⟩ (metX0_isSign l dC dI ct A ex o q ql qs md qe n y (upd (upd g 6 0) 7 0) a 107 rp rq L rf 0 hrp hL (by omega) rfl (by decide)) (cwV 2 hts (lw_V q420 q422 qs4 q69 q423) rfl rfl rfl (by decide +kernel) ⟨Nat.le_of_ble_eq_true rfl, Nat.le_of_ble_eq_true rfl⟩) (gPV hK hP hD hE _) rfl rfl hl.1 rfl (lv_room (Nat.le_of_ble_eq_true rfl)) dX0_readAll_14 ⟨Nat.zero_le _, Nat.zero_le _⟩) hS (fun q _ h => h) (fun q h => h) (fun r u t H1 locs ht hvm hw hB hz1 hk1 hS => ?_)
  obtain ⟨hw, hw2⟩ := hw
  have hw : r = (b2i (sgV rf L 0 107)) := hw
  subst hw
  subst hw2
  obtain ⟨hP, -, hD⟩ := hB
  rw [ht] at hP
  generalize H1 = H at hP hS ⊢
  have hP : va_P (dC, dI) clA (xG ct o q (ql, qs, md, qe, n) y (upd (upd g 6 (nI (sgN rf L 0 107))) 7 0) a ex) H := hP
  have hD : va_D A (xG ct o q (ql, qs, md, qe, n) y (upd (upd g 6 (nI (sgN rf L 0 107))) 7 0) a ex) := hD
  refine bz_ne (tgt := 22) hx hb dX0_readAll_17 (by decide) (fun c_1 => ?_) (fun c_1 => ?_)
  · skip
    have q107 : pcode rf L 0 = 107 := of_decide_eq_true c_1
    have loop1 : ∀ (f1 : Nat) (at1 : Nat) (mm : Nat) (K1 : Nat → Int32) (K2 : Nat → Int32) (K3 : Nat → Int32) (K4 : Nat → Int32), (at1 ≤ L) → (mm ≤ 6) → (mm + f1 = 7) → ((pAll rf L (a 8) (a 9) (a 10) (a 11)) = pLoop rf L f1 (at1, mm, K1, K2, K3, K4)) → ∀ (H : Heap) (locs : List Loc), va_P (dC, dI) clA (xG ct o q (ql, qs, md, qe, n) y (upd (upd g 6 (nI at1)) 7 (nI mm)) (va_up (va_up (va_up (va_up a 8 K1) 9 K2) 10 K3) 11 K4) ex) H → va_D A (xG ct o q (ql, qs, md, qe, n) y (upd (upd g 6 (nI at1)) 7 (nI mm)) (va_up (va_up (va_up (va_up a 8 K1) 9 K2) 10 K3) 11 K4) ex) → va_S A s.heap H locs → ∀ (ls : Array Slot), lv_has ls 2 [(1, .ref rq), (0, .ref o)] → W p l e (headSpec (ws_ yX0_readAll cX0_readAll 2 (some .boolean)) ({ frames := 4, cells := 0, slots := 0, locals := 93 })).room s m ([.ref o, .ref rq] : List Value).toArray below meth c H locs 0 0 (MQ below (va_Qi (fun (r : Int32) (u : (Nat → Int32) × (Nat → Nat → Int32)) => r = (b2i (pAll rf L (a 8) (a 9) (a 10) (a 11)).1) ∧ ∃ (K1 : Nat → Int32), ∃ (K2 : Nat → Int32), ∃ (K3 : Nat → Int32), ∃ (K4 : Nat → Int32), ∃ (mv : Int32), ∃ (hRd : rdA (pAll rf L (a 8) (a 9) (a 10) (a 11)) K1 K2 K3 K4 mv), u = ((upd (upd g 6 (nI (pAll rf L (a 8) (a 9) (a 10) (a 11)).2.1)) 7 mv), (va_up (va_up (va_up (va_up a 8 K1) 9 K2) 10 K3) 11 K4))) (gB dC dI ct A ex o q (ql, qs, md, qe, n) y) A) ([.ref o, .ref rq] : List Value).toArray s 0 0 A) (F0 m 22 ls []) := by
      intro f1
      induction f1 with
      | zero => intro at1 mm K1 K2 K3 K4 hat1 hmm hf hA; exact False.elim (by omega)
      | succ f1 ih1 =>
        intro at1 mm K1 K2 K3 K4 hat1 hmm hf hA H locs hP hD hS ls hl
        refine lv_aload_n hx hb dX0_readAll_22 rfl (lv_at hl 1 rfl) ?_
        refine g_get (v := .int (nI mm)) hx hb hts hown hK hP 6 (by decide) rfl q152 rfl dX0_readAll_23 ?_
        refine lv_iconst (v := 2) hx hb dX0_readAll_26 (by decide) ?_
        refine lv_icmp_lt (tgt := 48) hx hb dX0_readAll_27 (by decide) (fun c_2 => ?_) (fun c_2 => ?_)
        · skip
          have h2m : mm < 2 := (nI_ltI (by omega) (by decide)).mp c_2
          have hcnd : mm < 2 ∨ at1 < L := Or.inl h2m
          have hm : ¬ mm = 6 := by omega
          refine lv_aload_n hx hb dX0_readAll_48 rfl (lv_at hl 1 rfl) ?_
          refine lv_aload_n hx hb dX0_readAll_49 rfl (lv_at hl 0 rfl) ?_
          refine lv_bipush (v := 59) hx hb dX0_readAll_50 (by decide) ?_
          refine va_calli (va_runV (As := [.ref rq, .int 59]) (rest := []) ⟨hx, hb, hml, hown, hts⟩ (metX0_isSign l dC dI ct A ex o q ql qs md qe n y (upd (upd g 6 (nI at1)) 7 (nI mm)) (va_up (va_up (va_up (va_up a 8 K1) 9 K2) 10 K3) 11 K4) 59 rp rq L rf at1 hrp hL hat1 rfl (by decide)) (cwV 2 hts (lw_V q420 q422 qs4 q69 q423) rfl rfl rfl (by decide +kernel) ⟨Nat.le_of_ble_eq_true rfl, Nat.le_of_ble_eq_true rfl⟩) (gPV hK hP hD hE _) rfl rfl hl.1 rfl (lv_room (Nat.le_of_ble_eq_true rfl)) dX0_readAll_52 ⟨Nat.zero_le _, Nat.zero_le _⟩) hS (fun q _ h => h) (fun q h => h) (fun r u t H1 locs ht hvm hw hB hz1 hk1 hS => ?_)
          obtain ⟨hw, hw2⟩ := hw
          have hw : r = (b2i (sgV rf L at1 59)) := hw
          subst hw
          subst hw2
          obtain ⟨hP, -, hD⟩ := hB
          rw [ht] at hP
          generalize H1 = H at hP hS ⊢
          have hP : va_P (dC, dI) clA (xG ct o q (ql, qs, md, qe, n) y (upd (upd g 6 (nI (sgN rf L at1 59))) 7 (nI mm)) (va_up (va_up (va_up (va_up a 8 K1) 9 K2) 10 K3) 11 K4) ex) H := hP
          have hD : va_D A (xG ct o q (ql, qs, md, qe, n) y (upd (upd g 6 (nI (sgN rf L at1 59))) 7 (nI mm)) (va_up (va_up (va_up (va_up a 8 K1) 9 K2) 10 K3) 11 K4) ex) := hD
          refine bz_eq (tgt := 66) hx hb dX0_readAll_55 (by decide) (fun c_3 => ?_) (fun c_3 => ?_)
          · skip
            skip
            have q59 : ¬ pcode rf L at1 = 59 := of_decide_eq_false c_3
            have e59 : sgN rf L at1 59 = at1 := sgN_f q59
            rw [e59] at hP hD
            refine lv_iconst (v := 0) hx hb dX0_readAll_66 (by decide) ?_
            have eA : (pAll rf L (a 8) (a 9) (a 10) (a 11)) = (false, (at1, mm, K1, K2, K3, K4)) := by rw [hA, pLoop_no (P := (at1, mm, K1, K2, K3, K4)) hcnd (by rw [pS_n hm q59]; exact Bool.false_ne_true), pS_n hm q59]
            exact W.zret (v := 0) hx hb hr rfl (fun t ht hW => ⟨⟨0, ((upd (upd g 6 (nI at1)) 7 (nI mm)), (va_up (va_up (va_up (va_up a 8 K1) 9 K2) 10 K3) 11 K4)), rfl, ⟨(by rw [eA]; rfl), ⟨K1, K2, K3, K4, nI mm, fun z => by (rw [eA] at z; cases z), by rw [eA]⟩⟩, by rw [ht]; exact hP, va_K.moved hW.alike hK, hD⟩, hS.F ht⟩) hS.2.2 dX0_readAll_67
          · skip
            skip
            have q59 : pcode rf L at1 = 59 := of_decide_eq_true c_3
            have e59 : sgN rf L at1 59 = at1 + 1 := sgN_t q59
            rw [e59] at hP hD
            have hat2 : at1 + 1 ≤ L := sg_lt (by decide) q59
            refine lv_aload_n hx hb dX0_readAll_58 rfl (lv_at hl 1 rfl) ?_
            refine lv_aload_n hx hb dX0_readAll_59 rfl (lv_at hl 0 rfl) ?_
            refine va_calli (va_runV (As := [.ref rq]) (rest := []) ⟨hx, hb, hml, hown, hts⟩ (metX0_readPerson l dC dI ct A ex o q ql qs md qe n y (upd (upd g 6 (nI (at1 + 1))) 7 (nI mm)) (va_up (va_up (va_up (va_up a 8 K1) 9 K2) 10 K3) 11 K4)  rp rq L rf (at1 + 1) mm hrp hL hat2 rfl (by omega) rfl) (cwV 1 hts (lw_V q424 q426 qs5 q69 q427) rfl rfl rfl (by decide +kernel) ⟨Nat.le_of_ble_eq_true rfl, Nat.le_of_ble_eq_true rfl⟩) (gPV hK hP hD hE _) rfl rfl hl.1 rfl (lv_room (Nat.le_of_ble_eq_true rfl)) dX0_readAll_60 ⟨Nat.zero_le _, Nat.zero_le _⟩) hS (fun q _ h => h) (fun q h => h) (fun r u t H1 locs ht hvm hw hB hz1 hk1 hS => ?_)
            obtain ⟨hw, K1_4, K2_5, K3_6, K4_7, mv_8, hRd_9, hw2⟩ := hw
            have hw : r = (b2i (pPerson rf L (at1 + 1)).1) := hw
            subst hw
            subst hw2
            obtain ⟨hP, -, hD⟩ := hB
            rw [ht] at hP
            generalize H1 = H at hP hS ⊢
            have hP : va_P (dC, dI) clA (xG ct o q (ql, qs, md, qe, n) y (upd (upd g 6 (nI (pPerson rf L (at1 + 1)).2.1)) 7 mv_8) (va_up (va_up (va_up (va_up a 8 K1_4) 9 K2_5) 10 K3_6) 11 K4_7) ex) H := hP
            have hD : va_D A (xG ct o q (ql, qs, md, qe, n) y (upd (upd g 6 (nI (pPerson rf L (at1 + 1)).2.1)) 7 mv_8) (va_up (va_up (va_up (va_up a 8 K1_4) 9 K2_5) 10 K3_6) 11 K4_7) ex) := hD
            refine bz_ne (tgt := 22) hx hb dX0_readAll_63 (by decide) (fun c_10 => ?_) (fun c_10 => ?_)
            · skip
              have hPt : pPerson rf L (at1 + 1) = (true, (pPerson rf L (at1 + 1)).2) := Prod.ext c_10 rfl
              obtain ⟨r1, r2, r3, r4, r5⟩ := hRd_9 c_10
              have eS := pS_t (K1 := K1) (K2 := K2) (K3 := K3) (K4 := K4) hm q59 hPt
              have hpa := pPerson_at rf L (at1 + 1)
              have eA : (pAll rf L (a 8) (a 9) (a 10) (a 11)) = pLoop rf L f1 ((pPerson rf L (at1 + 1)).2.1, mm + 1, K1_4, K2_5, K3_6, K4_7) := by rw [hA, pLoop_go (P := (at1, mm, K1, K2, K3, K4)) hcnd (by rw [eS]), eS, r1, r2, r3, r4]; rfl
              rw [r5] at hP hD
              exact ih1 ((pPerson rf L (at1 + 1)).2.1) (mm + 1) K1_4 K2_5 K3_6 K4_7 (pp_le c_10) (by omega) (by omega) eA _ _ hP hD hS _ (lv_sub hl [0, 1] rfl)
            · skip
              refine lv_iconst (v := 0) hx hb dX0_readAll_66 (by decide) ?_
              have hPf : pPerson rf L (at1 + 1) = (false, (pPerson rf L (at1 + 1)).2) := Prod.ext c_10 rfl
              have eS := pS_f (K1 := K1) (K2 := K2) (K3 := K3) (K4 := K4) hm q59 hPf
              have eA : (pAll rf L (a 8) (a 9) (a 10) (a 11)) = (false, (pPerson rf L (at1 + 1)).2.1, mm, K1, K2, K3, K4) := by rw [hA, pLoop_no (P := (at1, mm, K1, K2, K3, K4)) hcnd (by rw [eS]; exact Bool.false_ne_true), eS]
              exact W.zret (v := 0) hx hb hr rfl (fun t ht hW => ⟨⟨0, ((upd (upd g 6 (nI (pPerson rf L (at1 + 1)).2.1)) 7 mv_8), (va_up (va_up (va_up (va_up a 8 K1_4) 9 K2_5) 10 K3_6) 11 K4_7)), rfl, ⟨(by rw [eA]; rfl), ⟨K1_4, K2_5, K3_6, K4_7, mv_8, fun z => by (rw [eA] at z; cases z), by rw [eA]⟩⟩, by rw [ht]; exact hP, va_K.moved hW.alike hK, hD⟩, hS.F ht⟩) hS.2.2 dX0_readAll_67
        · skip
          have h2m : ¬ mm < 2 := fun z => c_2 ((nI_ltI (b := 2) (by omega) (by decide)).mpr z)
          refine lv_aload_n hx hb dX0_readAll_30 rfl (lv_at hl 1 rfl) ?_
          refine g_get (v := .int (nI mm)) hx hb hts hown hK hP 6 (by decide) rfl q152 rfl dX0_readAll_31 ?_
          refine lv_bipush (v := 6) hx hb dX0_readAll_34 (by decide) ?_
          refine lv_icmp_ge (tgt := 68) hx hb dX0_readAll_36 (by decide) (fun c_11 => ?_) (fun c_11 => ?_)
          · skip
            have h6m : 6 ≤ mm := (nI_leI (a := 6) (by decide) (by omega)).mp c_11
            refine lv_aload_n hx hb dX0_readAll_68 rfl (lv_at hl 1 rfl) ?_
            refine g_get (v := .int (nI at1)) hx hb hts hown hK hP 5 (by decide) rfl q151 rfl dX0_readAll_69 ?_
            refine lv_aload_n hx hb dX0_readAll_72 rfl (lv_at hl 0 rfl) ?_
            refine va_alen (v := nI L) hx hb hK hP (xps n + rp) 0 ((xG_ex rp).trans hrp) rfl rfl dX0_readAll_73 ?_
            refine lv_icmp_ne (tgt := 81) hx hb dX0_readAll_74 (by decide) (fun c_12 => ?_) (fun c_12 => ?_)
            · skip
              refine lv_iconst (v := 0) hx hb dX0_readAll_81 (by decide) ?_
              have hE : at1 < L := Nat.lt_of_le_of_ne hat1 (fun z => c_12 (by rw [z]))
              have hm : mm = 6 := by omega
              have eA : (pAll rf L (a 8) (a 9) (a 10) (a 11)) = (false, (at1, mm, K1, K2, K3, K4)) := by rw [hA, pLoop_no (P := (at1, mm, K1, K2, K3, K4)) (Or.inr hE) (by rw [pS_6 hm]; exact Bool.false_ne_true), pS_6 hm]
              exact W.zret (v := 0) hx hb hr rfl (fun t ht hW => ⟨⟨0, ((upd (upd g 6 (nI at1)) 7 (nI mm)), (va_up (va_up (va_up (va_up a 8 K1) 9 K2) 10 K3) 11 K4)), rfl, ⟨(by rw [eA]; rfl), ⟨K1, K2, K3, K4, nI mm, fun z => by (rw [eA] at z; cases z), by rw [eA]⟩⟩, by rw [ht]; exact hP, va_K.moved hW.alike hK, hD⟩, hS.F ht⟩) hS.2.2 dX0_readAll_82
            · skip
              refine lv_iconst (v := 1) hx hb dX0_readAll_77 (by decide) ?_
              refine lv_goto (tgt := 82) hx hb dX0_readAll_78 (by decide) ?_
              have hE : at1 = L := (nI_eq (by omega) (by omega)).mp c_12
              have eA : (pAll rf L (a 8) (a 9) (a 10) (a 11)) = (true, (at1, mm, K1, K2, K3, K4)) := by rw [hA, pLoop_end (P := (at1, mm, K1, K2, K3, K4)) (fun z => by rcases z with z | z; exact absurd z h2m; exact absurd z (by show ¬ at1 < L; omega))]
              exact W.zret (v := 1) hx hb hr rfl (fun t ht hW => ⟨⟨1, ((upd (upd g 6 (nI at1)) 7 (nI mm)), (va_up (va_up (va_up (va_up a 8 K1) 9 K2) 10 K3) 11 K4)), rfl, ⟨(by rw [eA]; rfl), ⟨K1, K2, K3, K4, nI mm, fun _ => by (rw [eA]; exact ⟨rfl, rfl, rfl, rfl, rfl⟩), by rw [eA]⟩⟩, by rw [ht]; exact hP, va_K.moved hW.alike hK, hD⟩, hS.F ht⟩) hS.2.2 dX0_readAll_82
          · skip
            have hm : ¬ mm = 6 := fun z => c_11 (by rw [z]; decide)
            refine lv_aload_n hx hb dX0_readAll_39 rfl (lv_at hl 1 rfl) ?_
            refine g_get (v := .int (nI at1)) hx hb hts hown hK hP 5 (by decide) rfl q151 rfl dX0_readAll_40 ?_
            refine lv_aload_n hx hb dX0_readAll_43 rfl (lv_at hl 0 rfl) ?_
            refine va_alen (v := nI L) hx hb hK hP (xps n + rp) 0 ((xG_ex rp).trans hrp) rfl rfl dX0_readAll_44 ?_
            refine lv_icmp_ge (tgt := 68) hx hb dX0_readAll_45 (by decide) (fun c_13 => ?_) (fun c_13 => ?_)
            · skip
              have hLa : L ≤ at1 := (nI_leI (by omega) (by omega)).mp c_13
              refine lv_aload_n hx hb dX0_readAll_68 rfl (lv_at hl 1 rfl) ?_
              refine g_get (v := .int (nI at1)) hx hb hts hown hK hP 5 (by decide) rfl q151 rfl dX0_readAll_69 ?_
              refine lv_aload_n hx hb dX0_readAll_72 rfl (lv_at hl 0 rfl) ?_
              refine va_alen (v := nI L) hx hb hK hP (xps n + rp) 0 ((xG_ex rp).trans hrp) rfl rfl dX0_readAll_73 ?_
              refine lv_icmp_ne (tgt := 81) hx hb dX0_readAll_74 (by decide) (fun c_14 => ?_) (fun c_14 => ?_)
              · skip
                refine lv_iconst (v := 0) hx hb dX0_readAll_81 (by decide) ?_
                have hE : at1 < L := Nat.lt_of_le_of_ne hat1 (fun z => c_14 (by rw [z]))
                have hm : mm = 6 := by omega
                have eA : (pAll rf L (a 8) (a 9) (a 10) (a 11)) = (false, (at1, mm, K1, K2, K3, K4)) := by rw [hA, pLoop_no (P := (at1, mm, K1, K2, K3, K4)) (Or.inr hE) (by rw [pS_6 hm]; exact Bool.false_ne_true), pS_6 hm]
                exact W.zret (v := 0) hx hb hr rfl (fun t ht hW => ⟨⟨0, ((upd (upd g 6 (nI at1)) 7 (nI mm)), (va_up (va_up (va_up (va_up a 8 K1) 9 K2) 10 K3) 11 K4)), rfl, ⟨(by rw [eA]; rfl), ⟨K1, K2, K3, K4, nI mm, fun z => by (rw [eA] at z; cases z), by rw [eA]⟩⟩, by rw [ht]; exact hP, va_K.moved hW.alike hK, hD⟩, hS.F ht⟩) hS.2.2 dX0_readAll_82
              · skip
                refine lv_iconst (v := 1) hx hb dX0_readAll_77 (by decide) ?_
                refine lv_goto (tgt := 82) hx hb dX0_readAll_78 (by decide) ?_
                have hE : at1 = L := (nI_eq (by omega) (by omega)).mp c_14
                have eA : (pAll rf L (a 8) (a 9) (a 10) (a 11)) = (true, (at1, mm, K1, K2, K3, K4)) := by rw [hA, pLoop_end (P := (at1, mm, K1, K2, K3, K4)) (fun z => by rcases z with z | z; exact absurd z h2m; exact absurd z (by show ¬ at1 < L; omega))]
                exact W.zret (v := 1) hx hb hr rfl (fun t ht hW => ⟨⟨1, ((upd (upd g 6 (nI at1)) 7 (nI mm)), (va_up (va_up (va_up (va_up a 8 K1) 9 K2) 10 K3) 11 K4)), rfl, ⟨(by rw [eA]; rfl), ⟨K1, K2, K3, K4, nI mm, fun _ => by (rw [eA]; exact ⟨rfl, rfl, rfl, rfl, rfl⟩), by rw [eA]⟩⟩, by rw [ht]; exact hP, va_K.moved hW.alike hK, hD⟩, hS.F ht⟩) hS.2.2 dX0_readAll_82
            · skip
              have hla : at1 < L := Nat.lt_of_not_le (fun z => c_13 ((nI_leI (by omega) (by omega)).mpr z))
              have hcnd : mm < 2 ∨ at1 < L := Or.inr hla
              refine lv_aload_n hx hb dX0_readAll_48 rfl (lv_at hl 1 rfl) ?_
              refine lv_aload_n hx hb dX0_readAll_49 rfl (lv_at hl 0 rfl) ?_
              refine lv_bipush (v := 59) hx hb dX0_readAll_50 (by decide) ?_
              refine va_calli (va_runV (As := [.ref rq, .int 59]) (rest := []) ⟨hx, hb, hml, hown, hts⟩ (metX0_isSign l dC dI ct A ex o q ql qs md qe n y (upd (upd g 6 (nI at1)) 7 (nI mm)) (va_up (va_up (va_up (va_up a 8 K1) 9 K2) 10 K3) 11 K4) 59 rp rq L rf at1 hrp hL hat1 rfl (by decide)) (cwV 2 hts (lw_V q420 q422 qs4 q69 q423) rfl rfl rfl (by decide +kernel) ⟨Nat.le_of_ble_eq_true rfl, Nat.le_of_ble_eq_true rfl⟩) (gPV hK hP hD hE _) rfl rfl hl.1 rfl (lv_room (Nat.le_of_ble_eq_true rfl)) dX0_readAll_52 ⟨Nat.zero_le _, Nat.zero_le _⟩) hS (fun q _ h => h) (fun q h => h) (fun r u t H1 locs ht hvm hw hB hz1 hk1 hS => ?_)
              obtain ⟨hw, hw2⟩ := hw
              have hw : r = (b2i (sgV rf L at1 59)) := hw
              subst hw
              subst hw2
              obtain ⟨hP, -, hD⟩ := hB
              rw [ht] at hP
              generalize H1 = H at hP hS ⊢
              have hP : va_P (dC, dI) clA (xG ct o q (ql, qs, md, qe, n) y (upd (upd g 6 (nI (sgN rf L at1 59))) 7 (nI mm)) (va_up (va_up (va_up (va_up a 8 K1) 9 K2) 10 K3) 11 K4) ex) H := hP
              have hD : va_D A (xG ct o q (ql, qs, md, qe, n) y (upd (upd g 6 (nI (sgN rf L at1 59))) 7 (nI mm)) (va_up (va_up (va_up (va_up a 8 K1) 9 K2) 10 K3) 11 K4) ex) := hD
              refine bz_eq (tgt := 66) hx hb dX0_readAll_55 (by decide) (fun c_15 => ?_) (fun c_15 => ?_)
              · skip
                skip
                have q59 : ¬ pcode rf L at1 = 59 := of_decide_eq_false c_15
                have e59 : sgN rf L at1 59 = at1 := sgN_f q59
                rw [e59] at hP hD
                refine lv_iconst (v := 0) hx hb dX0_readAll_66 (by decide) ?_
                have eA : (pAll rf L (a 8) (a 9) (a 10) (a 11)) = (false, (at1, mm, K1, K2, K3, K4)) := by rw [hA, pLoop_no (P := (at1, mm, K1, K2, K3, K4)) hcnd (by rw [pS_n hm q59]; exact Bool.false_ne_true), pS_n hm q59]
                exact W.zret (v := 0) hx hb hr rfl (fun t ht hW => ⟨⟨0, ((upd (upd g 6 (nI at1)) 7 (nI mm)), (va_up (va_up (va_up (va_up a 8 K1) 9 K2) 10 K3) 11 K4)), rfl, ⟨(by rw [eA]; rfl), ⟨K1, K2, K3, K4, nI mm, fun z => by (rw [eA] at z; cases z), by rw [eA]⟩⟩, by rw [ht]; exact hP, va_K.moved hW.alike hK, hD⟩, hS.F ht⟩) hS.2.2 dX0_readAll_67
              · skip
                skip
                have q59 : pcode rf L at1 = 59 := of_decide_eq_true c_15
                have e59 : sgN rf L at1 59 = at1 + 1 := sgN_t q59
                rw [e59] at hP hD
                have hat2 : at1 + 1 ≤ L := sg_lt (by decide) q59
                refine lv_aload_n hx hb dX0_readAll_58 rfl (lv_at hl 1 rfl) ?_
                refine lv_aload_n hx hb dX0_readAll_59 rfl (lv_at hl 0 rfl) ?_
                refine va_calli (va_runV (As := [.ref rq]) (rest := []) ⟨hx, hb, hml, hown, hts⟩ (metX0_readPerson l dC dI ct A ex o q ql qs md qe n y (upd (upd g 6 (nI (at1 + 1))) 7 (nI mm)) (va_up (va_up (va_up (va_up a 8 K1) 9 K2) 10 K3) 11 K4)  rp rq L rf (at1 + 1) mm hrp hL hat2 rfl (by omega) rfl) (cwV 1 hts (lw_V q424 q426 qs5 q69 q427) rfl rfl rfl (by decide +kernel) ⟨Nat.le_of_ble_eq_true rfl, Nat.le_of_ble_eq_true rfl⟩) (gPV hK hP hD hE _) rfl rfl hl.1 rfl (lv_room (Nat.le_of_ble_eq_true rfl)) dX0_readAll_60 ⟨Nat.zero_le _, Nat.zero_le _⟩) hS (fun q _ h => h) (fun q h => h) (fun r u t H1 locs ht hvm hw hB hz1 hk1 hS => ?_)
                obtain ⟨hw, K1_16, K2_17, K3_18, K4_19, mv_20, hRd_21, hw2⟩ := hw
                have hw : r = (b2i (pPerson rf L (at1 + 1)).1) := hw
                subst hw
                subst hw2
                obtain ⟨hP, -, hD⟩ := hB
                rw [ht] at hP
                generalize H1 = H at hP hS ⊢
                have hP : va_P (dC, dI) clA (xG ct o q (ql, qs, md, qe, n) y (upd (upd g 6 (nI (pPerson rf L (at1 + 1)).2.1)) 7 mv_20) (va_up (va_up (va_up (va_up a 8 K1_16) 9 K2_17) 10 K3_18) 11 K4_19) ex) H := hP
                have hD : va_D A (xG ct o q (ql, qs, md, qe, n) y (upd (upd g 6 (nI (pPerson rf L (at1 + 1)).2.1)) 7 mv_20) (va_up (va_up (va_up (va_up a 8 K1_16) 9 K2_17) 10 K3_18) 11 K4_19) ex) := hD
                refine bz_ne (tgt := 22) hx hb dX0_readAll_63 (by decide) (fun c_22 => ?_) (fun c_22 => ?_)
                · skip
                  have hPt : pPerson rf L (at1 + 1) = (true, (pPerson rf L (at1 + 1)).2) := Prod.ext c_22 rfl
                  obtain ⟨r1, r2, r3, r4, r5⟩ := hRd_21 c_22
                  have eS := pS_t (K1 := K1) (K2 := K2) (K3 := K3) (K4 := K4) hm q59 hPt
                  have hpa := pPerson_at rf L (at1 + 1)
                  have eA : (pAll rf L (a 8) (a 9) (a 10) (a 11)) = pLoop rf L f1 ((pPerson rf L (at1 + 1)).2.1, mm + 1, K1_16, K2_17, K3_18, K4_19) := by rw [hA, pLoop_go (P := (at1, mm, K1, K2, K3, K4)) hcnd (by rw [eS]), eS, r1, r2, r3, r4]; rfl
                  rw [r5] at hP hD
                  exact ih1 ((pPerson rf L (at1 + 1)).2.1) (mm + 1) K1_16 K2_17 K3_18 K4_19 (pp_le c_22) (by omega) (by omega) eA _ _ hP hD hS _ (lv_sub hl [0, 1] rfl)
                · skip
                  refine lv_iconst (v := 0) hx hb dX0_readAll_66 (by decide) ?_
                  have hPf : pPerson rf L (at1 + 1) = (false, (pPerson rf L (at1 + 1)).2) := Prod.ext c_22 rfl
                  have eS := pS_f (K1 := K1) (K2 := K2) (K3 := K3) (K4 := K4) hm q59 hPf
                  have eA : (pAll rf L (a 8) (a 9) (a 10) (a 11)) = (false, (pPerson rf L (at1 + 1)).2.1, mm, K1, K2, K3, K4) := by rw [hA, pLoop_no (P := (at1, mm, K1, K2, K3, K4)) hcnd (by rw [eS]; exact Bool.false_ne_true), eS]
                  exact W.zret (v := 0) hx hb hr rfl (fun t ht hW => ⟨⟨0, ((upd (upd g 6 (nI (pPerson rf L (at1 + 1)).2.1)) 7 mv_20), (va_up (va_up (va_up (va_up a 8 K1_16) 9 K2_17) 10 K3_18) 11 K4_19)), rfl, ⟨(by rw [eA]; rfl), ⟨K1_16, K2_17, K3_18, K4_19, mv_20, fun z => by (rw [eA] at z; cases z), by rw [eA]⟩⟩, by rw [ht]; exact hP, va_K.moved hW.alike hK, hD⟩, hS.F ht⟩) hS.2.2 dX0_readAll_67
    have e107 : sgN rf L 0 107 = 1 := sgN_t q107
    rw [e107] at hP hD
    exact loop1 7 1 0 (a 8) (a 9) (a 10) (a 11) (sg_lt (by decide) q107) (by omega) (by omega) (by rw [pAll, if_pos q107]) _ _ hP hD hS _ (lv_sub hl [1, 0] rfl)
  · skip
    refine lv_iconst (v := 0) hx hb dX0_readAll_20 (by decide) ?_
    have q107 : ¬ pcode rf L 0 = 107 := of_decide_eq_false c_1
    have eA : (pAll rf L (a 8) (a 9) (a 10) (a 11)) = (false, 0, 0, a 8, a 9, a 10, a 11) := by rw [pAll, if_neg q107]
    exact W.zret (v := 0) hx hb hr rfl (fun t ht hW => ⟨⟨0, ((upd (upd g 6 (nI (sgN rf L 0 107))) 7 0), a), rfl, ⟨(by rw [eA]; rfl), ⟨a 8, a 9, a 10, a 11, 0, fun z => by (rw [eA] at z; cases z), by rw [eA, sgN_f q107]; exact ra_id g a⟩⟩, by rw [ht]; exact hP, va_K.moved hW.alike hK, hD⟩, hS.F ht⟩) hS.2.2 dX0_readAll_21
