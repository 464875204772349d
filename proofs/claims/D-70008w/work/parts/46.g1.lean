/-! LENT YOUTHS: small methods on people -/
theorem kdN_ok {x : Int32} (h : x = 0 ∨ x = 1 ∨ x = 2) : nI (kdN x) = x := by rcases h with rfl | rfl | rfl <;> rfl
theorem tellR_0 {x w : Int32} (h : kdN x = 0) : tellR x w = w := by rw [kdN_0 h]; rfl
theorem tellR_1 {x w : Int32} (h : kdN x = 1) : tellR x w = w + 100 := by rw [kdN_1 h]; rfl
theorem tellR_2 {x w : Int32} (h : kdN x = 2) : tellR x w = w + 100 + w := by
  unfold tellR
  rw [if_neg (kdN_2 h).1, if_neg (kdN_2 h).2, Int32.two_mul, Int32.add_assoc w 100 w, Int32.add_comm 100 w, ← Int32.add_assoc]
theorem tellT_0 {x w : Int32} (h : kdN x = 0) : tellT x w = 31 * w + 1 := by rw [kdN_0 h]; rfl
theorem tellT_1 {x w : Int32} (h : kdN x = 1) : tellT x w = 31 * (31 * w + 2) + 1 := by rw [kdN_1 h]; rfl
theorem tellT_2 {x w : Int32} (h : kdN x = 2) : tellT x w = 31 * (31 * (31 * (31 * w + 3) + 2) + 1) + 1 := by
  unfold tellT
  rw [if_neg (kdN_2 h).1, if_neg (kdN_2 h).2]
set_option maxHeartbeats 4000000 in
set_option maxRecDepth 100000 in
theorem metX0_reading (l : Launch) (dC : Nat → ClassId) (dI : Nat → Nat → Nat) (ct : Nat → ClassId) (A : Nat → Prop) (ex : va_W) (o : Nat) (q : Nat → Nat) (ql qs : Nat) (md : Int32) (qe n : Nat) (g : Nat → Int32) (a : Nat → Nat → Int32) (x : Int32) (sc : Int32) (b : Bool) (rn : Nat) (hn6 : n ≤ 6) (hr8 : rn ≤ 8) (hrn : g 21 = nI rn) : Met l yX0_reading (ws_ yX0_reading cX0_reading 4 (some .int)) ({ frames := 3, cells := 0, slots := 0, locals := 61 }) (xPre dC dI ct A ex o q (ql, qs, md, qe, n) g a [.ref o, .int x, .int sc, .int (b2i b)]) (va_Qi (fun (r : Int32) (u : (Nat → Int32) × (Nat → Nat → Int32)) => r = ((M_reading n rn g a x sc b)).1 ∧ u = ((M_reading n rn g a x sc b)).2) (xB dC dI ct A ex o q (ql, qs, md, qe, n)) A) 0 0 A := by
  refine Met.ofW (cc := cX0_reading) (maxL := 4) (ret := (some .int)) (by decide) rfl ?_
  intro p e s m args below meth c s₁ B hml hv
  obtain ⟨rfl, hP, hK, hD, hE⟩ := hv
  have hx := B.exec
  have hb := B.bytes
  have hr := B.returns
  have hts := atoms_spec (ws := ws_ yX0_reading cX0_reading 4 (some .int)) B.pre
  have hts : ∀ w ∈ lw_all, w.before _ s = true := fun w h => hts w (List.mem_cons_of_mem _ h)
  have hown : s.vm.findClass RX0 = some m.cls := findClass_of_methodNamed B.named
  have hlocks := B.notSynchronized
  have hS : va_S A s.heap s.heap [] := va_S.rf
  have hl := lv_entry ([.ref o, .int x, .int sc, .int (b2i b)]) (n := 4) (Nat.le_of_ble_eq_true rfl)
  rw [lg_entry_eq]
  generalize (lg_sl ([.ref o, .int x, .int sc, .int (b2i b)]) ++ List.replicate (4 - (lg_sl ([.ref o, .int x, .int sc, .int (b2i b)])).length) Slot.unset).toArray = ls at hl ⊢
  have hl : lv_has ls 4 [(0, .ref o), (1, .int x), (2, .int sc), (3, .int (b2i b))] := hl
  refine lv_aload_n hx hb dX0_reading_0 rfl (lv_at hl 0 rfl) ?_
  refine lv_iload_n hx hb dX0_reading_1 rfl (lv_at hl 1 rfl) ?_
  refine vp_callSi ((va_runV (As := [.int x]) (rest := []) ⟨hx, hb, hml, hown, hts⟩ (metX0_isPerson l dC dI ct A ex o q ql qs md qe n g a x hn6) (cwV 1 hts (lw_V q589 q591 qs13 q69 q592) rfl rfl rfl (by decide +kernel) ⟨Nat.le_of_ble_eq_true rfl, Nat.le_of_ble_eq_true rfl⟩) (xPV hK hP hD hE _) rfl rfl hl.1 rfl (lv_room (Nat.le_of_ble_eq_true rfl)) dX0_reading_2 ⟨Nat.zero_le _, Nat.zero_le _⟩)).run (fun r hw => ?_)
  have hw : r = (b2i (inP x n)) := hw
  subst hw
  refine bz_eq (tgt := 15) hx hb dX0_reading_5 (by decide) (fun c_1 => ?_) (fun c_1 => ?_)
  · skip
    refine lv_iconst (v := (-1)) hx hb dX0_reading_15 (by decide) ?_
    exact W.iret (v := (-1)) hx hb hr (fun t ht hW => ⟨⟨(-1), (g, a), rfl, ⟨(by simp [M_reading, show inP x n = false by simpa using c_1]), (by simp [M_reading, show inP x n = false by simpa using c_1])⟩, by rw [ht]; exact hP, va_K.moved hW.alike hK, hD⟩, hS.F ht⟩) hS.2.2 dX0_reading_16
  · skip
    have b1 : inP x n = true := by simpa using c_1
    refine lv_iload_n hx hb dX0_reading_8 rfl (lv_at hl 2 rfl) ?_
    refine vp_callSi ((va_runS (As := [.int sc]) (rest := []) ⟨hx, hb, hml, hown, hts⟩ (metX0_isScene l sc ) (va_cwS 1 hts (lw_S q802 q803 q69 q804) rfl rfl rfl (by decide +kernel) ⟨Nat.le_of_ble_eq_true rfl, Nat.le_of_ble_eq_true rfl⟩) (pcS _) rfl rfl hl.1 rfl (lv_room (Nat.le_of_ble_eq_true rfl)) dX0_reading_9 ⟨Nat.zero_le _, Nat.zero_le _⟩)).run (fun r hw => ?_)
    have hw : r = (b2i (inP sc 6)) := hw
    subst hw
    refine bz_ne (tgt := 17) hx hb dX0_reading_12 (by decide) (fun c_2 => ?_) (fun c_2 => ?_)
    · skip
      refine lv_aload_n hx hb dX0_reading_17 rfl (lv_at hl 0 rfl) ?_
      refine x_get (v := .int (g 21)) hx hb hts hown hK hP 21 (by decide) rfl q170 rfl dX0_reading_18 ?_
      refine lv_bipush (v := 8) hx hb dX0_reading_21 (by decide) ?_
      refine lv_icmp_ne (tgt := 29) hx hb dX0_reading_23 (by decide) (fun c_3 => ?_) (fun c_3 => ?_)
      · skip
        have c8 : ¬ rn = 8 := fun z => c_3 (by rw [hrn, z]; rfl)
        refine lv_aload_n hx hb dX0_reading_29 rfl (lv_at hl 0 rfl) ?_
        refine x_get (v := .ref (q 22)) hx hb hts hown hK hP 22 (by decide) rfl q171 rfl dX0_reading_30 ?_
        refine lv_aload_n hx hb dX0_reading_33 rfl (lv_at hl 0 rfl) ?_
        refine x_get (v := .int (g 21)) hx hb hts hown hK hP 21 (by decide) rfl q170 rfl dX0_reading_34 ?_
        refine lv_iload_n hx hb dX0_reading_37 rfl (lv_at hl 1 rfl) ?_
        refine x_ist (x := x) hx hb hK hP hD hS (xWa22 _ _ _ _ _ _ _) (xWs22 _ _ _ _ _ _ _) (a 22) rfl rn hrn (by omega) (by decide) dX0_reading_38 (fun H locs hP hD hS => ?_)
        refine lv_aload_n hx hb dX0_reading_39 rfl (lv_at hl 0 rfl) ?_
        refine x_get (v := .ref (q 23)) hx hb hts hown hK hP 23 (by decide) rfl q172 rfl dX0_reading_40 ?_
        refine lv_aload_n hx hb dX0_reading_43 rfl (lv_at hl 0 rfl) ?_
        refine x_get (v := .int (g 21)) hx hb hts hown hK hP 21 (by decide) rfl q170 rfl dX0_reading_44 ?_
        refine lv_iload_n hx hb dX0_reading_47 rfl (lv_at hl 2 rfl) ?_
        refine x_ist (x := sc) hx hb hK hP hD hS (xWa23 _ _ _ _ _ _ _) (xWs23 _ _ _ _ _ _ _) (a 23) rfl rn hrn (by omega) (by decide) dX0_reading_48 (fun H locs hP hD hS => ?_)
        refine lv_aload_n hx hb dX0_reading_49 rfl (lv_at hl 0 rfl) ?_
        refine x_get (v := .ref (q 24)) hx hb hts hown hK hP 24 (by decide) rfl q173 rfl dX0_reading_50 ?_
        refine lv_aload_n hx hb dX0_reading_53 rfl (lv_at hl 0 rfl) ?_
        refine x_get (v := .int (g 21)) hx hb hts hown hK hP 21 (by decide) rfl q170 rfl dX0_reading_54 ?_
        refine lv_iload_n hx hb dX0_reading_57 rfl (lv_at hl 3 rfl) ?_
        refine x_zst (x := (b2i b)) hx hb hK hP hD hS (xWa24 _ _ _ _ _ _ _) (xWs24 _ _ _ _ _ _ _) (a 24) rfl rn hrn (by omega) (by decide) (narZ_b2i _) dX0_reading_58 (fun H locs hP hD hS => ?_)
        refine lv_aload_n hx hb dX0_reading_59 rfl (lv_at hl 0 rfl) ?_
        refine lv_dup hx hb dX0_reading_60 rfl ?_
        refine x_get (v := .int (g 21)) hx hb hts hown hK hP 21 (by decide) rfl q170 rfl dX0_reading_61 ?_
        refine lv_iconst (v := 1) hx hb dX0_reading_64 (by decide) ?_
        refine lv_iadd hx hb dX0_reading_65 ?_
        refine x_put (v := ((g 21) + 1)) hx hb hts hown hK hP hD hS 21 21 (by decide) rfl q170 rfl rfl (by decide +kernel) dX0_reading_66 (fun H locs hP hD hS => ?_)
        refine lv_aload_n hx hb dX0_reading_69 rfl (lv_at hl 0 rfl) ?_
        refine x_get (v := .int ((g 21) + 1)) hx hb hts hown hK hP 21 (by decide) rfl q170 rfl dX0_reading_70 ?_
        refine lv_iconst (v := 1) hx hb dX0_reading_73 (by decide) ?_
        refine lv_isub hx hb dX0_reading_74 ?_
        exact W.iret (v := (((g 21) + 1) - 1)) hx hb hr (fun t ht hW => ⟨⟨(((g 21) + 1) - 1), ((upd g 21 ((g 21) + 1)), (va_up (va_up (va_up a 22 (upd (a 22) rn x)) 23 (upd (a 23) rn sc)) 24 (upd (a 24) rn (b2i b)))), rfl, ⟨(by simp only [M_reading, b1, c_2, and_self, if_true, if_neg c8, hrn]; rw [nI_1]; exact nI_pred rn), (by simp only [M_reading, b1, c_2, and_self, if_true, if_neg c8, hrn, nI_1])⟩, by rw [ht]; exact hP, va_K.moved hW.alike hK, hD⟩, hS.F ht⟩) hS.2.2 dX0_reading_75
      · skip
        have c8 : rn = 8 := by rw [hrn] at c_3; exact (nI_8 hr8).mp c_3
        refine lv_bipush (v := (-4)) hx hb dX0_reading_26 (by decide) ?_
        exact W.iret (v := (-4)) hx hb hr (fun t ht hW => ⟨⟨(-4), (g, a), rfl, ⟨(by simp [M_reading, hrn, c_1, b1, c_2, c_3, c8]), (by simp [M_reading, hrn, c_1, b1, c_2, c_3, c8])⟩, by rw [ht]; exact hP, va_K.moved hW.alike hK, hD⟩, hS.F ht⟩) hS.2.2 dX0_reading_28
    · skip
      refine lv_iconst (v := (-1)) hx hb dX0_reading_15 (by decide) ?_
      exact W.iret (v := (-1)) hx hb hr (fun t ht hW => ⟨⟨(-1), (g, a), rfl, ⟨(by simp [M_reading, hrn, c_1, b1, c_2]), (by simp [M_reading, hrn, c_1, b1, c_2])⟩, by rw [ht]; exact hP, va_K.moved hW.alike hK, hD⟩, hS.F ht⟩) hS.2.2 dX0_reading_16
set_option maxHeartbeats 4000000 in
set_option maxRecDepth 100000 in
theorem metX0_back (l : Launch) (dC : Nat → ClassId) (dI : Nat → Nat → Nat) (ct : Nat → ClassId) (A : Nat → Prop) (ex : va_W) (o : Nat) (q : Nat → Nat) (ql qs : Nat) (md : Int32) (qe n : Nat) (g : Nat → Int32) (a : Nat → Nat → Int32) (x : Int32) (rn : Nat) (hr8 : rn ≤ 8) (hrn : g 21 = nI rn) : Met l yX0_back (ws_ yX0_back cX0_back 2 (some .int)) ({ frames := 1, cells := 0, slots := 0, locals := 25 }) (xPre dC dI ct A ex o q (ql, qs, md, qe, n) g a [.ref o, .int x]) (va_Qi (fun (r : Int32) (u : (Nat → Int32) × (Nat → Nat → Int32)) => r = ((M_back rn g a x)).1 ∧ u = ((M_back rn g a x)).2) (xB dC dI ct A ex o q (ql, qs, md, qe, n)) A) 0 0 A := by
  refine Met.ofW (cc := cX0_back) (maxL := 2) (ret := (some .int)) (by decide) rfl ?_
  intro p e s m args below meth c s₁ B hml hv
  obtain ⟨rfl, hP, hK, hD, hE⟩ := hv
  have hx := B.exec
  have hb := B.bytes
  have hr := B.returns
  have hts := atoms_spec (ws := ws_ yX0_back cX0_back 2 (some .int)) B.pre
  have hts : ∀ w ∈ lw_all, w.before _ s = true := fun w h => hts w (List.mem_cons_of_mem _ h)
  have hown : s.vm.findClass RX0 = some m.cls := findClass_of_methodNamed B.named
  have hlocks := B.notSynchronized
  have hS : va_S A s.heap s.heap [] := va_S.rf
  have hl := lv_entry ([.ref o, .int x]) (n := 2) (Nat.le_of_ble_eq_true rfl)
  rw [lg_entry_eq]
  generalize (lg_sl ([.ref o, .int x]) ++ List.replicate (2 - (lg_sl ([.ref o, .int x])).length) Slot.unset).toArray = ls at hl ⊢
  have hl : lv_has ls 2 [(0, .ref o), (1, .int x)] := hl
  refine lv_iload_n hx hb dX0_back_0 rfl (lv_at hl 1 rfl) ?_
  refine lv_i2l (v := (Int32.toInt64 x)) hx hb dX0_back_1 rfl ?_
  refine lv_lconst (v := 0) hx hb dX0_back_2 (by decide) ?_
  refine lv_aload_n hx hb dX0_back_3 rfl (lv_at hl 0 rfl) ?_
  refine x_get (v := .int (g 21)) hx hb hts hown hK hP 21 (by decide) rfl q170 rfl dX0_back_4 ?_
  refine lv_i2l (v := (Int32.toInt64 (g 21))) hx hb dX0_back_7 rfl ?_
  refine vp_callSi ((va_runS (As := [.long (Int32.toInt64 x), .long 0, .long (Int32.toInt64 (g 21))]) (rest := []) ⟨hx, hb, hml, hown, hts⟩ (metX0_isIn l (Int32.toInt64 x) 0 (Int32.toInt64 (g 21)) ) (va_cwS 3 hts (lw_S q380 q381 q69 q382) rfl rfl rfl (by decide +kernel) ⟨Nat.le_of_ble_eq_true rfl, Nat.le_of_ble_eq_true rfl⟩) (pcS _) rfl rfl hl.1 rfl (lv_room (Nat.le_of_ble_eq_true rfl)) dX0_back_8 ⟨Nat.zero_le _, Nat.zero_le _⟩)).run (fun r hw => ?_)
  have hw : r = (b2i (lin (Int32.toInt64 x) 0 (Int32.toInt64 (g 21)))) := hw
  subst hw
  refine bz_ne (tgt := 17) hx hb dX0_back_11 (by decide) (fun c_1 => ?_) (fun c_1 => ?_)
  · skip
    rw [hrn, lin_read _ hr8] at c_1
    obtain ⟨ex0, hx8⟩ := inP_e (by omega) c_1
    have e1 : g 21 - x = nI (rn - cix x) := by rw [hrn, show x = nI (cix x) from ex0, cix_nI (by omega)]; exact pk_sub (by omega)
    refine lv_aload_n hx hb dX0_back_17 rfl (lv_at hl 0 rfl) ?_
    refine lv_dup hx hb dX0_back_18 rfl ?_
    refine x_get (v := .int (g 21)) hx hb hts hown hK hP 21 (by decide) rfl q170 rfl dX0_back_19 ?_
    refine lv_iload_n hx hb dX0_back_22 rfl (lv_at hl 1 rfl) ?_
    refine lv_isub hx hb dX0_back_23 ?_
    refine x_put (v := ((g 21) - x)) hx hb hts hown hK hP hD hS 21 21 (by decide) rfl q170 rfl rfl (by decide +kernel) dX0_back_24 (fun H locs hP hD hS => ?_)
    refine lv_aload_n hx hb dX0_back_27 rfl (lv_at hl 0 rfl) ?_
    refine x_get (v := .int ((g 21) - x)) hx hb hts hown hK hP 21 (by decide) rfl q170 rfl dX0_back_28 ?_
    exact W.iret (v := ((g 21) - x)) hx hb hr (fun t ht hW => ⟨⟨((g 21) - x), ((upd g 21 ((g 21) - x)), a), rfl, ⟨(by rw [M_back, if_pos c_1]; exact e1), (by rw [M_back, if_pos c_1]; exact congrArg (fun z => (upd g 21 z, a)) e1)⟩, by rw [ht]; exact hP, va_K.moved hW.alike hK, hD⟩, hS.F ht⟩) hS.2.2 dX0_back_31
  · skip
    rw [hrn, lin_read _ hr8] at c_1
    refine lv_bipush (v := (-2)) hx hb dX0_back_14 (by decide) ?_
    exact W.iret (v := (-2)) hx hb hr (fun t ht hW => ⟨⟨(-2), (g, a), rfl, ⟨(by simp [M_back, c_1]), (by simp [M_back, c_1])⟩, by rw [ht]; exact hP, va_K.moved hW.alike hK, hD⟩, hS.F ht⟩) hS.2.2 dX0_back_16
set_option maxHeartbeats 4000000 in
set_option maxRecDepth 100000 in
theorem metX0_ofPerson (l : Launch) (dC : Nat → ClassId) (dI : Nat → Nat → Nat) (ct : Nat → ClassId) (A : Nat → Prop) (ex : va_W) (o : Nat) (q : Nat → Nat) (ql qs : Nat) (md : Int32) (qe n : Nat) (y : Nat → Nat) (g : Nat → Int32) (a : Nat → Nat → Int32) (x : Int32) (what : Int32) (hn6 : n ≤ 6) (hkd : kdOk n (a 2)) : Met l yX0_ofPerson (ws_ yX0_ofPerson cX0_ofPerson 4 (some .int)) ({ frames := 3, cells := 0, slots := 0, locals := 64 }) (gPre dC dI ct A ex o q (ql, qs, md, qe, n) y g a [.ref o, .int x, .int what]) (vp_Si (fun r => r = (M_ofPerson n a x what))) 0 0 (fun _ => False) := by
  refine Met.ofW (cc := cX0_ofPerson) (maxL := 4) (ret := (some .int)) (by decide) rfl ?_
  intro p e s m args below meth c s₁ B hml hv
  obtain ⟨rfl, hP, hK, hD, hE⟩ := hv
  have hx := B.exec
  have hb := B.bytes
  have hr := B.returns
  have hts := atoms_spec (ws := ws_ yX0_ofPerson cX0_ofPerson 4 (some .int)) B.pre
  have hts : ∀ w ∈ lw_all, w.before _ s = true := fun w h => hts w (List.mem_cons_of_mem _ h)
  have hown : s.vm.findClass RX0 = some m.cls := findClass_of_methodNamed B.named
  have hlocks := B.notSynchronized
  have hS : va_S A s.heap s.heap [] := va_S.rf
  have hl := lv_entry ([.ref o, .int x, .int what]) (n := 4) (Nat.le_of_ble_eq_true rfl)
  rw [lg_entry_eq]
  generalize (lg_sl ([.ref o, .int x, .int what]) ++ List.replicate (4 - (lg_sl ([.ref o, .int x, .int what])).length) Slot.unset).toArray = ls at hl ⊢
  have hl : lv_has ls 4 [(0, .ref o), (1, .int x), (2, .int what)] := hl
  refine lv_aload_n hx hb dX0_ofPerson_0 rfl (lv_at hl 0 rfl) ?_
  refine lv_iload_n hx hb dX0_ofPerson_1 rfl (lv_at hl 1 rfl) ?_
  refine vp_callSi ((va_runV (As := [.int x]) (rest := []) ⟨hx, hb, hml, hown, hts⟩ (metX0_isPerson l dC dI ct A (peW ct o qe n y a ++ ex) o q ql qs md qe n g a x hn6) (cwV 1 hts (lw_V q589 q591 qs13 q69 q592) rfl rfl rfl (by decide +kernel) ⟨Nat.le_of_ble_eq_true rfl, Nat.le_of_ble_eq_true rfl⟩) (xPV hK hP hD hE _) rfl rfl hl.1 rfl (lv_room (Nat.le_of_ble_eq_true rfl)) dX0_ofPerson_2 ⟨Nat.zero_le _, Nat.zero_le _⟩)).run (fun r hw => ?_)
  have hw : r = (b2i (inP x n)) := hw
  subst hw
  refine bz_ne (tgt := 10) hx hb dX0_ofPerson_5 (by decide) (fun c_1 => ?_) (fun c_1 => ?_)
  · skip
    obtain ⟨K, hKn, ekK⟩ := inP_of (x := x) (n := n) (by omega) (by simpa using c_1)
    subst ekK
    have eK : cix (nI K) = K := cix_nI (by omega)
    have bK : inP (nI K) n = true := by rw [inP_nI (by omega)]; exact decide_eq_true hKn
    refine lv_aload_n hx hb dX0_ofPerson_10 rfl (lv_at hl 0 rfl) ?_
    refine g_get (v := .ref ql) hx hb hts hown hK hP 2 (by decide) rfl q146 rfl dX0_ofPerson_11 ?_
    refine lv_iload_n hx hb dX0_ofPerson_14 rfl (lv_at hl 1 rfl) ?_
    refine va_csFr (va_runF (As := [.int (nI K)]) (rest := []) (jAt hK) ⟨hx, hb, hml, hown, hts⟩ (metJ2_get l dC dI ct (xG ct o q (ql, qs, md, qe, n) y g a ex) ql md qe n 14 rfl K 15 10 (y K) (edF y n) (xG_ed (Nat.lt_of_le_of_lt (Nat.zero_le _) (by omega))) (Nat.lt_of_lt_of_le (by omega) (by omega)) (by omega) (if_pos (by omega)) (by omega) (by omega)) (va_cwF 1 hts (lw_F q607 q610 q612 q72 q614) rfl rfl rfl (xE_fw_get hE) (by decide +kernel) ⟨Nat.le_of_ble_eq_true rfl, Nat.le_of_ble_eq_true rfl⟩) (jPV (k := 14) (md := md) (qe := qe) (n := n) hK hP rfl _) rfl rfl hl.1 rfl (lv_room (Nat.le_of_ble_eq_true rfl)) dX0_ofPerson_15 ⟨Nat.zero_le _, Nat.zero_le _⟩) (fun r hw => ?_)
    have hw : (y K) = r := Eq.symm hw
    subst hw
    refine c_cast hx hb hts hown hK hP hE (by omega) q451 dX0_ofPerson_20 ?_
    refine lv_astore_n (lv' := [(3, .ref (y K)), (0, .ref o), (1, .int (nI K)), (2, .int what)]) hx hb dX0_ofPerson_23 rfl hl (by decide) rfl (fun ls hl => ?_)
    have hkd9 : nI (kdN (a 2 K)) = a 2 K := kdN_ok (hkd K hKn)
    refine lv_iload_n hx hb dX0_ofPerson_24 rfl (lv_at hl 3 rfl) ?_
    by_cases c_2 : what = 0
    · skip
      subst c_2
      refine lv_tableIn (tgt := 60) hx hb dX0_ofPerson_25 (by decide) (by decide) rfl (by decide) ?_
      refine lv_aload_n hx hb dX0_ofPerson_60 rfl (lv_at hl 0 rfl) ?_
      refine vp_callSi (post := fun r => r = (nI (kdN ((a 2) K)))) (a := ([.ref (y K)] : List Value).toArray) (rest := []) (va_Run.run ?_) (fun r hw => ?_)
      · skip
        rcases kdN_cases ((a 2) K) with hk | hk | hk
        · rw [hk]; exact va_runU (As := []) (rest := []) ⟨hx, hb, hml, hown, hts⟩ (metX3_kind l dC dI ct A ex o q ql qs md qe n y g a K (by omega) ) (va_cwU 0 hts (lw_U q625 q628 q627 q626 q85 q635) rfl rfl rfl rfl (by decide +kernel) ⟨Nat.le_of_ble_eq_true rfl, Nat.le_of_ble_eq_true rfl⟩) (cPV0 (a := a) (by omega) hk hK hP hD hE _) rfl rfl hl.1 rfl (lv_room (Nat.le_of_ble_eq_true rfl)) dX0_ofPerson_61 ⟨Nat.zero_le _, Nat.zero_le _⟩
        · rw [hk]; exact va_runU (As := []) (rest := []) ⟨hx, hb, hml, hown, hts⟩ (metX4_kind l dC dI ct A ex o q ql qs md qe n y g a K (by omega) (Or.inl hk)) (va_cwO 0 hts (lw_O q625 q628 q626 q629 q630 q86 q631) rfl rfl rfl q635 (by decide +kernel) ⟨Nat.le_of_ble_eq_true rfl, Nat.le_of_ble_eq_true rfl⟩) (cPV1 (a := a) (by omega) hk hK hP hD hE _) rfl rfl hl.1 rfl (lv_room (Nat.le_of_ble_eq_true rfl)) dX0_ofPerson_61 ⟨Nat.zero_le _, Nat.zero_le _⟩
        · rw [hk]; exact va_runU (As := []) (rest := []) ⟨hx, hb, hml, hown, hts⟩ (metX5_kind l dC dI ct A ex o q ql qs md qe n y g a K (by omega) hk) (va_cwO 0 hts (lw_O q625 q628 q626 q632 q633 q87 q634) rfl rfl rfl q635 (by decide +kernel) ⟨Nat.le_of_ble_eq_true rfl, Nat.le_of_ble_eq_true rfl⟩) (cPV2 (a := a) (by omega) hk hK hP hD hE _) rfl rfl hl.1 rfl (lv_room (Nat.le_of_ble_eq_true rfl)) dX0_ofPerson_61 ⟨Nat.zero_le _, Nat.zero_le _⟩
      have hw : r = (nI (kdN ((a 2) K))) := hw
      subst hw
      exact W.iret (v := (nI (kdN ((a 2) K)))) hx hb hr (fun t ht hW => ⟨(nI (kdN ((a 2) K))), rfl, (by simp [M_ofPerson, ofPv, hkd9, eK, c_1, bK]), ht⟩) (fun q h => by cases h) dX0_ofPerson_64
    by_cases c_3 : what = 1
    · skip
      subst c_3
      refine lv_tableIn (tgt := 65) hx hb dX0_ofPerson_25 (by decide) (by decide) rfl (by decide) ?_
      refine lv_aload_n hx hb dX0_ofPerson_65 rfl (lv_at hl 0 rfl) ?_
      refine c_getN (v := .int ((a 3) K)) hx hb hts hown hK hP (by omega) 1 (by decide) rfl (xE_q460 hE) dX0_ofPerson_66 ?_
      exact W.iret (v := ((a 3) K)) hx hb hr (fun t ht hW => ⟨((a 3) K), rfl, (by simp [M_ofPerson, ofPv, eK, c_1, bK, c_2]), ht⟩) (fun q h => by cases h) dX0_ofPerson_69
    by_cases c_4 : what = 2
    · skip
      subst c_4
      refine lv_tableIn (tgt := 70) hx hb dX0_ofPerson_25 (by decide) (by decide) rfl (by decide) ?_
      refine lv_aload_n hx hb dX0_ofPerson_70 rfl (lv_at hl 0 rfl) ?_
      refine c_getN (v := .int ((a 4) K)) hx hb hts hown hK hP (by omega) 2 (by decide) rfl (xE_q462 hE) dX0_ofPerson_71 ?_
      exact W.iret (v := ((a 4) K)) hx hb hr (fun t ht hW => ⟨((a 4) K), rfl, (by simp [M_ofPerson, ofPv, eK, c_1, bK, c_2, c_3]), ht⟩) (fun q h => by cases h) dX0_ofPerson_74
    by_cases c_5 : what = 3
    · skip
      subst c_5
      refine lv_tableIn (tgt := 75) hx hb dX0_ofPerson_25 (by decide) (by decide) rfl (by decide) ?_
      refine lv_aload_n hx hb dX0_ofPerson_75 rfl (lv_at hl 0 rfl) ?_
      refine c_getN (v := .int ((a 5) K)) hx hb hts hown hK hP (by omega) 3 (by decide) rfl (xE_q464 hE) dX0_ofPerson_76 ?_
      exact W.iret (v := ((a 5) K)) hx hb hr (fun t ht hW => ⟨((a 5) K), rfl, (by simp [M_ofPerson, ofPv, eK, c_1, bK, c_2, c_3, c_4]), ht⟩) (fun q h => by cases h) dX0_ofPerson_79
    by_cases c_6 : what = 4
    · skip
      subst c_6
      refine lv_tableIn (tgt := 80) hx hb dX0_ofPerson_25 (by decide) (by decide) rfl (by decide) ?_
      refine lv_aload_n hx hb dX0_ofPerson_80 rfl (lv_at hl 0 rfl) ?_
      refine vp_callSi (post := fun r => r = (lastsV ((a 2) K) ((a 5) K))) (a := ([.ref (y K)] : List Value).toArray) (rest := []) (va_Run.run ?_) (fun r hw => ?_)
      · skip
        rcases kdN_cases ((a 2) K) with hk | hk | hk
        · rw [lastsV_0 hk]; exact va_runU (As := []) (rest := []) ⟨hx, hb, hml, hown, hts⟩ (metX3_lasts l dC dI ct A ex o q ql qs md qe n y g a K (by omega) ) (va_cwU 0 hts (lw_U q636 q639 q638 q637 q85 q648) rfl rfl rfl rfl (by decide +kernel) ⟨Nat.le_of_ble_eq_true rfl, Nat.le_of_ble_eq_true rfl⟩) (cPV0 (a := a) (by omega) hk hK hP hD hE _) rfl rfl hl.1 rfl (lv_room (Nat.le_of_ble_eq_true rfl)) dX0_ofPerson_81 ⟨Nat.zero_le _, Nat.zero_le _⟩
        · rw [lastsV_1 hk]; exact va_runU (As := []) (rest := []) ⟨hx, hb, hml, hown, hts⟩ (metX4_lasts l dC dI ct A ex o q ql qs md qe n y g a K (by omega) (Or.inl hk)) (va_cwO 0 hts (lw_O q636 q639 q637 q640 q641 q86 q642) rfl rfl rfl q648 (by decide +kernel) ⟨Nat.le_of_ble_eq_true rfl, Nat.le_of_ble_eq_true rfl⟩) (cPV1 (a := a) (by omega) hk hK hP hD hE _) rfl rfl hl.1 rfl (lv_room (Nat.le_of_ble_eq_true rfl)) dX0_ofPerson_81 ⟨Nat.zero_le _, Nat.zero_le _⟩
        · rw [lastsV_2 hk]; exact va_runU (As := []) (rest := []) ⟨hx, hb, hml, hown, hts⟩ (metX5_lasts l dC dI ct A ex o q ql qs md qe n y g a K (by omega) hk) (va_cwO 0 hts (lw_O q636 q639 q637 q644 q645 q87 q646) rfl rfl rfl q648 (by decide +kernel) ⟨Nat.le_of_ble_eq_true rfl, Nat.le_of_ble_eq_true rfl⟩) (cPV2 (a := a) (by omega) hk hK hP hD hE _) rfl rfl hl.1 rfl (lv_room (Nat.le_of_ble_eq_true rfl)) dX0_ofPerson_81 ⟨Nat.zero_le _, Nat.zero_le _⟩
      have hw : r = (lastsV ((a 2) K) ((a 5) K)) := hw
      subst hw
      exact W.iret (v := (lastsV ((a 2) K) ((a 5) K))) hx hb hr (fun t ht hW => ⟨(lastsV ((a 2) K) ((a 5) K)), rfl, (by simp [M_ofPerson, ofPv, eK, c_1, bK, c_2, c_3, c_4, c_5]), ht⟩) (fun q h => by cases h) dX0_ofPerson_84
    refine lv_tableOut (tgt := 85) hx hb dX0_ofPerson_25 (sw_out (n := 5) (by decide) (fun j hj e => by rcases (show j = 0 ∨ j = 1 ∨ j = 2 ∨ j = 3 ∨ j = 4 by omega) with rfl | rfl | rfl | rfl | rfl <;> first | exact c_2 e | exact c_3 e | exact c_4 e | exact c_5 e | exact c_6 e)) (by decide) ?_
    refine lv_bipush (v := (-2)) hx hb dX0_ofPerson_85 (by decide) ?_
    exact W.iret (v := (-2)) hx hb hr (fun t ht hW => ⟨(-2), rfl, (by simp [M_ofPerson, ofPv, eK, c_1, bK, c_2, c_3, c_4, c_5, c_6]), ht⟩) (fun q h => by cases h) dX0_ofPerson_87
  · skip
    refine lv_iconst (v := (-1)) hx hb dX0_ofPerson_8 (by decide) ?_
    exact W.iret (v := (-1)) hx hb hr (fun t ht hW => ⟨(-1), rfl, (by simp [M_ofPerson, show inP x n = false by simpa using c_1]), ht⟩) (fun q h => by cases h) dX0_ofPerson_9
set_option maxHeartbeats 4000000 in
set_option maxRecDepth 100000 in
theorem metX0_live (l : Launch) (dC : Nat → ClassId) (dI : Nat → Nat → Nat) (ct : Nat → ClassId) (A : Nat → Prop) (ex : va_W) (o : Nat) (q : Nat → Nat) (ql qs : Nat) (md : Int32) (qe n : Nat) (y : Nat → Nat) (g : Nat → Int32) (a : Nat → Nat → Int32) (x : Int32) (set : Int32) (hn6 : n ≤ 6) : Met l yX0_live (ws_ yX0_live cX0_live 4 (some .int)) ({ frames := 3, cells := 0, slots := 0, locals := 64 }) (gPre dC dI ct A ex o q (ql, qs, md, qe, n) y g a [.ref o, .int x, .int set]) (va_Qi (fun (r : Int32) (u : (Nat → Int32) × (Nat → Nat → Int32)) => r = ((M_live n g a x set)).1 ∧ u = ((M_live n g a x set)).2) (gB dC dI ct A ex o q (ql, qs, md, qe, n) y) A) 0 0 A := by
  refine Met.ofW (cc := cX0_live) (maxL := 4) (ret := (some .int)) (by decide) rfl ?_
  intro p e s m args below meth c s₁ B hml hv
  obtain ⟨rfl, hP, hK, hD, hE⟩ := hv
  have hx := B.exec
  have hb := B.bytes
  have hr := B.returns
  have hts := atoms_spec (ws := ws_ yX0_live cX0_live 4 (some .int)) B.pre
  have hts : ∀ w ∈ lw_all, w.before _ s = true := fun w h => hts w (List.mem_cons_of_mem _ h)
  have hown : s.vm.findClass RX0 = some m.cls := findClass_of_methodNamed B.named
  have hlocks := B.notSynchronized
  have hS : va_S A s.heap s.heap [] := va_S.rf
  have hl := lv_entry ([.ref o, .int x, .int set]) (n := 4) (Nat.le_of_ble_eq_true rfl)
  rw [lg_entry_eq]
  generalize (lg_sl ([.ref o, .int x, .int set]) ++ List.replicate (4 - (lg_sl ([.ref o, .int x, .int set])).length) Slot.unset).toArray = ls at hl ⊢
  have hl : lv_has ls 4 [(0, .ref o), (1, .int x), (2, .int set)] := hl
  refine lv_aload_n hx hb dX0_live_0 rfl (lv_at hl 0 rfl) ?_
  refine lv_iload_n hx hb dX0_live_1 rfl (lv_at hl 1 rfl) ?_
  refine vp_callSi ((va_runV (As := [.int x]) (rest := []) ⟨hx, hb, hml, hown, hts⟩ (metX0_isPerson l dC dI ct A (peW ct o qe n y a ++ ex) o q ql qs md qe n g a x hn6) (cwV 1 hts (lw_V q589 q591 qs13 q69 q592) rfl rfl rfl (by decide +kernel) ⟨Nat.le_of_ble_eq_true rfl, Nat.le_of_ble_eq_true rfl⟩) (xPV hK hP hD hE _) rfl rfl hl.1 rfl (lv_room (Nat.le_of_ble_eq_true rfl)) dX0_live_2 ⟨Nat.zero_le _, Nat.zero_le _⟩)).run (fun r hw => ?_)
  have hw : r = (b2i (inP x n)) := hw
  subst hw
  refine bz_ne (tgt := 10) hx hb dX0_live_5 (by decide) (fun c_1 => ?_) (fun c_1 => ?_)
  · skip
    obtain ⟨K, hKn, ekK⟩ := inP_of (x := x) (n := n) (by omega) (by simpa using c_1)
    subst ekK
    have eK : cix (nI K) = K := cix_nI (by omega)
    have bK : inP (nI K) n = true := by rw [inP_nI (by omega)]; exact decide_eq_true hKn
    refine lv_iload_n hx hb dX0_live_10 rfl (lv_at hl 2 rfl) ?_
    refine lv_i2l (v := (Int32.toInt64 set)) hx hb dX0_live_11 rfl ?_
    refine lv_lconst (v := 0) hx hb dX0_live_12 (by decide) ?_
    refine lv_ldc2 (v := 63) hx hb hown (hts _ q653) dX0_live_13 ?_
    refine vp_callSi ((va_runS (As := [.long (Int32.toInt64 set), .long 0, .long 63]) (rest := []) ⟨hx, hb, hml, hown, hts⟩ (metX0_isIn l (Int32.toInt64 set) 0 63 ) (va_cwS 3 hts (lw_S q380 q381 q69 q382) rfl rfl rfl (by decide +kernel) ⟨Nat.le_of_ble_eq_true rfl, Nat.le_of_ble_eq_true rfl⟩) (pcS _) rfl rfl hl.1 rfl (lv_room (Nat.le_of_ble_eq_true rfl)) dX0_live_16 ⟨Nat.zero_le _, Nat.zero_le _⟩)).run (fun r hw => ?_)
    have hw : r = (b2i (lin (Int32.toInt64 set) 0 63)) := hw
    subst hw
    refine bz_ne (tgt := 25) hx hb dX0_live_19 (by decide) (fun c_2 => ?_) (fun c_2 => ?_)
    · skip
      rw [lin_inP _ _ 64 (by decide)] at c_2
      refine lv_aload_n hx hb dX0_live_25 rfl (lv_at hl 0 rfl) ?_
      refine g_get (v := .ref ql) hx hb hts hown hK hP 2 (by decide) rfl q146 rfl dX0_live_26 ?_
      refine lv_iload_n hx hb dX0_live_29 rfl (lv_at hl 1 rfl) ?_
      refine va_csFr (va_runF (As := [.int (nI K)]) (rest := []) (jAt hK) ⟨hx, hb, hml, hown, hts⟩ (metJ2_get l dC dI ct (xG ct o q (ql, qs, md, qe, n) y g a ex) ql md qe n 14 rfl K 15 10 (y K) (edF y n) (xG_ed (Nat.lt_of_le_of_lt (Nat.zero_le _) (by omega))) (Nat.lt_of_lt_of_le (by omega) (by omega)) (by omega) (if_pos (by omega)) (by omega) (by omega)) (va_cwF 1 hts (lw_F q607 q610 q612 q72 q614) rfl rfl rfl (xE_fw_get hE) (by decide +kernel) ⟨Nat.le_of_ble_eq_true rfl, Nat.le_of_ble_eq_true rfl⟩) (jPV (k := 14) (md := md) (qe := qe) (n := n) hK hP rfl _) rfl rfl hl.1 rfl (lv_room (Nat.le_of_ble_eq_true rfl)) dX0_live_30 ⟨Nat.zero_le _, Nat.zero_le _⟩) (fun r hw => ?_)
      have hw : (y K) = r := Eq.symm hw
      subst hw
      refine c_cast hx hb hts hown hK hP hE (by omega) q451 dX0_live_35 ?_
      refine c_getN (v := .int ((a 3) K)) hx hb hts hown hK hP (by omega) 1 (by decide) rfl (xE_q460 hE) dX0_live_38 ?_
      refine lv_istore_n (lv' := [(3, .int ((a 3) K)), (0, .ref o), (1, .int (nI K)), (2, .int set)]) hx hb dX0_live_41 rfl hl (by decide) rfl (fun ls hl => ?_)
      refine lv_aload_n hx hb dX0_live_42 rfl (lv_at hl 1 rfl) ?_
      refine g_get (v := .ref ql) hx hb hts hown hK hP 2 (by decide) rfl q146 rfl dX0_live_43 ?_
      refine lv_iload_n hx hb dX0_live_46 rfl (lv_at hl 2 rfl) ?_
      refine va_csFr (va_runF (As := [.int (nI K)]) (rest := []) (jAt hK) ⟨hx, hb, hml, hown, hts⟩ (metJ2_get l dC dI ct (xG ct o q (ql, qs, md, qe, n) y g a ex) ql md qe n 14 rfl K 15 10 (y K) (edF y n) (xG_ed (Nat.lt_of_le_of_lt (Nat.zero_le _) (by omega))) (Nat.lt_of_lt_of_le (by omega) (by omega)) (by omega) (if_pos (by omega)) (by omega) (by omega)) (va_cwF 1 hts (lw_F q607 q610 q612 q72 q614) rfl rfl rfl (xE_fw_get hE) (by decide +kernel) ⟨Nat.le_of_ble_eq_true rfl, Nat.le_of_ble_eq_true rfl⟩) (jPV (k := 14) (md := md) (qe := qe) (n := n) hK hP rfl _) rfl rfl hl.1 rfl (lv_room (Nat.le_of_ble_eq_true rfl)) dX0_live_47 ⟨Nat.zero_le _, Nat.zero_le _⟩) (fun r hw => ?_)
      have hw : (y K) = r := Eq.symm hw
      subst hw
      refine c_cast hx hb hts hown hK hP hE (by omega) q451 dX0_live_52 ?_
      refine lv_iload_n hx hb dX0_live_55 rfl (lv_at hl 3 rfl) ?_
      refine c_putN (v := set) hx hb hts hown hK hP hD hS (by omega) 1 3 (by unfold chK; decide) (xE_q460 hE) dX0_live_56 (fun H locs hP hD hS => ?_)
      have hP : va_P (dC, dI) clA (xG ct o q (ql, qs, md, qe, n) y g (va_up a 3 (upd (a 3) K set)) ex) H := hP
      have hD : va_D A (xG ct o q (ql, qs, md, qe, n) y g (va_up a 3 (upd (a 3) K set)) ex) := hD
      refine lv_iload_n hx hb dX0_live_59 rfl (lv_at hl 0 rfl) ?_
      exact W.iret (v := ((a 3) K)) hx hb hr (fun t ht hW => ⟨⟨((a 3) K), (g, (va_up a 3 (upd (a 3) K set))), rfl, ⟨(by simp [M_live, eK, c_1, bK, c_2]), (by simp [M_live, eK, c_1, bK, c_2])⟩, by rw [ht]; exact hP, va_K.moved hW.alike hK, hD⟩, hS.F ht⟩) hS.2.2 dX0_live_60
    · skip
      rw [lin_inP _ _ 64 (by decide)] at c_2
      refine lv_bipush (v := (-2)) hx hb dX0_live_22 (by decide) ?_
      exact W.iret (v := (-2)) hx hb hr (fun t ht hW => ⟨⟨(-2), (g, a), rfl, ⟨(by simp [M_live, eK, c_1, bK, c_2]), (by simp [M_live, eK, c_1, bK, c_2])⟩, by rw [ht]; exact hP, va_K.moved hW.alike hK, hD⟩, hS.F ht⟩) hS.2.2 dX0_live_24
  · skip
    refine lv_iconst (v := (-1)) hx hb dX0_live_8 (by decide) ?_
    exact W.iret (v := (-1)) hx hb hr (fun t ht hW => ⟨⟨(-1), (g, a), rfl, ⟨(by simp [M_live, show inP x n = false by simpa using c_1]), (by simp [M_live, show inP x n = false by simpa using c_1])⟩, by rw [ht]; exact hP, va_K.moved hW.alike hK, hD⟩, hS.F ht⟩) hS.2.2 dX0_live_9
set_option maxHeartbeats 4000000 in
set_option maxRecDepth 100000 in
theorem metX0_want (l : Launch) (dC : Nat → ClassId) (dI : Nat → Nat → Nat) (ct : Nat → ClassId) (A : Nat → Prop) (ex : va_W) (o : Nat) (q : Nat → Nat) (ql qs : Nat) (md : Int32) (qe n : Nat) (y : Nat → Nat) (g : Nat → Int32) (a : Nat → Nat → Int32) (x : Int32) (set : Int32) (hn6 : n ≤ 6) : Met l yX0_want (ws_ yX0_want cX0_want 4 (some .int)) ({ frames := 3, cells := 0, slots := 0, locals := 64 }) (gPre dC dI ct A ex o q (ql, qs, md, qe, n) y g a [.ref o, .int x, .int set]) (va_Qi (fun (r : Int32) (u : (Nat → Int32) × (Nat → Nat → Int32)) => r = ((M_want n g a x set)).1 ∧ u = ((M_want n g a x set)).2) (gB dC dI ct A ex o q (ql, qs, md, qe, n) y) A) 0 0 A := by
  refine Met.ofW (cc := cX0_want) (maxL := 4) (ret := (some .int)) (by decide) rfl ?_
  intro p e s m args below meth c s₁ B hml hv
  obtain ⟨rfl, hP, hK, hD, hE⟩ := hv
  have hx := B.exec
  have hb := B.bytes
  have hr := B.returns
  have hts := atoms_spec (ws := ws_ yX0_want cX0_want 4 (some .int)) B.pre
  have hts : ∀ w ∈ lw_all, w.before _ s = true := fun w h => hts w (List.mem_cons_of_mem _ h)
  have hown : s.vm.findClass RX0 = some m.cls := findClass_of_methodNamed B.named
  have hlocks := B.notSynchronized
  have hS : va_S A s.heap s.heap [] := va_S.rf
  have hl := lv_entry ([.ref o, .int x, .int set]) (n := 4) (Nat.le_of_ble_eq_true rfl)
  rw [lg_entry_eq]
  generalize (lg_sl ([.ref o, .int x, .int set]) ++ List.replicate (4 - (lg_sl ([.ref o, .int x, .int set])).length) Slot.unset).toArray = ls at hl ⊢
  have hl : lv_has ls 4 [(0, .ref o), (1, .int x), (2, .int set)] := hl
  refine lv_aload_n hx hb dX0_want_0 rfl (lv_at hl 0 rfl) ?_
  refine lv_iload_n hx hb dX0_want_1 rfl (lv_at hl 1 rfl) ?_
  refine vp_callSi ((va_runV (As := [.int x]) (rest := []) ⟨hx, hb, hml, hown, hts⟩ (metX0_isPerson l dC dI ct A (peW ct o qe n y a ++ ex) o q ql qs md qe n g a x hn6) (cwV 1 hts (lw_V q589 q591 qs13 q69 q592) rfl rfl rfl (by decide +kernel) ⟨Nat.le_of_ble_eq_true rfl, Nat.le_of_ble_eq_true rfl⟩) (xPV hK hP hD hE _) rfl rfl hl.1 rfl (lv_room (Nat.le_of_ble_eq_true rfl)) dX0_want_2 ⟨Nat.zero_le _, Nat.zero_le _⟩)).run (fun r hw => ?_)
  have hw : r = (b2i (inP x n)) := hw
  subst hw
  refine bz_ne (tgt := 10) hx hb dX0_want_5 (by decide) (fun c_1 => ?_) (fun c_1 => ?_)
  · skip
    obtain ⟨K, hKn, ekK⟩ := inP_of (x := x) (n := n) (by omega) (by simpa using c_1)
    subst ekK
    have eK : cix (nI K) = K := cix_nI (by omega)
    have bK : inP (nI K) n = true := by rw [inP_nI (by omega)]; exact decide_eq_true hKn
    refine lv_iload_n hx hb dX0_want_10 rfl (lv_at hl 2 rfl) ?_
    refine lv_i2l (v := (Int32.toInt64 set)) hx hb dX0_want_11 rfl ?_
    refine lv_lconst (v := 0) hx hb dX0_want_12 (by decide) ?_
    refine lv_ldc2 (v := 6) hx hb hown (hts _ q658) dX0_want_13 ?_
    refine vp_callSi ((va_runS (As := [.long (Int32.toInt64 set), .long 0, .long 6]) (rest := []) ⟨hx, hb, hml, hown, hts⟩ (metX0_isIn l (Int32.toInt64 set) 0 6 ) (va_cwS 3 hts (lw_S q380 q381 q69 q382) rfl rfl rfl (by decide +kernel) ⟨Nat.le_of_ble_eq_true rfl, Nat.le_of_ble_eq_true rfl⟩) (pcS _) rfl rfl hl.1 rfl (lv_room (Nat.le_of_ble_eq_true rfl)) dX0_want_16 ⟨Nat.zero_le _, Nat.zero_le _⟩)).run (fun r hw => ?_)
    have hw : r = (b2i (lin (Int32.toInt64 set) 0 6)) := hw
    subst hw
    refine bz_ne (tgt := 25) hx hb dX0_want_19 (by decide) (fun c_2 => ?_) (fun c_2 => ?_)
    · skip
      rw [lin_inP _ _ 7 (by decide)] at c_2
      refine lv_aload_n hx hb dX0_want_25 rfl (lv_at hl 0 rfl) ?_
      refine g_get (v := .ref ql) hx hb hts hown hK hP 2 (by decide) rfl q146 rfl dX0_want_26 ?_
      refine lv_iload_n hx hb dX0_want_29 rfl (lv_at hl 1 rfl) ?_
      refine va_csFr (va_runF (As := [.int (nI K)]) (rest := []) (jAt hK) ⟨hx, hb, hml, hown, hts⟩ (metJ2_get l dC dI ct (xG ct o q (ql, qs, md, qe, n) y g a ex) ql md qe n 14 rfl K 15 10 (y K) (edF y n) (xG_ed (Nat.lt_of_le_of_lt (Nat.zero_le _) (by omega))) (Nat.lt_of_lt_of_le (by omega) (by omega)) (by omega) (if_pos (by omega)) (by omega) (by omega)) (va_cwF 1 hts (lw_F q607 q610 q612 q72 q614) rfl rfl rfl (xE_fw_get hE) (by decide +kernel) ⟨Nat.le_of_ble_eq_true rfl, Nat.le_of_ble_eq_true rfl⟩) (jPV (k := 14) (md := md) (qe := qe) (n := n) hK hP rfl _) rfl rfl hl.1 rfl (lv_room (Nat.le_of_ble_eq_true rfl)) dX0_want_30 ⟨Nat.zero_le _, Nat.zero_le _⟩) (fun r hw => ?_)
      have hw : (y K) = r := Eq.symm hw
      subst hw
      refine c_cast hx hb hts hown hK hP hE (by omega) q451 dX0_want_35 ?_
      refine c_getN (v := .int ((a 4) K)) hx hb hts hown hK hP (by omega) 2 (by decide) rfl (xE_q462 hE) dX0_want_38 ?_
      refine lv_istore_n (lv' := [(3, .int ((a 4) K)), (0, .ref o), (1, .int (nI K)), (2, .int set)]) hx hb dX0_want_41 rfl hl (by decide) rfl (fun ls hl => ?_)
      refine lv_aload_n hx hb dX0_want_42 rfl (lv_at hl 1 rfl) ?_
      refine g_get (v := .ref ql) hx hb hts hown hK hP 2 (by decide) rfl q146 rfl dX0_want_43 ?_
      refine lv_iload_n hx hb dX0_want_46 rfl (lv_at hl 2 rfl) ?_
      refine va_csFr (va_runF (As := [.int (nI K)]) (rest := []) (jAt hK) ⟨hx, hb, hml, hown, hts⟩ (metJ2_get l dC dI ct (xG ct o q (ql, qs, md, qe, n) y g a ex) ql md qe n 14 rfl K 15 10 (y K) (edF y n) (xG_ed (Nat.lt_of_le_of_lt (Nat.zero_le _) (by omega))) (Nat.lt_of_lt_of_le (by omega) (by omega)) (by omega) (if_pos (by omega)) (by omega) (by omega)) (va_cwF 1 hts (lw_F q607 q610 q612 q72 q614) rfl rfl rfl (xE_fw_get hE) (by decide +kernel) ⟨Nat.le_of_ble_eq_true rfl, Nat.le_of_ble_eq_true rfl⟩) (jPV (k := 14) (md := md) (qe := qe) (n := n) hK hP rfl _) rfl rfl hl.1 rfl (lv_room (Nat.le_of_ble_eq_true rfl)) dX0_want_47 ⟨Nat.zero_le _, Nat.zero_le _⟩) (fun r hw => ?_)
      have hw : (y K) = r := Eq.symm hw
      subst hw
      refine c_cast hx hb hts hown hK hP hE (by omega) q451 dX0_want_52 ?_
      refine lv_iload_n hx hb dX0_want_55 rfl (lv_at hl 3 rfl) ?_
      refine c_putN (v := set) hx hb hts hown hK hP hD hS (by omega) 2 4 (by unfold chK; decide) (xE_q462 hE) dX0_want_56 (fun H locs hP hD hS => ?_)
      have hP : va_P (dC, dI) clA (xG ct o q (ql, qs, md, qe, n) y g (va_up a 4 (upd (a 4) K set)) ex) H := hP
      have hD : va_D A (xG ct o q (ql, qs, md, qe, n) y g (va_up a 4 (upd (a 4) K set)) ex) := hD
      refine lv_iload_n hx hb dX0_want_59 rfl (lv_at hl 0 rfl) ?_
      exact W.iret (v := ((a 4) K)) hx hb hr (fun t ht hW => ⟨⟨((a 4) K), (g, (va_up a 4 (upd (a 4) K set))), rfl, ⟨(by simp [M_want, eK, c_1, bK, c_2]), (by simp [M_want, eK, c_1, bK, c_2])⟩, by rw [ht]; exact hP, va_K.moved hW.alike hK, hD⟩, hS.F ht⟩) hS.2.2 dX0_want_60
    · skip
      rw [lin_inP _ _ 7 (by decide)] at c_2
      refine lv_bipush (v := (-2)) hx hb dX0_want_22 (by decide) ?_
      exact W.iret (v := (-2)) hx hb hr (fun t ht hW => ⟨⟨(-2), (g, a), rfl, ⟨(by simp [M_want, eK, c_1, bK, c_2]), (by simp [M_want, eK, c_1, bK, c_2])⟩, by rw [ht]; exact hP, va_K.moved hW.alike hK, hD⟩, hS.F ht⟩) hS.2.2 dX0_want_24
  · skip
    refine lv_iconst (v := (-1)) hx hb dX0_want_8 (by decide) ?_
    exact W.iret (v := (-1)) hx hb hr (fun t ht hW => ⟨⟨(-1), (g, a), rfl, ⟨(by simp [M_want, show inP x n = false by simpa using c_1]), (by simp [M_want, show inP x n = false by simpa using c_1])⟩, by rw [ht]; exact hP, va_K.moved hW.alike hK, hD⟩, hS.F ht⟩) hS.2.2 dX0_want_9
set_option maxHeartbeats 4000000 in
set_option maxRecDepth 100000 in
theorem metX0_tell (l : Launch) (dC : Nat → ClassId) (dI : Nat → Nat → Nat) (ct : Nat → ClassId) (A : Nat → Prop) (ex : va_W) (o : Nat) (q : Nat → Nat) (ql qs : Nat) (md : Int32) (qe n : Nat) (y : Nat → Nat) (g : Nat → Int32) (a : Nat → Nat → Int32) (x : Int32) (hn6 : n ≤ 6) : Met l yX0_tell (ws_ yX0_tell cX0_tell 2 (some .int)) ({ frames := 5, cells := 0, slots := 0, locals := 101 }) (gPre dC dI ct A ex o q (ql, qs, md, qe, n) y g a [.ref o, .int x]) (va_Qi (fun (r : Int32) (u : (Nat → Int32) × (Nat → Nat → Int32)) => r = ((M_tell n g a x)).1 ∧ u = ((M_tell n g a x)).2) (gB dC dI ct A ex o q (ql, qs, md, qe, n) y) A) 0 0 A := by
  refine Met.ofW (cc := cX0_tell) (maxL := 2) (ret := (some .int)) (by decide) rfl ?_
  intro p e s m args below meth c s₁ B hml hv
  obtain ⟨rfl, hP, hK, hD, hE⟩ := hv
  have hx := B.exec
  have hb := B.bytes
  have hr := B.returns
  have hts := atoms_spec (ws := ws_ yX0_tell cX0_tell 2 (some .int)) B.pre
  have hts : ∀ w ∈ lw_all, w.before _ s = true := fun w h => hts w (List.mem_cons_of_mem _ h)
  have hown : s.vm.findClass RX0 = some m.cls := findClass_of_methodNamed B.named
  have hlocks := B.notSynchronized
  have hS : va_S A s.heap s.heap [] := va_S.rf
  have hl := lv_entry ([.ref o, .int x]) (n := 2) (Nat.le_of_ble_eq_true rfl)
  rw [lg_entry_eq]
  generalize (lg_sl ([.ref o, .int x]) ++ List.replicate (2 - (lg_sl ([.ref o, .int x])).length) Slot.unset).toArray = ls at hl ⊢
  have hl : lv_has ls 2 [(0, .ref o), (1, .int x)] := hl
  refine lv_aload_n hx hb dX0_tell_0 rfl (lv_at hl 0 rfl) ?_
  refine lv_iload_n hx hb dX0_tell_1 rfl (lv_at hl 1 rfl) ?_
  refine vp_callSi ((va_runV (As := [.int x]) (rest := []) ⟨hx, hb, hml, hown, hts⟩ (metX0_isPerson l dC dI ct A (peW ct o qe n y a ++ ex) o q ql qs md qe n g a x hn6) (cwV 1 hts (lw_V q589 q591 qs13 q69 q592) rfl rfl rfl (by decide +kernel) ⟨Nat.le_of_ble_eq_true rfl, Nat.le_of_ble_eq_true rfl⟩) (xPV hK hP hD hE _) rfl rfl hl.1 rfl (lv_room (Nat.le_of_ble_eq_true rfl)) dX0_tell_2 ⟨Nat.zero_le _, Nat.zero_le _⟩)).run (fun r hw => ?_)
  have hw : r = (b2i (inP x n)) := hw
  subst hw
  refine bz_eq (tgt := 27) hx hb dX0_tell_5 (by decide) (fun c_1 => ?_) (fun c_1 => ?_)
  · skip
    refine lv_iconst (v := (-1)) hx hb dX0_tell_27 (by decide) ?_
    exact W.iret (v := (-1)) hx hb hr (fun t ht hW => ⟨⟨(-1), (g, a), rfl, ⟨(by simp [M_tell, show inP x n = false by simpa using c_1]), (by simp [M_tell, show inP x n = false by simpa using c_1])⟩, by rw [ht]; exact hP, va_K.moved hW.alike hK, hD⟩, hS.F ht⟩) hS.2.2 dX0_tell_28
  · skip
    obtain ⟨K, hKn, ekK⟩ := inP_of (x := x) (n := n) (by omega) (by simpa using c_1)
    subst ekK
    have eK : cix (nI K) = K := cix_nI (by omega)
    have bK : inP (nI K) n = true := by rw [inP_nI (by omega)]; exact decide_eq_true hKn
    refine lv_aload_n hx hb dX0_tell_8 rfl (lv_at hl 0 rfl) ?_
    refine g_get (v := .ref ql) hx hb hts hown hK hP 2 (by decide) rfl q146 rfl dX0_tell_9 ?_
    refine lv_iload_n hx hb dX0_tell_12 rfl (lv_at hl 1 rfl) ?_
    refine va_csFr (va_runF (As := [.int (nI K)]) (rest := []) (jAt hK) ⟨hx, hb, hml, hown, hts⟩ (metJ2_get l dC dI ct (xG ct o q (ql, qs, md, qe, n) y g a ex) ql md qe n 14 rfl K 15 10 (y K) (edF y n) (xG_ed (Nat.lt_of_le_of_lt (Nat.zero_le _) (by omega))) (Nat.lt_of_lt_of_le (by omega) (by omega)) (by omega) (if_pos (by omega)) (by omega) (by omega)) (va_cwF 1 hts (lw_F q607 q610 q612 q72 q614) rfl rfl rfl (xE_fw_get hE) (by decide +kernel) ⟨Nat.le_of_ble_eq_true rfl, Nat.le_of_ble_eq_true rfl⟩) (jPV (k := 14) (md := md) (qe := qe) (n := n) hK hP rfl _) rfl rfl hl.1 rfl (lv_room (Nat.le_of_ble_eq_true rfl)) dX0_tell_13 ⟨Nat.zero_le _, Nat.zero_le _⟩) (fun r hw => ?_)
    have hw : (y K) = r := Eq.symm hw
    subst hw
    refine c_cast hx hb hts hown hK hP hE (by omega) q451 dX0_tell_18 ?_
    refine va_calli (post := fun (r : Int32) (u : MS) => r = (tellR ((a 2) K) ((a 5) K)) ∧ u = ((upd g 29 (tellT ((a 2) K) (g 29))), a)) (B := gB dC dI ct A ex o q (ql, qs, md, qe, n) y) (A1 := A) (mc := 0) (ms := 0) (free := A) (a := ([.ref (y K)] : List Value).toArray) (rest := []) ?_ hS (fun q _ h => h) (fun q h => h) (fun r u t H1 locs ht hvm hw hB hz1 hk1 hS => ?_)
    · skip
      rcases kdN_cases ((a 2) K) with hk | hk | hk
      · rw [tellR_0 hk, tellT_0 hk]; exact va_runU (As := []) (rest := []) ⟨hx, hb, hml, hown, hts⟩ (metX3_tell l dC dI ct A ex o q ql qs md qe n y g a K (by omega) ) (va_cwU 0 hts (lw_U q895 q898 q897 q896 q85 q919) rfl rfl rfl rfl (by decide +kernel) ⟨Nat.le_of_ble_eq_true rfl, Nat.le_of_ble_eq_true rfl⟩) (cPV0 (a := a) (by omega) hk hK hP hD hE _) rfl rfl hl.1 rfl (lv_room (Nat.le_of_ble_eq_true rfl)) dX0_tell_21 ⟨Nat.zero_le _, Nat.zero_le _⟩
      · rw [tellR_1 hk, tellT_1 hk]; exact va_runU (As := []) (rest := []) ⟨hx, hb, hml, hown, hts⟩ (metX4_tell l dC dI ct A ex o q ql qs md qe n y g a K (by omega) (Or.inl hk)) (va_cwO 0 hts (lw_O q895 q898 q896 q899 q900 q86 q901) rfl rfl rfl q919 (by decide +kernel) ⟨Nat.le_of_ble_eq_true rfl, Nat.le_of_ble_eq_true rfl⟩) (cPV1 (a := a) (by omega) hk hK hP hD hE _) rfl rfl hl.1 rfl (lv_room (Nat.le_of_ble_eq_true rfl)) dX0_tell_21 ⟨Nat.zero_le _, Nat.zero_le _⟩
      · rw [tellR_2 hk, tellT_2 hk]; exact va_runU (As := []) (rest := []) ⟨hx, hb, hml, hown, hts⟩ (metX5_tell l dC dI ct A ex o q ql qs md qe n y g a K (by omega) hk) (va_cwO 0 hts (lw_O q895 q898 q896 q907 q908 q87 q909) rfl rfl rfl q919 (by decide +kernel) ⟨Nat.le_of_ble_eq_true rfl, Nat.le_of_ble_eq_true rfl⟩) (cPV2 (a := a) (by omega) hk hK hP hD hE _) rfl rfl hl.1 rfl (lv_room (Nat.le_of_ble_eq_true rfl)) dX0_tell_21 ⟨Nat.zero_le _, Nat.zero_le _⟩
    obtain ⟨hw, hw2⟩ := hw
    have hw : r = (tellR ((a 2) K) ((a 5) K)) := hw
    subst hw
    subst hw2
    obtain ⟨hP, -, hD⟩ := hB
    rw [ht] at hP
    generalize H1 = H at hP hS ⊢
    have hP : va_P (dC, dI) clA (xG ct o q (ql, qs, md, qe, n) y (upd g 29 (tellT ((a 2) K) (g 29))) a ex) H := hP
    have hD : va_D A (xG ct o q (ql, qs, md, qe, n) y (upd g 29 (tellT ((a 2) K) (g 29))) a ex) := hD
    refine lv_goto (tgt := 28) hx hb dX0_tell_24 (by decide) ?_
    exact W.iret (v := (tellR ((a 2) K) ((a 5) K))) hx hb hr (fun t ht hW => ⟨⟨(tellR ((a 2) K) ((a 5) K)), ((upd g 29 (tellT ((a 2) K) (g 29))), a), rfl, ⟨(by simp [M_tell, eK, c_1, bK]), (by simp [M_tell, eK, c_1, bK])⟩, by rw [ht]; exact hP, va_K.moved hW.alike hK, hD⟩, hS.F ht⟩) hS.2.2 dX0_tell_28
