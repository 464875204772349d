/-! LENT YOUTHS: loans, odds, what is asked -/
theorem lin20 {M : Nat} (h : M ≤ 20) : lin (nI M).toInt64 0 20 = true := by
  rw [lin_inP _ _ 21 (by decide), inP_nI (by omega)]; exact decide_eq_true (by omega)
theorem inPn {n P : Nat} (hn : n ≤ 6) (h : P < n) : inP (nI P) n = true := by rw [inP_nI (by omega)]; exact decide_eq_true h
set_option maxHeartbeats 4000000 in
set_option maxRecDepth 100000 in
theorem metX0_loans_bad (l : Launch) (dC : Nat → ClassId) (dI : Nat → Nat → Nat) (ct : Nat → ClassId) (A : Nat → Prop) (ex : va_W) (o : Nat) (q : Nat → Nat) (ql qs : Nat) (md : Int32) (qe n : Nat) (y : Nat → Nat) (g : Nat → Int32) (a : Nat → Nat → Int32) (htr : l.stackTraces = false) (k : Int32) (lane : Int32) (i : Int32) (z : Int32) (w : Int32) (hk4 : inP k 4 = false) : Met l yX0_loans (wsW_ yX0_loans cX0_loans 7 (some .int) [((55 : Nat), (82 : Nat), (83 : Nat), (173 : Nat)), ((55 : Nat), (82 : Nat), (91 : Nat), (179 : Nat)), ((55 : Nat), (82 : Nat), (99 : Nat), (183 : Nat))]) ({ frames := 16, cells := 8, slots := 3000, locals := 12000 }) (sPre dC dI ct A ex o q (ql, qs, md, qe, n) y g a [.ref o, .int k, .int lane, .int i, .int z, .int w]) (va_Qi (fun (r : Int32) (u : (Nat → Int32) × (Nat → Nat → Int32)) => r = (-1) ∧ u = ((upd g 0 0), a)) (fun u t => gB dC dI ct A ex o q (ql, qs, md, qe, n) y u t) A) 8 3000 A := by
  refine cx_MetW (cc := cX0_loans) (maxL := 7) (ret := (some .int)) (hh := [((55 : Nat), (82 : Nat), (83 : Nat), (173 : Nat)), ((55 : Nat), (82 : Nat), (91 : Nat), (179 : Nat)), ((55 : Nat), (82 : Nat), (99 : Nat), (183 : Nat))]) (by decide) rfl ?_
  intro p e s m args below meth c s₁ B hml het hv
  obtain ⟨rfl, hP, hK, hD, hE, hE9, hA, hst, hI9⟩ := hv
  have hN9 := hE9.now
  have hx := B.exec
  have hb := B.bytes
  have hr := B.returns
  have hts := atoms_spec (ws := wsW_ yX0_loans cX0_loans 7 (some .int) [((55 : Nat), (82 : Nat), (83 : Nat), (173 : Nat)), ((55 : Nat), (82 : Nat), (91 : Nat), (179 : Nat)), ((55 : Nat), (82 : Nat), (99 : Nat), (183 : Nat))]) B.pre
  have hts : ∀ w ∈ lw_all, w.before _ s = true := fun w h => hts w (List.mem_cons_of_mem _ h)
  have hown : s.vm.findClass RX0 = some m.cls := findClass_of_methodNamed B.named
  have hlocks := B.notSynchronized
  have hS : va_S A s.heap s.heap [] := va_S.rf
  have hl := lv_entry ([.ref o, .int k, .int lane, .int i, .int z, .int w]) (n := 7) (Nat.le_of_ble_eq_true rfl)
  rw [lg_entry_eq]
  generalize (lg_sl ([.ref o, .int k, .int lane, .int i, .int z, .int w]) ++ List.replicate (7 - (lg_sl ([.ref o, .int k, .int lane, .int i, .int z, .int w])).length) Slot.unset).toArray = ls at hl ⊢
  have hl : lv_has ls 7 [(0, .ref o), (1, .int k), (2, .int lane), (3, .int i), (4, .int z), (5, .int w)] := hl
  refine lv_aload_n hx hb dX0_loans_0 rfl (lv_at hl 0 rfl) ?_
  refine lv_iconst (v := 0) hx hb dX0_loans_1 (by decide) ?_
  refine g_put (v := 0) hx hb hts hown hK hP hD hS 0 0 (by decide) rfl q144 rfl rfl (by decide +kernel) dX0_loans_2 (fun H locs hP hD hS => ?_)
  refine lv_iload_n hx hb dX0_loans_5 rfl (lv_at hl 1 rfl) ?_
  refine vp_callSi ((va_runS (As := [.int k]) (rest := []) ⟨hx, hb, hml, hown, hts⟩ (metX0_isSheet l k ) (va_cwS 1 hts (lw_S q376 q377 q69 q378) rfl rfl rfl (by decide +kernel) ⟨Nat.le_of_ble_eq_true rfl, Nat.le_of_ble_eq_true rfl⟩) (pcS _) rfl rfl hl.1 rfl (lv_room (Nat.le_of_ble_eq_true rfl)) dX0_loans_6 ⟨Nat.le_of_ble_eq_true rfl, Nat.le_of_ble_eq_true rfl⟩)).run (fun r hw => ?_)
  have hw : r = (b2i (inP k 4)) := hw
  subst hw
  refine bz_ne (tgt := 14) hx hb dX0_loans_9 (by decide) (fun c_1 => ?_) (fun c_1 => ?_)
  · skip
    exact False.elim (by rw [hk4] at c_1; cases c_1)
  · skip
    refine lv_iconst (v := (-1)) hx hb dX0_loans_12 (by decide) ?_
    refine W.widen (k := 8) (n := 3000) (Nat.le_of_ble_eq_true rfl) (Nat.le_of_ble_eq_true rfl) ?_
    exact W.iret (v := (-1)) hx hb hr (fun t ht hW => ⟨⟨(-1), ((upd g 0 0), a), rfl, ⟨(by first | rfl | (simp [c_1]; done)), rfl⟩, by rw [ht]; exact hP, va_K.moved hW.alike hK, hD⟩, hS.F ht⟩) hS.2.2 dX0_loans_13
set_option maxHeartbeats 4000000 in
set_option maxRecDepth 100000 in
theorem metX0_loans_out (l : Launch) (dC : Nat → ClassId) (dI : Nat → Nat → Nat) (ct : Nat → ClassId) (A : Nat → Prop) (ex : va_W) (o : Nat) (q : Nat → Nat) (ql qs : Nat) (md : Int32) (qe n : Nat) (y : Nat → Nat) (g : Nat → Int32) (a : Nat → Nat → Int32) (htr : l.stackTraces = false) (k : Int32) (lane : Int32) (i : Int32) (z : Int32) (w : Int32) (hk4 : inP k 4 = true) (ho : ¬ (inP lane 3 = true ∧ lin z.toInt64 0 20 = true ∧ whatV w = true)) : Met l yX0_loans (wsW_ yX0_loans cX0_loans 7 (some .int) [((55 : Nat), (82 : Nat), (83 : Nat), (173 : Nat)), ((55 : Nat), (82 : Nat), (91 : Nat), (179 : Nat)), ((55 : Nat), (82 : Nat), (99 : Nat), (183 : Nat))]) ({ frames := 16, cells := 8, slots := 3000, locals := 12000 }) (sPre dC dI ct A ex o q (ql, qs, md, qe, n) y g a [.ref o, .int k, .int lane, .int i, .int z, .int w]) (va_Qi (fun (r : Int32) (u : (Nat → Int32) × (Nat → Nat → Int32)) => r = (-2) ∧ u = ((upd g 0 0), a)) (fun u t => gB dC dI ct A ex o q (ql, qs, md, qe, n) y u t) A) 8 3000 A := by
  refine cx_MetW (cc := cX0_loans) (maxL := 7) (ret := (some .int)) (hh := [((55 : Nat), (82 : Nat), (83 : Nat), (173 : Nat)), ((55 : Nat), (82 : Nat), (91 : Nat), (179 : Nat)), ((55 : Nat), (82 : Nat), (99 : Nat), (183 : Nat))]) (by decide) rfl ?_
  intro p e s m args below meth c s₁ B hml het hv
  obtain ⟨rfl, hP, hK, hD, hE, hE9, hA, hst, hI9⟩ := hv
  have hN9 := hE9.now
  have hx := B.exec
  have hb := B.bytes
  have hr := B.returns
  have hts := atoms_spec (ws := wsW_ yX0_loans cX0_loans 7 (some .int) [((55 : Nat), (82 : Nat), (83 : Nat), (173 : Nat)), ((55 : Nat), (82 : Nat), (91 : Nat), (179 : Nat)), ((55 : Nat), (82 : Nat), (99 : Nat), (183 : Nat))]) B.pre
  have hts : ∀ w ∈ lw_all, w.before _ s = true := fun w h => hts w (List.mem_cons_of_mem _ h)
  have hown : s.vm.findClass RX0 = some m.cls := findClass_of_methodNamed B.named
  have hlocks := B.notSynchronized
  have hS : va_S A s.heap s.heap [] := va_S.rf
  have hl := lv_entry ([.ref o, .int k, .int lane, .int i, .int z, .int w]) (n := 7) (Nat.le_of_ble_eq_true rfl)
  rw [lg_entry_eq]
  generalize (lg_sl ([.ref o, .int k, .int lane, .int i, .int z, .int w]) ++ List.replicate (7 - (lg_sl ([.ref o, .int k, .int lane, .int i, .int z, .int w])).length) Slot.unset).toArray = ls at hl ⊢
  have hl : lv_has ls 7 [(0, .ref o), (1, .int k), (2, .int lane), (3, .int i), (4, .int z), (5, .int w)] := hl
  refine lv_aload_n hx hb dX0_loans_0 rfl (lv_at hl 0 rfl) ?_
  refine lv_iconst (v := 0) hx hb dX0_loans_1 (by decide) ?_
  refine g_put (v := 0) hx hb hts hown hK hP hD hS 0 0 (by decide) rfl q144 rfl rfl (by decide +kernel) dX0_loans_2 (fun H locs hP hD hS => ?_)
  refine lv_iload_n hx hb dX0_loans_5 rfl (lv_at hl 1 rfl) ?_
  refine vp_callSi ((va_runS (As := [.int k]) (rest := []) ⟨hx, hb, hml, hown, hts⟩ (metX0_isSheet l k ) (va_cwS 1 hts (lw_S q376 q377 q69 q378) rfl rfl rfl (by decide +kernel) ⟨Nat.le_of_ble_eq_true rfl, Nat.le_of_ble_eq_true rfl⟩) (pcS _) rfl rfl hl.1 rfl (lv_room (Nat.le_of_ble_eq_true rfl)) dX0_loans_6 ⟨Nat.le_of_ble_eq_true rfl, Nat.le_of_ble_eq_true rfl⟩)).run (fun r hw => ?_)
  have hw : r = (b2i (inP k 4)) := hw
  subst hw
  refine bz_ne (tgt := 14) hx hb dX0_loans_9 (by decide) (fun c_1 => ?_) (fun c_1 => ?_)
  · skip
    refine lv_iload_n hx hb dX0_loans_14 rfl (lv_at hl 2 rfl) ?_
    refine vp_callSi ((va_runS (As := [.int lane]) (rest := []) ⟨hx, hb, hml, hown, hts⟩ (metX0_isLane l lane ) (va_cwS 1 hts (lw_S q383 q384 q69 q385) rfl rfl rfl (by decide +kernel) ⟨Nat.le_of_ble_eq_true rfl, Nat.le_of_ble_eq_true rfl⟩) (pcS _) rfl rfl hl.1 rfl (lv_room (Nat.le_of_ble_eq_true rfl)) dX0_loans_15 ⟨Nat.le_of_ble_eq_true rfl, Nat.le_of_ble_eq_true rfl⟩)).run (fun r hw => ?_)
    have hw : r = (b2i (inP lane 3)) := hw
    subst hw
    refine bz_eq (tgt := 42) hx hb dX0_loans_18 (by decide) (fun c_2 => ?_) (fun c_2 => ?_)
    · skip
      refine lv_bipush (v := (-2)) hx hb dX0_loans_42 (by decide) ?_
      refine W.widen (k := 8) (n := 3000) (Nat.le_of_ble_eq_true rfl) (Nat.le_of_ble_eq_true rfl) ?_
      exact W.iret (v := (-2)) hx hb hr (fun t ht hW => ⟨⟨(-2), ((upd g 0 0), a), rfl, ⟨(by first | rfl | (simp [c_1, c_2]; done)), rfl⟩, by rw [ht]; exact hP, va_K.moved hW.alike hK, hD⟩, hS.F ht⟩) hS.2.2 dX0_loans_44
    · skip
      refine lv_iload hx hb dX0_loans_21 (lv_at hl 4 rfl) ?_
      refine lv_i2l (v := (Int32.toInt64 z)) hx hb dX0_loans_23 rfl ?_
      refine lv_lconst (v := 0) hx hb dX0_loans_24 (by decide) ?_
      refine lv_ldc2 (v := 20) hx hb hown (hts _ q663) dX0_loans_25 ?_
      refine vp_callSi ((va_runS (As := [.long (Int32.toInt64 z), .long 0, .long 20]) (rest := []) ⟨hx, hb, hml, hown, hts⟩ (metX0_isIn l (Int32.toInt64 z) 0 20 ) (va_cwS 3 hts (lw_S q380 q381 q69 q382) rfl rfl rfl (by decide +kernel) ⟨Nat.le_of_ble_eq_true rfl, Nat.le_of_ble_eq_true rfl⟩) (pcS _) rfl rfl hl.1 rfl (lv_room (Nat.le_of_ble_eq_true rfl)) dX0_loans_28 ⟨Nat.le_of_ble_eq_true rfl, Nat.le_of_ble_eq_true rfl⟩)).run (fun r hw => ?_)
      have hw : r = (b2i (lin (Int32.toInt64 z) 0 20)) := hw
      subst hw
      refine bz_eq (tgt := 42) hx hb dX0_loans_31 (by decide) (fun c_3 => ?_) (fun c_3 => ?_)
      · skip
        refine lv_bipush (v := (-2)) hx hb dX0_loans_42 (by decide) ?_
        refine W.widen (k := 8) (n := 3000) (Nat.le_of_ble_eq_true rfl) (Nat.le_of_ble_eq_true rfl) ?_
        exact W.iret (v := (-2)) hx hb hr (fun t ht hW => ⟨⟨(-2), ((upd g 0 0), a), rfl, ⟨(by first | rfl | (simp [c_1, c_2, c_3]; done)), rfl⟩, by rw [ht]; exact hP, va_K.moved hW.alike hK, hD⟩, hS.F ht⟩) hS.2.2 dX0_loans_44
      · skip
        refine lv_iload hx hb dX0_loans_34 (lv_at hl 5 rfl) ?_
        refine vp_callSi ((va_runS (As := [.int w]) (rest := []) ⟨hx, hb, hml, hown, hts⟩ (metX0_isWhat l w ) (va_cwS 1 hts (lw_S q664 q665 q69 q666) rfl rfl rfl (by decide +kernel) ⟨Nat.le_of_ble_eq_true rfl, Nat.le_of_ble_eq_true rfl⟩) (pcS _) rfl rfl hl.1 rfl (lv_room (Nat.le_of_ble_eq_true rfl)) dX0_loans_36 ⟨Nat.le_of_ble_eq_true rfl, Nat.le_of_ble_eq_true rfl⟩)).run (fun r hw => ?_)
        have hw : r = (b2i (whatV w)) := hw
        subst hw
        refine bz_ne (tgt := 45) hx hb dX0_loans_39 (by decide) (fun c_4 => ?_) (fun c_4 => ?_)
        · skip
          exact False.elim (by exact ho ⟨c_2, c_3, c_4⟩)
        · skip
          refine lv_bipush (v := (-2)) hx hb dX0_loans_42 (by decide) ?_
          refine W.widen (k := 8) (n := 3000) (Nat.le_of_ble_eq_true rfl) (Nat.le_of_ble_eq_true rfl) ?_
          exact W.iret (v := (-2)) hx hb hr (fun t ht hW => ⟨⟨(-2), ((upd g 0 0), a), rfl, ⟨(by first | rfl | (simp [c_1, c_2, c_3, c_4]; done)), rfl⟩, by rw [ht]; exact hP, va_K.moved hW.alike hK, hD⟩, hS.F ht⟩) hS.2.2 dX0_loans_44
  · skip
    exact False.elim (by rw [hk4] at c_1; cases c_1)
set_option maxHeartbeats 4000000 in
set_option maxRecDepth 100000 in
theorem metX0_loans_st (l : Launch) (dC : Nat → ClassId) (dI : Nat → Nat → Nat) (ct : Nat → ClassId) (A : Nat → Prop) (ex : va_W) (o : Nat) (q : Nat → Nat) (ql qs : Nat) (md : Int32) (qe n : Nat) (y : Nat → Nat) (g : Nat → Int32) (a : Nat → Nat → Int32) (htr : l.stackTraces = false) (k : Int32) (lane : Int32) (i : Int32) (z : Int32) (w : Int32) (hk4 : inP k 4 = true) (hl3 : inP lane 3 = true) (hz : lin z.toInt64 0 20 = true) (hwv : whatV w = true) (hn6 : n ≤ 6) (hnz : n = 0) : Met l yX0_loans (wsW_ yX0_loans cX0_loans 7 (some .int) [((55 : Nat), (82 : Nat), (83 : Nat), (173 : Nat)), ((55 : Nat), (82 : Nat), (91 : Nat), (179 : Nat)), ((55 : Nat), (82 : Nat), (99 : Nat), (183 : Nat))]) ({ frames := 16, cells := 8, slots := 3000, locals := 12000 }) (sPre dC dI ct A ex o q (ql, qs, md, qe, n) y g a [.ref o, .int k, .int lane, .int i, .int z, .int w]) (va_Qi (fun (r : Int32) (u : (Nat → Int32) × (Nat → Nat → Int32)) => r = (-3) ∧ u = ((upd g 0 0), a)) (fun u t => gB dC dI ct A ex o q (ql, qs, md, qe, n) y u t) A) 8 3000 A := by
  refine cx_MetW (cc := cX0_loans) (maxL := 7) (ret := (some .int)) (hh := [((55 : Nat), (82 : Nat), (83 : Nat), (173 : Nat)), ((55 : Nat), (82 : Nat), (91 : Nat), (179 : Nat)), ((55 : Nat), (82 : Nat), (99 : Nat), (183 : Nat))]) (by decide) rfl ?_
  intro p e s m args below meth c s₁ B hml het hv
  obtain ⟨rfl, hP, hK, hD, hE, hE9, hA, hst, hI9⟩ := hv
  have hN9 := hE9.now
  have hx := B.exec
  have hb := B.bytes
  have hr := B.returns
  have hts := atoms_spec (ws := wsW_ yX0_loans cX0_loans 7 (some .int) [((55 : Nat), (82 : Nat), (83 : Nat), (173 : Nat)), ((55 : Nat), (82 : Nat), (91 : Nat), (179 : Nat)), ((55 : Nat), (82 : Nat), (99 : Nat), (183 : Nat))]) B.pre
  have hts : ∀ w ∈ lw_all, w.before _ s = true := fun w h => hts w (List.mem_cons_of_mem _ h)
  have hown : s.vm.findClass RX0 = some m.cls := findClass_of_methodNamed B.named
  have hlocks := B.notSynchronized
  have hS : va_S A s.heap s.heap [] := va_S.rf
  have hl := lv_entry ([.ref o, .int k, .int lane, .int i, .int z, .int w]) (n := 7) (Nat.le_of_ble_eq_true rfl)
  rw [lg_entry_eq]
  generalize (lg_sl ([.ref o, .int k, .int lane, .int i, .int z, .int w]) ++ List.replicate (7 - (lg_sl ([.ref o, .int k, .int lane, .int i, .int z, .int w])).length) Slot.unset).toArray = ls at hl ⊢
  have hl : lv_has ls 7 [(0, .ref o), (1, .int k), (2, .int lane), (3, .int i), (4, .int z), (5, .int w)] := hl
  refine lv_aload_n hx hb dX0_loans_0 rfl (lv_at hl 0 rfl) ?_
  refine lv_iconst (v := 0) hx hb dX0_loans_1 (by decide) ?_
  refine g_put (v := 0) hx hb hts hown hK hP hD hS 0 0 (by decide) rfl q144 rfl rfl (by decide +kernel) dX0_loans_2 (fun H locs hP hD hS => ?_)
  refine lv_iload_n hx hb dX0_loans_5 rfl (lv_at hl 1 rfl) ?_
  refine vp_callSi ((va_runS (As := [.int k]) (rest := []) ⟨hx, hb, hml, hown, hts⟩ (metX0_isSheet l k ) (va_cwS 1 hts (lw_S q376 q377 q69 q378) rfl rfl rfl (by decide +kernel) ⟨Nat.le_of_ble_eq_true rfl, Nat.le_of_ble_eq_true rfl⟩) (pcS _) rfl rfl hl.1 rfl (lv_room (Nat.le_of_ble_eq_true rfl)) dX0_loans_6 ⟨Nat.le_of_ble_eq_true rfl, Nat.le_of_ble_eq_true rfl⟩)).run (fun r hw => ?_)
  have hw : r = (b2i (inP k 4)) := hw
  subst hw
  refine bz_ne (tgt := 14) hx hb dX0_loans_9 (by decide) (fun c_1 => ?_) (fun c_1 => ?_)
  · skip
    refine lv_iload_n hx hb dX0_loans_14 rfl (lv_at hl 2 rfl) ?_
    refine vp_callSi ((va_runS (As := [.int lane]) (rest := []) ⟨hx, hb, hml, hown, hts⟩ (metX0_isLane l lane ) (va_cwS 1 hts (lw_S q383 q384 q69 q385) rfl rfl rfl (by decide +kernel) ⟨Nat.le_of_ble_eq_true rfl, Nat.le_of_ble_eq_true rfl⟩) (pcS _) rfl rfl hl.1 rfl (lv_room (Nat.le_of_ble_eq_true rfl)) dX0_loans_15 ⟨Nat.le_of_ble_eq_true rfl, Nat.le_of_ble_eq_true rfl⟩)).run (fun r hw => ?_)
    have hw : r = (b2i (inP lane 3)) := hw
    subst hw
    refine bz_eq (tgt := 42) hx hb dX0_loans_18 (by decide) (fun c_2 => ?_) (fun c_2 => ?_)
    · skip
      exact False.elim (by rw [hl3] at c_2; cases c_2)
    · skip
      refine lv_iload hx hb dX0_loans_21 (lv_at hl 4 rfl) ?_
      refine lv_i2l (v := (Int32.toInt64 z)) hx hb dX0_loans_23 rfl ?_
      refine lv_lconst (v := 0) hx hb dX0_loans_24 (by decide) ?_
      refine lv_ldc2 (v := 20) hx hb hown (hts _ q663) dX0_loans_25 ?_
      refine vp_callSi ((va_runS (As := [.long (Int32.toInt64 z), .long 0, .long 20]) (rest := []) ⟨hx, hb, hml, hown, hts⟩ (metX0_isIn l (Int32.toInt64 z) 0 20 ) (va_cwS 3 hts (lw_S q380 q381 q69 q382) rfl rfl rfl (by decide +kernel) ⟨Nat.le_of_ble_eq_true rfl, Nat.le_of_ble_eq_true rfl⟩) (pcS _) rfl rfl hl.1 rfl (lv_room (Nat.le_of_ble_eq_true rfl)) dX0_loans_28 ⟨Nat.le_of_ble_eq_true rfl, Nat.le_of_ble_eq_true rfl⟩)).run (fun r hw => ?_)
      have hw : r = (b2i (lin (Int32.toInt64 z) 0 20)) := hw
      subst hw
      refine bz_eq (tgt := 42) hx hb dX0_loans_31 (by decide) (fun c_3 => ?_) (fun c_3 => ?_)
      · skip
        exact False.elim (by rw [hz] at c_3; cases c_3)
      · skip
        refine lv_iload hx hb dX0_loans_34 (lv_at hl 5 rfl) ?_
        refine vp_callSi ((va_runS (As := [.int w]) (rest := []) ⟨hx, hb, hml, hown, hts⟩ (metX0_isWhat l w ) (va_cwS 1 hts (lw_S q664 q665 q69 q666) rfl rfl rfl (by decide +kernel) ⟨Nat.le_of_ble_eq_true rfl, Nat.le_of_ble_eq_true rfl⟩) (pcS _) rfl rfl hl.1 rfl (lv_room (Nat.le_of_ble_eq_true rfl)) dX0_loans_36 ⟨Nat.le_of_ble_eq_true rfl, Nat.le_of_ble_eq_true rfl⟩)).run (fun r hw => ?_)
        have hw : r = (b2i (whatV w)) := hw
        subst hw
        refine bz_ne (tgt := 45) hx hb dX0_loans_39 (by decide) (fun c_4 => ?_) (fun c_4 => ?_)
        · skip
          refine lv_aload_n hx hb dX0_loans_45 rfl (lv_at hl 0 rfl) ?_
          refine vp_callSi ((va_runV (As := []) (rest := []) ⟨hx, hb, hml, hown, hts⟩ (metX0_isCounter l dC dI ct A (peW ct o qe n y a ++ ex) o q ql qs md qe n (upd g 0 0) a  hn6) (cwV 0 hts (lw_V q672 q674 qs15 q69 q675) rfl rfl rfl (by decide +kernel) ⟨Nat.le_of_ble_eq_true rfl, Nat.le_of_ble_eq_true rfl⟩) (xPV hK hP hD hE _) rfl rfl hl.1 rfl (lv_room (Nat.le_of_ble_eq_true rfl)) dX0_loans_46 ⟨Nat.le_of_ble_eq_true rfl, Nat.le_of_ble_eq_true rfl⟩)).run (fun r hw => ?_)
          have hw : r = (b2i (!(decide (n = 0)))) := hw
          subst hw
          refine bz_ne (tgt := 55) hx hb dX0_loans_49 (by decide) (fun c_5 => ?_) (fun c_5 => ?_)
          · skip
            exact False.elim (by simp [hnz] at c_5)
          · skip
            refine lv_bipush (v := (-3)) hx hb dX0_loans_52 (by decide) ?_
            refine W.widen (k := 8) (n := 3000) (Nat.le_of_ble_eq_true rfl) (Nat.le_of_ble_eq_true rfl) ?_
            exact W.iret (v := (-3)) hx hb hr (fun t ht hW => ⟨⟨(-3), ((upd g 0 0), a), rfl, ⟨(by first | rfl | (simp [c_1, c_2, c_3, c_4, c_5]; done)), rfl⟩, by rw [ht]; exact hP, va_K.moved hW.alike hK, hD⟩, hS.F ht⟩) hS.2.2 dX0_loans_54
        · skip
          exact False.elim (by rw [hwv] at c_4; cases c_4)
  · skip
    exact False.elim (by rw [hk4] at c_1; cases c_1)
set_option maxHeartbeats 4000000 in
set_option maxRecDepth 100000 in
theorem metX0_loans_n (l : Launch) (dC : Nat → ClassId) (dI : Nat → Nat → Nat) (ct : Nat → ClassId) (A : Nat → Prop) (ex : va_W) (o : Nat) (q : Nat → Nat) (ql qs : Nat) (md : Int32) (qe n : Nat) (y : Nat → Nat) (g : Nat → Int32) (a : Nat → Nat → Int32) (htr : l.stackTraces = false) (K : Nat) (lz : Nat) (i : Int32) (M : Nat) (w : Int32) (j0 : Nat) (pl : Nat → Nat) (hj0 : ex[j0]? = some (qs, .inl (ct 5, 4, .inr (.inr (.inr (.inr (fun j => some (pl j)))))))) (K : Nat) (hK4 : K < 4) (j1 : Nat) (hj1 : ex[j1]? = some (pl K, .inr (6, [.null]))) (hlz : lz < 3) (hM : M ≤ 20) (hwv : whatV w = true) (hn6 : n ≤ 6) (hnz : ¬ n = 0) : Met l yX0_loans (wsW_ yX0_loans cX0_loans 7 (some .int) [((55 : Nat), (82 : Nat), (83 : Nat), (173 : Nat)), ((55 : Nat), (82 : Nat), (91 : Nat), (179 : Nat)), ((55 : Nat), (82 : Nat), (99 : Nat), (183 : Nat))]) ({ frames := 16, cells := 8, slots := 3000, locals := 12000 }) (sPre dC dI ct A ex o q (ql, qs, md, qe, n) y g a [.ref o, .int (nI K), .int (nI lz), .int i, .int (nI M), .int w]) (va_Qi (fun (r : Int32) (u : (Nat → Int32) × (Nat → Nat → Int32)) => r = (-11) ∧ u = ((upd g 0 1), a)) (fun u t => gB dC dI ct A ex o q (ql, qs, md, qe, n) y u t) A) 8 3000 A := by
  refine cx_MetW (cc := cX0_loans) (maxL := 7) (ret := (some .int)) (hh := [((55 : Nat), (82 : Nat), (83 : Nat), (173 : Nat)), ((55 : Nat), (82 : Nat), (91 : Nat), (179 : Nat)), ((55 : Nat), (82 : Nat), (99 : Nat), (183 : Nat))]) (by decide) rfl ?_
  intro p e s m args below meth c s₁ B hml het hv
  obtain ⟨rfl, hP, hK, hD, hE, hE9, hA, hst, hI9⟩ := hv
  have hN9 := hE9.now
  have hx := B.exec
  have hb := B.bytes
  have hr := B.returns
  have hts := atoms_spec (ws := wsW_ yX0_loans cX0_loans 7 (some .int) [((55 : Nat), (82 : Nat), (83 : Nat), (173 : Nat)), ((55 : Nat), (82 : Nat), (91 : Nat), (179 : Nat)), ((55 : Nat), (82 : Nat), (99 : Nat), (183 : Nat))]) B.pre
  have hts : ∀ w ∈ lw_all, w.before _ s = true := fun w h => hts w (List.mem_cons_of_mem _ h)
  have hown : s.vm.findClass RX0 = some m.cls := findClass_of_methodNamed B.named
  have hlocks := B.notSynchronized
  have hS : va_S A s.heap s.heap [] := va_S.rf
  have hl := lv_entry ([.ref o, .int (nI K), .int (nI lz), .int i, .int (nI M), .int w]) (n := 7) (Nat.le_of_ble_eq_true rfl)
  rw [lg_entry_eq]
  generalize (lg_sl ([.ref o, .int (nI K), .int (nI lz), .int i, .int (nI M), .int w]) ++ List.replicate (7 - (lg_sl ([.ref o, .int (nI K), .int (nI lz), .int i, .int (nI M), .int w])).length) Slot.unset).toArray = ls at hl ⊢
  have hl : lv_has ls 7 [(0, .ref o), (1, .int (nI K)), (2, .int (nI lz)), (3, .int i), (4, .int (nI M)), (5, .int w)] := hl
  refine lv_aload_n hx hb dX0_loans_0 rfl (lv_at hl 0 rfl) ?_
  refine lv_iconst (v := 0) hx hb dX0_loans_1 (by decide) ?_
  refine g_put (v := 0) hx hb hts hown hK hP hD hS 0 0 (by decide) rfl q144 rfl rfl (by decide +kernel) dX0_loans_2 (fun H locs hP hD hS => ?_)
  refine lv_iload_n hx hb dX0_loans_5 rfl (lv_at hl 1 rfl) ?_
  refine vp_callSi ((va_runS (As := [.int (nI K)]) (rest := []) ⟨hx, hb, hml, hown, hts⟩ (metX0_isSheet l (nI K) ) (va_cwS 1 hts (lw_S q376 q377 q69 q378) rfl rfl rfl (by decide +kernel) ⟨Nat.le_of_ble_eq_true rfl, Nat.le_of_ble_eq_true rfl⟩) (pcS _) rfl rfl hl.1 rfl (lv_room (Nat.le_of_ble_eq_true rfl)) dX0_loans_6 ⟨Nat.le_of_ble_eq_true rfl, Nat.le_of_ble_eq_true rfl⟩)).run (fun r hw => ?_)
  have hw : r = (b2i (inP (nI K) 4)) := hw
  subst hw
  refine bz_ne (tgt := 14) hx hb dX0_loans_9 (by decide) (fun c_1 => ?_) (fun c_1 => ?_)
  · skip
    refine lv_iload_n hx hb dX0_loans_14 rfl (lv_at hl 2 rfl) ?_
    refine vp_callSi ((va_runS (As := [.int (nI lz)]) (rest := []) ⟨hx, hb, hml, hown, hts⟩ (metX0_isLane l (nI lz) ) (va_cwS 1 hts (lw_S q383 q384 q69 q385) rfl rfl rfl (by decide +kernel) ⟨Nat.le_of_ble_eq_true rfl, Nat.le_of_ble_eq_true rfl⟩) (pcS _) rfl rfl hl.1 rfl (lv_room (Nat.le_of_ble_eq_true rfl)) dX0_loans_15 ⟨Nat.le_of_ble_eq_true rfl, Nat.le_of_ble_eq_true rfl⟩)).run (fun r hw => ?_)
    have hw : r = (b2i (inP (nI lz) 3)) := hw
    subst hw
    refine bz_eq (tgt := 42) hx hb dX0_loans_18 (by decide) (fun c_2 => ?_) (fun c_2 => ?_)
    · skip
      exact False.elim (by rw [inL hlz] at c_2; cases c_2)
    · skip
      refine lv_iload hx hb dX0_loans_21 (lv_at hl 4 rfl) ?_
      refine lv_i2l (v := (Int32.toInt64 (nI M))) hx hb dX0_loans_23 rfl ?_
      refine lv_lconst (v := 0) hx hb dX0_loans_24 (by decide) ?_
      refine lv_ldc2 (v := 20) hx hb hown (hts _ q663) dX0_loans_25 ?_
      refine vp_callSi ((va_runS (As := [.long (Int32.toInt64 (nI M)), .long 0, .long 20]) (rest := []) ⟨hx, hb, hml, hown, hts⟩ (metX0_isIn l (Int32.toInt64 (nI M)) 0 20 ) (va_cwS 3 hts (lw_S q380 q381 q69 q382) rfl rfl rfl (by decide +kernel) ⟨Nat.le_of_ble_eq_true rfl, Nat.le_of_ble_eq_true rfl⟩) (pcS _) rfl rfl hl.1 rfl (lv_room (Nat.le_of_ble_eq_true rfl)) dX0_loans_28 ⟨Nat.le_of_ble_eq_true rfl, Nat.le_of_ble_eq_true rfl⟩)).run (fun r hw => ?_)
      have hw : r = (b2i (lin (Int32.toInt64 (nI M)) 0 20)) := hw
      subst hw
      refine bz_eq (tgt := 42) hx hb dX0_loans_31 (by decide) (fun c_3 => ?_) (fun c_3 => ?_)
      · skip
        exact False.elim (by rw [lin20 hM] at c_3; cases c_3)
      · skip
        refine lv_iload hx hb dX0_loans_34 (lv_at hl 5 rfl) ?_
        refine vp_callSi ((va_runS (As := [.int w]) (rest := []) ⟨hx, hb, hml, hown, hts⟩ (metX0_isWhat l w ) (va_cwS 1 hts (lw_S q664 q665 q69 q666) rfl rfl rfl (by decide +kernel) ⟨Nat.le_of_ble_eq_true rfl, Nat.le_of_ble_eq_true rfl⟩) (pcS _) rfl rfl hl.1 rfl (lv_room (Nat.le_of_ble_eq_true rfl)) dX0_loans_36 ⟨Nat.le_of_ble_eq_true rfl, Nat.le_of_ble_eq_true rfl⟩)).run (fun r hw => ?_)
        have hw : r = (b2i (whatV w)) := hw
        subst hw
        refine bz_ne (tgt := 45) hx hb dX0_loans_39 (by decide) (fun c_4 => ?_) (fun c_4 => ?_)
        · skip
          refine lv_aload_n hx hb dX0_loans_45 rfl (lv_at hl 0 rfl) ?_
          refine vp_callSi ((va_runV (As := []) (rest := []) ⟨hx, hb, hml, hown, hts⟩ (metX0_isCounter l dC dI ct A (peW ct o qe n y a ++ ex) o q ql qs md qe n (upd g 0 0) a  hn6) (cwV 0 hts (lw_V q672 q674 qs15 q69 q675) rfl rfl rfl (by decide +kernel) ⟨Nat.le_of_ble_eq_true rfl, Nat.le_of_ble_eq_true rfl⟩) (xPV hK hP hD hE _) rfl rfl hl.1 rfl (lv_room (Nat.le_of_ble_eq_true rfl)) dX0_loans_46 ⟨Nat.le_of_ble_eq_true rfl, Nat.le_of_ble_eq_true rfl⟩)).run (fun r hw => ?_)
          have hw : r = (b2i (!(decide (n = 0)))) := hw
          subst hw
          refine bz_ne (tgt := 55) hx hb dX0_loans_49 (by decide) (fun c_5 => ?_) (fun c_5 => ?_)
          · skip
            refine lv_aload_n hx hb dX0_loans_55 rfl (lv_at hl 0 rfl) ?_
            refine lv_aload_n hx hb dX0_loans_56 rfl (lv_at hl 0 rfl) ?_
            refine g_get (v := .ref qs) hx hb hts hown hK hP 25 (by decide) rfl q174 rfl dX0_loans_57 ?_
            refine lv_iload_n hx hb dX0_loans_60 rfl (lv_at hl 1 rfl) ?_
            refine s_pla hx hb hK hP (xps n + j0) ((xG_ex j0).trans hj0) K hK4 dX0_loans_61 ?_
            refine s_has hx hb hts hown hK hP hE (xps n + j1) ((xG_ex j1).trans hj1) dX0_loans_62 ?_
            refine lv_iload_n hx hb dX0_loans_65 rfl (lv_at hl 2 rfl) ?_
            refine va_csr ((va_runS (As := [.null, .int (nI lz)]) (rest := [.ref o]) ⟨hx, hb, hml, hown, hts⟩ (metX0_asLane_n l dC dI ct A (xG ct o q (ql, qs, md, qe, n) y (upd g 0 0) a ex) lz hlz) (va_cwS 2 hts (lw_S q387 q388 q69 q389) rfl rfl rfl (by decide +kernel) ⟨Nat.le_of_ble_eq_true rfl, Nat.le_of_ble_eq_true rfl⟩) (aPS hK hP hE9 hS _) rfl rfl hl.1 rfl (lv_room (Nat.le_of_ble_eq_true rfl)) dX0_loans_66 ⟨Nat.le_of_ble_eq_true rfl, Nat.le_of_ble_eq_true rfl⟩)).run (fun _ _ => ?_)
            refine lv_iload_n hx hb dX0_loans_69 rfl (lv_at hl 3 rfl) ?_
            refine lv_iconst (v := 2) hx hb dX0_loans_70 (by decide) ?_
            refine lv_iload hx hb dX0_loans_71 (lv_at hl 4 rfl) ?_
            refine lv_imul hx hb dX0_loans_73 ?_
            refine W.exCall (As := [.null, .int i, .int (2 * (nI M))]) (rest := [.ref o]) ⟨hx, hb, hml, hown, hts⟩ (metX0_rowW_N l dC dI ct A (xG ct o q (ql, qs, md, qe, n) y (upd g 0 0) a ex) htr i (2 * (nI M))) (va_cwS 3 hts (lw_S q393 q394 q69 q395) rfl rfl rfl (by decide +kernel) ⟨Nat.le_of_ble_eq_true rfl, Nat.le_of_ble_eq_true rfl⟩) (rPS hK hP hD hE9 hS hA _) rfl hl.1 rfl (Nat.le_of_ble_eq_true rfl) dX0_loans_74 ⟨Nat.le_of_ble_eq_true rfl, Nat.le_of_ble_eq_true rfl⟩ (fun H x9 ce h1 h2 h3 h4 => ?_)
            have hP := h1.P hP
            have hS := h1.S hS
            refine WT.caught (own := "LentYouths") hown h2 h4 (x := ⟨55, 82, 91, 179⟩) (rest := cxT [(55, 82, 99, 183)]) (nm := "java/lang/NullPointerException") ⟨rfl, by decide, hts _ q318⟩ h3 (va_asg _ _) [(⟨55, 82, 83, 173⟩, "java/lang/ClassCastException")] (fun z hz => by
                simp only [List.mem_cons, List.not_mem_nil, or_false] at hz
                rcases hz with rfl
                · exact Or.inr ⟨⟨rfl, by decide, hts _ q232⟩, cx_nc h3 (hN9.2.1 ("java/lang/NullPointerException", "java/lang/ClassCastException") (by decide))⟩) het ?_
            refine W.eq (g2 := F0 m 91 ls [.ref x9]) rfl ?_
            refine lv_astore (lv' := [(6, .ref x9), (0, .ref o), (1, .int (nI K)), (2, .int (nI lz)), (3, .int i), (4, .int (nI M)), (5, .int w)]) hx hb dX0_loans_91 hl (by decide) rfl (fun ls hl => ?_)
            refine lv_aload_n hx hb dX0_loans_93 rfl (lv_at hl 1 rfl) ?_
            refine lv_iconst (v := 1) hx hb dX0_loans_94 (by decide) ?_
            refine va_calli (va_runV (As := [.int 1]) (rest := []) ⟨hx, hb, hml, hown, hts⟩ (metX0_faulty l dC dI ct A (peW ct o qe n y a ++ ex) o q ql qs md qe n (upd g 0 0) a 1 ) (cwV 1 hts (lw_V q581 q583 qs12 q69 q584) rfl rfl rfl (by decide +kernel) ⟨Nat.le_of_ble_eq_true rfl, Nat.le_of_ble_eq_true rfl⟩) (xPV hK hP hD hE _) rfl rfl hl.1 rfl (lv_room (Nat.le_of_ble_eq_true rfl)) dX0_loans_95 ⟨Nat.le_of_ble_eq_true rfl, Nat.le_of_ble_eq_true rfl⟩) hS (fun q _ h => h) (fun q h => h) (fun r u t H1 locs ht hvm hw hB hz1 hk1 hS => ?_)
            obtain ⟨hw, hw2⟩ := hw
            have hw : r = ((-10) - 1) := hw
            subst hw
            subst hw2
            obtain ⟨hP, -, hD⟩ := hB
            rw [ht] at hP
            generalize H1 = H at hP hS ⊢
            have hP : va_P (dC, dI) clA (xG ct o q (ql, qs, md, qe, n) y (upd g 0 1) a ex) H := hP
            have hD : va_D A (xG ct o q (ql, qs, md, qe, n) y (upd g 0 1) a ex) := hD
            refine W.widen (k := 8) (n := 3000) (Nat.le_of_ble_eq_true rfl) (Nat.le_of_ble_eq_true rfl) ?_
            exact W.iret (v := ((-10) - 1)) hx hb hr (fun t ht hW => ⟨⟨((-10) - 1), ((upd g 0 1), a), rfl, ⟨(by first | rfl | (simp [c_1, c_2, c_3, c_4, c_5]; done)), rfl⟩, by rw [ht]; exact hP, va_K.moved hW.alike hK, hD⟩, hS.F ht⟩) hS.2.2 dX0_loans_98
          · skip
            exact False.elim (by simp [hnz] at c_5)
        · skip
          exact False.elim (by rw [hwv] at c_4; cases c_4)
  · skip
    exact False.elim (by rw [inK hK4] at c_1; cases c_1)
set_option maxHeartbeats 4000000 in
set_option maxRecDepth 100000 in
theorem metX0_loans_C (l : Launch) (dC : Nat → ClassId) (dI : Nat → Nat → Nat) (ct : Nat → ClassId) (A : Nat → Prop) (ex : va_W) (o : Nat) (q : Nat → Nat) (ql qs : Nat) (md : Int32) (qe n : Nat) (y : Nat → Nat) (g : Nat → Int32) (a : Nat → Nat → Int32) (htr : l.stackTraces = false) (K : Nat) (lz : Nat) (i : Int32) (M : Nat) (w : Int32) (j0 : Nat) (pl : Nat → Nat) (hj0 : ex[j0]? = some (qs, .inl (ct 5, 4, .inr (.inr (.inr (.inr (fun j => some (pl j)))))))) (j2 ad N : Nat) (f : Nat → Int32) (lx : Nat) (hlx : lx < 3) (hj2 : ex[j2]? = some (ad, .inl (ct (lty lx), N, .inl f))) (hN : N ≤ 60) (K : Nat) (hK4 : K < 4) (j1 : Nat) (hj1 : ex[j1]? = some (pl K, .inr (6, [.ref ad]))) (hlz : lz < 3) (hne : lx ≠ lz) (hM : M ≤ 20) (hwv : whatV w = true) (hn6 : n ≤ 6) (hnz : ¬ n = 0) : Met l yX0_loans (wsW_ yX0_loans cX0_loans 7 (some .int) [((55 : Nat), (82 : Nat), (83 : Nat), (173 : Nat)), ((55 : Nat), (82 : Nat), (91 : Nat), (179 : Nat)), ((55 : Nat), (82 : Nat), (99 : Nat), (183 : Nat))]) ({ frames := 16, cells := 8, slots := 3000, locals := 12000 }) (sPre dC dI ct A ex o q (ql, qs, md, qe, n) y g a [.ref o, .int (nI K), .int (nI lz), .int i, .int (nI M), .int w]) (va_Qi (fun (r : Int32) (u : (Nat → Int32) × (Nat → Nat → Int32)) => r = (-12) ∧ u = ((upd g 0 2), a)) (fun u t => gB dC dI ct A ex o q (ql, qs, md, qe, n) y u t) A) 8 3000 A := by
  refine cx_MetW (cc := cX0_loans) (maxL := 7) (ret := (some .int)) (hh := [((55 : Nat), (82 : Nat), (83 : Nat), (173 : Nat)), ((55 : Nat), (82 : Nat), (91 : Nat), (179 : Nat)), ((55 : Nat), (82 : Nat), (99 : Nat), (183 : Nat))]) (by decide) rfl ?_
  intro p e s m args below meth c s₁ B hml het hv
  obtain ⟨rfl, hP, hK, hD, hE, hE9, hA, hst, hI9⟩ := hv
  have hN9 := hE9.now
  have hx := B.exec
  have hb := B.bytes
  have hr := B.returns
  have hts := atoms_spec (ws := wsW_ yX0_loans cX0_loans 7 (some .int) [((55 : Nat), (82 : Nat), (83 : Nat), (173 : Nat)), ((55 : Nat), (82 : Nat), (91 : Nat), (179 : Nat)), ((55 : Nat), (82 : Nat), (99 : Nat), (183 : Nat))]) B.pre
  have hts : ∀ w ∈ lw_all, w.before _ s = true := fun w h => hts w (List.mem_cons_of_mem _ h)
  have hown : s.vm.findClass RX0 = some m.cls := findClass_of_methodNamed B.named
  have hlocks := B.notSynchronized
  have hS : va_S A s.heap s.heap [] := va_S.rf
  have hl := lv_entry ([.ref o, .int (nI K), .int (nI lz), .int i, .int (nI M), .int w]) (n := 7) (Nat.le_of_ble_eq_true rfl)
  rw [lg_entry_eq]
  generalize (lg_sl ([.ref o, .int (nI K), .int (nI lz), .int i, .int (nI M), .int w]) ++ List.replicate (7 - (lg_sl ([.ref o, .int (nI K), .int (nI lz), .int i, .int (nI M), .int w])).length) Slot.unset).toArray = ls at hl ⊢
  have hl : lv_has ls 7 [(0, .ref o), (1, .int (nI K)), (2, .int (nI lz)), (3, .int i), (4, .int (nI M)), (5, .int w)] := hl
  refine lv_aload_n hx hb dX0_loans_0 rfl (lv_at hl 0 rfl) ?_
  refine lv_iconst (v := 0) hx hb dX0_loans_1 (by decide) ?_
  refine g_put (v := 0) hx hb hts hown hK hP hD hS 0 0 (by decide) rfl q144 rfl rfl (by decide +kernel) dX0_loans_2 (fun H locs hP hD hS => ?_)
  refine lv_iload_n hx hb dX0_loans_5 rfl (lv_at hl 1 rfl) ?_
  refine vp_callSi ((va_runS (As := [.int (nI K)]) (rest := []) ⟨hx, hb, hml, hown, hts⟩ (metX0_isSheet l (nI K) ) (va_cwS 1 hts (lw_S q376 q377 q69 q378) rfl rfl rfl (by decide +kernel) ⟨Nat.le_of_ble_eq_true rfl, Nat.le_of_ble_eq_true rfl⟩) (pcS _) rfl rfl hl.1 rfl (lv_room (Nat.le_of_ble_eq_true rfl)) dX0_loans_6 ⟨Nat.le_of_ble_eq_true rfl, Nat.le_of_ble_eq_true rfl⟩)).run (fun r hw => ?_)
  have hw : r = (b2i (inP (nI K) 4)) := hw
  subst hw
  refine bz_ne (tgt := 14) hx hb dX0_loans_9 (by decide) (fun c_1 => ?_) (fun c_1 => ?_)
  · skip
    refine lv_iload_n hx hb dX0_loans_14 rfl (lv_at hl 2 rfl) ?_
    refine vp_callSi ((va_runS (As := [.int (nI lz)]) (rest := []) ⟨hx, hb, hml, hown, hts⟩ (metX0_isLane l (nI lz) ) (va_cwS 1 hts (lw_S q383 q384 q69 q385) rfl rfl rfl (by decide +kernel) ⟨Nat.le_of_ble_eq_true rfl, Nat.le_of_ble_eq_true rfl⟩) (pcS _) rfl rfl hl.1 rfl (lv_room (Nat.le_of_ble_eq_true rfl)) dX0_loans_15 ⟨Nat.le_of_ble_eq_true rfl, Nat.le_of_ble_eq_true rfl⟩)).run (fun r hw => ?_)
    have hw : r = (b2i (inP (nI lz) 3)) := hw
    subst hw
    refine bz_eq (tgt := 42) hx hb dX0_loans_18 (by decide) (fun c_2 => ?_) (fun c_2 => ?_)
    · skip
      exact False.elim (by rw [inL hlz] at c_2; cases c_2)
    · skip
      refine lv_iload hx hb dX0_loans_21 (lv_at hl 4 rfl) ?_
      refine lv_i2l (v := (Int32.toInt64 (nI M))) hx hb dX0_loans_23 rfl ?_
      refine lv_lconst (v := 0) hx hb dX0_loans_24 (by decide) ?_
      refine lv_ldc2 (v := 20) hx hb hown (hts _ q663) dX0_loans_25 ?_
      refine vp_callSi ((va_runS (As := [.long (Int32.toInt64 (nI M)), .long 0, .long 20]) (rest := []) ⟨hx, hb, hml, hown, hts⟩ (metX0_isIn l (Int32.toInt64 (nI M)) 0 20 ) (va_cwS 3 hts (lw_S q380 q381 q69 q382) rfl rfl rfl (by decide +kernel) ⟨Nat.le_of_ble_eq_true rfl, Nat.le_of_ble_eq_true rfl⟩) (pcS _) rfl rfl hl.1 rfl (lv_room (Nat.le_of_ble_eq_true rfl)) dX0_loans_28 ⟨Nat.le_of_ble_eq_true rfl, Nat.le_of_ble_eq_true rfl⟩)).run (fun r hw => ?_)
      have hw : r = (b2i (lin (Int32.toInt64 (nI M)) 0 20)) := hw
      subst hw
      refine bz_eq (tgt := 42) hx hb dX0_loans_31 (by decide) (fun c_3 => ?_) (fun c_3 => ?_)
      · skip
        exact False.elim (by rw [lin20 hM] at c_3; cases c_3)
      · skip
        refine lv_iload hx hb dX0_loans_34 (lv_at hl 5 rfl) ?_
        refine vp_callSi ((va_runS (As := [.int w]) (rest := []) ⟨hx, hb, hml, hown, hts⟩ (metX0_isWhat l w ) (va_cwS 1 hts (lw_S q664 q665 q69 q666) rfl rfl rfl (by decide +kernel) ⟨Nat.le_of_ble_eq_true rfl, Nat.le_of_ble_eq_true rfl⟩) (pcS _) rfl rfl hl.1 rfl (lv_room (Nat.le_of_ble_eq_true rfl)) dX0_loans_36 ⟨Nat.le_of_ble_eq_true rfl, Nat.le_of_ble_eq_true rfl⟩)).run (fun r hw => ?_)
        have hw : r = (b2i (whatV w)) := hw
        subst hw
        refine bz_ne (tgt := 45) hx hb dX0_loans_39 (by decide) (fun c_4 => ?_) (fun c_4 => ?_)
        · skip
          refine lv_aload_n hx hb dX0_loans_45 rfl (lv_at hl 0 rfl) ?_
          refine vp_callSi ((va_runV (As := []) (rest := []) ⟨hx, hb, hml, hown, hts⟩ (metX0_isCounter l dC dI ct A (peW ct o qe n y a ++ ex) o q ql qs md qe n (upd g 0 0) a  hn6) (cwV 0 hts (lw_V q672 q674 qs15 q69 q675) rfl rfl rfl (by decide +kernel) ⟨Nat.le_of_ble_eq_true rfl, Nat.le_of_ble_eq_true rfl⟩) (xPV hK hP hD hE _) rfl rfl hl.1 rfl (lv_room (Nat.le_of_ble_eq_true rfl)) dX0_loans_46 ⟨Nat.le_of_ble_eq_true rfl, Nat.le_of_ble_eq_true rfl⟩)).run (fun r hw => ?_)
          have hw : r = (b2i (!(decide (n = 0)))) := hw
          subst hw
          refine bz_ne (tgt := 55) hx hb dX0_loans_49 (by decide) (fun c_5 => ?_) (fun c_5 => ?_)
          · skip
            refine lv_aload_n hx hb dX0_loans_55 rfl (lv_at hl 0 rfl) ?_
            refine lv_aload_n hx hb dX0_loans_56 rfl (lv_at hl 0 rfl) ?_
            refine g_get (v := .ref qs) hx hb hts hown hK hP 25 (by decide) rfl q174 rfl dX0_loans_57 ?_
            refine lv_iload_n hx hb dX0_loans_60 rfl (lv_at hl 1 rfl) ?_
            refine s_pla hx hb hK hP (xps n + j0) ((xG_ex j0).trans hj0) K hK4 dX0_loans_61 ?_
            refine s_has hx hb hts hown hK hP hE (xps n + j1) ((xG_ex j1).trans hj1) dX0_loans_62 ?_
            refine lv_iload_n hx hb dX0_loans_65 rfl (lv_at hl 2 rfl) ?_
            refine W.exCall (As := [.ref ad, .int (nI lz)]) (rest := [.ref o]) ⟨hx, hb, hml, hown, hts⟩ (metX0_asLane_x l dC dI ct A (xG ct o q (ql, qs, md, qe, n) y (upd g 0 0) a ex) htr (xps n + j2) ad N f lx hlx ((xG_ex j2).trans hj2) (by omega) lz hlz hne) (va_cwS 2 hts (lw_S q387 q388 q69 q389) rfl rfl rfl (by decide +kernel) ⟨Nat.le_of_ble_eq_true rfl, Nat.le_of_ble_eq_true rfl⟩) (aPS hK hP hE9 hS _) rfl hl.1 rfl (Nat.le_of_ble_eq_true rfl) dX0_loans_66 ⟨Nat.le_of_ble_eq_true rfl, Nat.le_of_ble_eq_true rfl⟩ (fun H x9 ce h1 h2 h3 h4 => ?_)
            have hP := h1.P hP
            have hS := h1.S hS
            refine WT.caught (own := "LentYouths") hown h2 h4 (x := ⟨55, 82, 83, 173⟩) (rest := cxT [(55, 82, 91, 179), (55, 82, 99, 183)]) (nm := "java/lang/ClassCastException") ⟨rfl, by decide, hts _ q232⟩ h3 (va_asg _ _) [] (fun z hz => absurd hz List.not_mem_nil) het ?_
            refine W.eq (g2 := F0 m 83 ls [.ref x9]) rfl ?_
            refine lv_astore (lv' := [(6, .ref x9), (0, .ref o), (1, .int (nI K)), (2, .int (nI lz)), (3, .int i), (4, .int (nI M)), (5, .int w)]) hx hb dX0_loans_83 hl (by decide) rfl (fun ls hl => ?_)
            refine lv_aload_n hx hb dX0_loans_85 rfl (lv_at hl 1 rfl) ?_
            refine lv_iconst (v := 2) hx hb dX0_loans_86 (by decide) ?_
            refine va_calli (va_runV (As := [.int 2]) (rest := []) ⟨hx, hb, hml, hown, hts⟩ (metX0_faulty l dC dI ct A (peW ct o qe n y a ++ ex) o q ql qs md qe n (upd g 0 0) a 2 ) (cwV 1 hts (lw_V q581 q583 qs12 q69 q584) rfl rfl rfl (by decide +kernel) ⟨Nat.le_of_ble_eq_true rfl, Nat.le_of_ble_eq_true rfl⟩) (xPV hK hP hD hE _) rfl rfl hl.1 rfl (lv_room (Nat.le_of_ble_eq_true rfl)) dX0_loans_87 ⟨Nat.le_of_ble_eq_true rfl, Nat.le_of_ble_eq_true rfl⟩) hS (fun q _ h => h) (fun q h => h) (fun r u t H1 locs ht hvm hw hB hz1 hk1 hS => ?_)
            obtain ⟨hw, hw2⟩ := hw
            have hw : r = ((-10) - 2) := hw
            subst hw
            subst hw2
            obtain ⟨hP, -, hD⟩ := hB
            rw [ht] at hP
            generalize H1 = H at hP hS ⊢
            have hP : va_P (dC, dI) clA (xG ct o q (ql, qs, md, qe, n) y (upd g 0 2) a ex) H := hP
            have hD : va_D A (xG ct o q (ql, qs, md, qe, n) y (upd g 0 2) a ex) := hD
            refine W.widen (k := 8) (n := 3000) (Nat.le_of_ble_eq_true rfl) (Nat.le_of_ble_eq_true rfl) ?_
            exact W.iret (v := ((-10) - 2)) hx hb hr (fun t ht hW => ⟨⟨((-10) - 2), ((upd g 0 2), a), rfl, ⟨(by first | rfl | (simp [c_1, c_2, c_3, c_4, c_5]; done)), rfl⟩, by rw [ht]; exact hP, va_K.moved hW.alike hK, hD⟩, hS.F ht⟩) hS.2.2 dX0_loans_90
          · skip
            exact False.elim (by simp [hnz] at c_5)
        · skip
          exact False.elim (by rw [hwv] at c_4; cases c_4)
  · skip
    exact False.elim (by rw [inK hK4] at c_1; cases c_1)
set_option maxHeartbeats 4000000 in
set_option maxRecDepth 100000 in
theorem metX0_loans_I (l : Launch) (dC : Nat → ClassId) (dI : Nat → Nat → Nat) (ct : Nat → ClassId) (A : Nat → Prop) (ex : va_W) (o : Nat) (q : Nat → Nat) (ql qs : Nat) (md : Int32) (qe n : Nat) (y : Nat → Nat) (g : Nat → Int32) (a : Nat → Nat → Int32) (htr : l.stackTraces = false) (K : Nat) (lx : Nat) (i : Int32) (M : Nat) (w : Int32) (j0 : Nat) (pl : Nat → Nat) (hj0 : ex[j0]? = some (qs, .inl (ct 5, 4, .inr (.inr (.inr (.inr (fun j => some (pl j)))))))) (j2 ad N : Nat) (f : Nat → Int32) (hlx : lx < 3) (hj2 : ex[j2]? = some (ad, .inl (ct (lty lx), N, .inl f))) (hN : N ≤ 60) (K : Nat) (hK4 : K < 4) (j1 : Nat) (hj1 : ex[j1]? = some (pl K, .inr (6, [.ref ad]))) (hM : M ≤ 20) (hwv : whatV w = true) (hn6 : n ≤ 6) (hnz : ¬ n = 0) (hr9 : i < 0 ∨ nI N - 2 * nI M < i) : Met l yX0_loans (wsW_ yX0_loans cX0_loans 7 (some .int) [((55 : Nat), (82 : Nat), (83 : Nat), (173 : Nat)), ((55 : Nat), (82 : Nat), (91 : Nat), (179 : Nat)), ((55 : Nat), (82 : Nat), (99 : Nat), (183 : Nat))]) ({ frames := 16, cells := 8, slots := 3000, locals := 12000 }) (sPre dC dI ct A ex o q (ql, qs, md, qe, n) y g a [.ref o, .int (nI K), .int (nI lx), .int i, .int (nI M), .int w]) (va_Qi (fun (r : Int32) (u : (Nat → Int32) × (Nat → Nat → Int32)) => r = (-13) ∧ u = ((upd g 0 3), a)) (fun u t => gB dC dI ct A ex o q (ql, qs, md, qe, n) y u t) A) 8 3000 A := by
  refine cx_MetW (cc := cX0_loans) (maxL := 7) (ret := (some .int)) (hh := [((55 : Nat), (82 : Nat), (83 : Nat), (173 : Nat)), ((55 : Nat), (82 : Nat), (91 : Nat), (179 : Nat)), ((55 : Nat), (82 : Nat), (99 : Nat), (183 : Nat))]) (by decide) rfl ?_
  intro p e s m args below meth c s₁ B hml het hv
  obtain ⟨rfl, hP, hK, hD, hE, hE9, hA, hst, hI9⟩ := hv
  have hN9 := hE9.now
  have hx := B.exec
  have hb := B.bytes
  have hr := B.returns
  have hts := atoms_spec (ws := wsW_ yX0_loans cX0_loans 7 (some .int) [((55 : Nat), (82 : Nat), (83 : Nat), (173 : Nat)), ((55 : Nat), (82 : Nat), (91 : Nat), (179 : Nat)), ((55 : Nat), (82 : Nat), (99 : Nat), (183 : Nat))]) B.pre
  have hts : ∀ w ∈ lw_all, w.before _ s = true := fun w h => hts w (List.mem_cons_of_mem _ h)
  have hown : s.vm.findClass RX0 = some m.cls := findClass_of_methodNamed B.named
  have hlocks := B.notSynchronized
  have hS : va_S A s.heap s.heap [] := va_S.rf
  have hl := lv_entry ([.ref o, .int (nI K), .int (nI lx), .int i, .int (nI M), .int w]) (n := 7) (Nat.le_of_ble_eq_true rfl)
  rw [lg_entry_eq]
  generalize (lg_sl ([.ref o, .int (nI K), .int (nI lx), .int i, .int (nI M), .int w]) ++ List.replicate (7 - (lg_sl ([.ref o, .int (nI K), .int (nI lx), .int i, .int (nI M), .int w])).length) Slot.unset).toArray = ls at hl ⊢
  have hl : lv_has ls 7 [(0, .ref o), (1, .int (nI K)), (2, .int (nI lx)), (3, .int i), (4, .int (nI M)), (5, .int w)] := hl
  have hn0 : 0 ≤ 2 * nI M := by rw [nI_mul2]; exact nI_pos' (by omega)
  refine lv_aload_n hx hb dX0_loans_0 rfl (lv_at hl 0 rfl) ?_
  refine lv_iconst (v := 0) hx hb dX0_loans_1 (by decide) ?_
  refine g_put (v := 0) hx hb hts hown hK hP hD hS 0 0 (by decide) rfl q144 rfl rfl (by decide +kernel) dX0_loans_2 (fun H locs hP hD hS => ?_)
  refine lv_iload_n hx hb dX0_loans_5 rfl (lv_at hl 1 rfl) ?_
  refine vp_callSi ((va_runS (As := [.int (nI K)]) (rest := []) ⟨hx, hb, hml, hown, hts⟩ (metX0_isSheet l (nI K) ) (va_cwS 1 hts (lw_S q376 q377 q69 q378) rfl rfl rfl (by decide +kernel) ⟨Nat.le_of_ble_eq_true rfl, Nat.le_of_ble_eq_true rfl⟩) (pcS _) rfl rfl hl.1 rfl (lv_room (Nat.le_of_ble_eq_true rfl)) dX0_loans_6 ⟨Nat.le_of_ble_eq_true rfl, Nat.le_of_ble_eq_true rfl⟩)).run (fun r hw => ?_)
  have hw : r = (b2i (inP (nI K) 4)) := hw
  subst hw
  refine bz_ne (tgt := 14) hx hb dX0_loans_9 (by decide) (fun c_1 => ?_) (fun c_1 => ?_)
  · skip
    refine lv_iload_n hx hb dX0_loans_14 rfl (lv_at hl 2 rfl) ?_
    refine vp_callSi ((va_runS (As := [.int (nI lx)]) (rest := []) ⟨hx, hb, hml, hown, hts⟩ (metX0_isLane l (nI lx) ) (va_cwS 1 hts (lw_S q383 q384 q69 q385) rfl rfl rfl (by decide +kernel) ⟨Nat.le_of_ble_eq_true rfl, Nat.le_of_ble_eq_true rfl⟩) (pcS _) rfl rfl hl.1 rfl (lv_room (Nat.le_of_ble_eq_true rfl)) dX0_loans_15 ⟨Nat.le_of_ble_eq_true rfl, Nat.le_of_ble_eq_true rfl⟩)).run (fun r hw => ?_)
    have hw : r = (b2i (inP (nI lx) 3)) := hw
    subst hw
    refine bz_eq (tgt := 42) hx hb dX0_loans_18 (by decide) (fun c_2 => ?_) (fun c_2 => ?_)
    · skip
      exact False.elim (by rw [inL hlx] at c_2; cases c_2)
    · skip
      refine lv_iload hx hb dX0_loans_21 (lv_at hl 4 rfl) ?_
      refine lv_i2l (v := (Int32.toInt64 (nI M))) hx hb dX0_loans_23 rfl ?_
      refine lv_lconst (v := 0) hx hb dX0_loans_24 (by decide) ?_
      refine lv_ldc2 (v := 20) hx hb hown (hts _ q663) dX0_loans_25 ?_
      refine vp_callSi ((va_runS (As := [.long (Int32.toInt64 (nI M)), .long 0, .long 20]) (rest := []) ⟨hx, hb, hml, hown, hts⟩ (metX0_isIn l (Int32.toInt64 (nI M)) 0 20 ) (va_cwS 3 hts (lw_S q380 q381 q69 q382) rfl rfl rfl (by decide +kernel) ⟨Nat.le_of_ble_eq_true rfl, Nat.le_of_ble_eq_true rfl⟩) (pcS _) rfl rfl hl.1 rfl (lv_room (Nat.le_of_ble_eq_true rfl)) dX0_loans_28 ⟨Nat.le_of_ble_eq_true rfl, Nat.le_of_ble_eq_true rfl⟩)).run (fun r hw => ?_)
      have hw : r = (b2i (lin (Int32.toInt64 (nI M)) 0 20)) := hw
      subst hw
      refine bz_eq (tgt := 42) hx hb dX0_loans_31 (by decide) (fun c_3 => ?_) (fun c_3 => ?_)
      · skip
        exact False.elim (by rw [lin20 hM] at c_3; cases c_3)
      · skip
        refine lv_iload hx hb dX0_loans_34 (lv_at hl 5 rfl) ?_
        refine vp_callSi ((va_runS (As := [.int w]) (rest := []) ⟨hx, hb, hml, hown, hts⟩ (metX0_isWhat l w ) (va_cwS 1 hts (lw_S q664 q665 q69 q666) rfl rfl rfl (by decide +kernel) ⟨Nat.le_of_ble_eq_true rfl, Nat.le_of_ble_eq_true rfl⟩) (pcS _) rfl rfl hl.1 rfl (lv_room (Nat.le_of_ble_eq_true rfl)) dX0_loans_36 ⟨Nat.le_of_ble_eq_true rfl, Nat.le_of_ble_eq_true rfl⟩)).run (fun r hw => ?_)
        have hw : r = (b2i (whatV w)) := hw
        subst hw
        refine bz_ne (tgt := 45) hx hb dX0_loans_39 (by decide) (fun c_4 => ?_) (fun c_4 => ?_)
        · skip
          refine lv_aload_n hx hb dX0_loans_45 rfl (lv_at hl 0 rfl) ?_
          refine vp_callSi ((va_runV (As := []) (rest := []) ⟨hx, hb, hml, hown, hts⟩ (metX0_isCounter l dC dI ct A (peW ct o qe n y a ++ ex) o q ql qs md qe n (upd g 0 0) a  hn6) (cwV 0 hts (lw_V q672 q674 qs15 q69 q675) rfl rfl rfl (by decide +kernel) ⟨Nat.le_of_ble_eq_true rfl, Nat.le_of_ble_eq_true rfl⟩) (xPV hK hP hD hE _) rfl rfl hl.1 rfl (lv_room (Nat.le_of_ble_eq_true rfl)) dX0_loans_46 ⟨Nat.le_of_ble_eq_true rfl, Nat.le_of_ble_eq_true rfl⟩)).run (fun r hw => ?_)
          have hw : r = (b2i (!(decide (n = 0)))) := hw
          subst hw
          refine bz_ne (tgt := 55) hx hb dX0_loans_49 (by decide) (fun c_5 => ?_) (fun c_5 => ?_)
          · skip
            refine lv_aload_n hx hb dX0_loans_55 rfl (lv_at hl 0 rfl) ?_
            refine lv_aload_n hx hb dX0_loans_56 rfl (lv_at hl 0 rfl) ?_
            refine g_get (v := .ref qs) hx hb hts hown hK hP 25 (by decide) rfl q174 rfl dX0_loans_57 ?_
            refine lv_iload_n hx hb dX0_loans_60 rfl (lv_at hl 1 rfl) ?_
            refine s_pla hx hb hK hP (xps n + j0) ((xG_ex j0).trans hj0) K hK4 dX0_loans_61 ?_
            refine s_has hx hb hts hown hK hP hE (xps n + j1) ((xG_ex j1).trans hj1) dX0_loans_62 ?_
            refine lv_iload_n hx hb dX0_loans_65 rfl (lv_at hl 2 rfl) ?_
            refine va_csr ((va_runS (As := [.ref ad, .int (nI lx)]) (rest := [.ref o]) ⟨hx, hb, hml, hown, hts⟩ (metX0_asLane l dC dI ct A (xG ct o q (ql, qs, md, qe, n) y (upd g 0 0) a ex) (xps n + j2) ad N f lx hlx ((xG_ex j2).trans hj2) (by omega)) (va_cwS 2 hts (lw_S q387 q388 q69 q389) rfl rfl rfl (by decide +kernel) ⟨Nat.le_of_ble_eq_true rfl, Nat.le_of_ble_eq_true rfl⟩) (aPS hK hP hE9 hS _) rfl rfl hl.1 rfl (lv_room (Nat.le_of_ble_eq_true rfl)) dX0_loans_66 ⟨Nat.le_of_ble_eq_true rfl, Nat.le_of_ble_eq_true rfl⟩)).run (fun _ _ => ?_)
            refine lv_iload_n hx hb dX0_loans_69 rfl (lv_at hl 3 rfl) ?_
            refine lv_iconst (v := 2) hx hb dX0_loans_70 (by decide) ?_
            refine lv_iload hx hb dX0_loans_71 (lv_at hl 4 rfl) ?_
            refine lv_imul hx hb dX0_loans_73 ?_
            refine W.exCall (As := [.ref ad, .int i, .int (2 * (nI M))]) (rest := [.ref o]) ⟨hx, hb, hml, hown, hts⟩ (metX0_rowW_I l dC dI ct A (xG ct o q (ql, qs, md, qe, n) y (upd g 0 0) a ex) htr (xps n + j2) ad N f lx hlx ((xG_ex j2).trans hj2) hN i (2 * (nI M)) hn0 hr9) (va_cwS 3 hts (lw_S q393 q394 q69 q395) rfl rfl rfl (by decide +kernel) ⟨Nat.le_of_ble_eq_true rfl, Nat.le_of_ble_eq_true rfl⟩) (rPS hK hP hD hE9 hS hA _) rfl hl.1 rfl (Nat.le_of_ble_eq_true rfl) dX0_loans_74 ⟨Nat.le_of_ble_eq_true rfl, Nat.le_of_ble_eq_true rfl⟩ (fun H x9 ce h1 h2 h3 h4 => ?_)
            have hP := h1.P hP
            have hS := h1.S hS
            refine WT.caught (own := "LentYouths") hown h2 h4 (x := ⟨55, 82, 99, 183⟩) (rest := cxT []) (nm := "java/lang/ArrayIndexOutOfBoundsException") ⟨rfl, by decide, hts _ q357⟩ h3 (va_asg _ _) [(⟨55, 82, 83, 173⟩, "java/lang/ClassCastException"), (⟨55, 82, 91, 179⟩, "java/lang/NullPointerException")] (fun z hz => by
                simp only [List.mem_cons, List.not_mem_nil, or_false] at hz
                rcases hz with rfl | rfl
                · exact Or.inr ⟨⟨rfl, by decide, hts _ q232⟩, cx_nc h3 (hN9.2.1 ("java/lang/ArrayIndexOutOfBoundsException", "java/lang/ClassCastException") (by decide))⟩
                · exact Or.inr ⟨⟨rfl, by decide, hts _ q318⟩, cx_nc h3 (hN9.2.1 ("java/lang/ArrayIndexOutOfBoundsException", "java/lang/NullPointerException") (by decide))⟩) het ?_
            refine W.eq (g2 := F0 m 99 ls [.ref x9]) rfl ?_
            refine lv_astore (lv' := [(6, .ref x9), (0, .ref o), (1, .int (nI K)), (2, .int (nI lx)), (3, .int i), (4, .int (nI M)), (5, .int w)]) hx hb dX0_loans_99 hl (by decide) rfl (fun ls hl => ?_)
            refine lv_aload_n hx hb dX0_loans_101 rfl (lv_at hl 1 rfl) ?_
            refine lv_iconst (v := 3) hx hb dX0_loans_102 (by decide) ?_
            refine va_calli (va_runV (As := [.int 3]) (rest := []) ⟨hx, hb, hml, hown, hts⟩ (metX0_faulty l dC dI ct A (peW ct o qe n y a ++ ex) o q ql qs md qe n (upd g 0 0) a 3 ) (cwV 1 hts (lw_V q581 q583 qs12 q69 q584) rfl rfl rfl (by decide +kernel) ⟨Nat.le_of_ble_eq_true rfl, Nat.le_of_ble_eq_true rfl⟩) (xPV hK hP hD hE _) rfl rfl hl.1 rfl (lv_room (Nat.le_of_ble_eq_true rfl)) dX0_loans_103 ⟨Nat.le_of_ble_eq_true rfl, Nat.le_of_ble_eq_true rfl⟩) hS (fun q _ h => h) (fun q h => h) (fun r u t H1 locs ht hvm hw hB hz1 hk1 hS => ?_)
            obtain ⟨hw, hw2⟩ := hw
            have hw : r = ((-10) - 3) := hw
            subst hw
            subst hw2
            obtain ⟨hP, -, hD⟩ := hB
            rw [ht] at hP
            generalize H1 = H at hP hS ⊢
            have hP : va_P (dC, dI) clA (xG ct o q (ql, qs, md, qe, n) y (upd g 0 3) a ex) H := hP
            have hD : va_D A (xG ct o q (ql, qs, md, qe, n) y (upd g 0 3) a ex) := hD
            refine W.widen (k := 8) (n := 3000) (Nat.le_of_ble_eq_true rfl) (Nat.le_of_ble_eq_true rfl) ?_
            exact W.iret (v := ((-10) - 3)) hx hb hr (fun t ht hW => ⟨⟨((-10) - 3), ((upd g 0 3), a), rfl, ⟨(by first | rfl | (simp [c_1, c_2, c_3, c_4, c_5]; done)), rfl⟩, by rw [ht]; exact hP, va_K.moved hW.alike hK, hD⟩, hS.F ht⟩) hS.2.2 dX0_loans_106
          · skip
            exact False.elim (by simp [hnz] at c_5)
        · skip
          exact False.elim (by rw [hwv] at c_4; cases c_4)
  · skip
    exact False.elim (by rw [inK hK4] at c_1; cases c_1)
set_option maxHeartbeats 4000000 in
set_option maxRecDepth 100000 in
theorem metX0_loans_a (l : Launch) (dC : Nat → ClassId) (dI : Nat → Nat → Nat) (ct : Nat → ClassId) (A : Nat → Prop) (ex : va_W) (o : Nat) (q : Nat → Nat) (ql qs : Nat) (md : Int32) (qe n : Nat) (y : Nat → Nat) (g : Nat → Int32) (a : Nat → Nat → Int32) (htr : l.stackTraces = false) (K : Nat) (lx : Nat) (I : Nat) (M : Nat) (w : Int32) (j0 : Nat) (pl : Nat → Nat) (hj0 : ex[j0]? = some (qs, .inl (ct 5, 4, .inr (.inr (.inr (.inr (fun j => some (pl j)))))))) (j2 ad N : Nat) (f : Nat → Int32) (hlx : lx < 3) (hj2 : ex[j2]? = some (ad, .inl (ct (lty lx), N, .inl f))) (hN : N ≤ 60) (K : Nat) (hK4 : K < 4) (j1 : Nat) (hj1 : ex[j1]? = some (pl K, .inr (6, [.ref ad]))) (hM : M ≤ 20) (hwv : whatV w = true) (hn6 : n ≤ 6) (hnz : ¬ n = 0) (hIL : I + 2 * M ≤ N) : Met l yX0_loans (wsW_ yX0_loans cX0_loans 7 (some .int) [((55 : Nat), (82 : Nat), (83 : Nat), (173 : Nat)), ((55 : Nat), (82 : Nat), (91 : Nat), (179 : Nat)), ((55 : Nat), (82 : Nat), (99 : Nat), (183 : Nat))]) ({ frames := 16, cells := 8, slots := 3000, locals := 12000 }) (sPre dC dI ct A ex o q (ql, qs, md, qe, n) y g a [.ref o, .int (nI K), .int (nI lx), .int (nI I), .int (nI M), .int w]) (va_Qi (fun (r : Int32) (u : (Nat → Int32) × (Nat → Nat → Int32)) => r = (if allP n (cutF (2 * M) (fun j => f (I + j)) (fun _ => 0)) (2 * M) = true then lval n (a 4) (lgo fuX (laX (g 3) (g 4) (a 2) (a 5)) (a 4) n (fun t => cix ((cutF (2 * M) (fun j => f (I + j)) (fun _ => 0)) t)) (xbeg n (a 3) ((a 12), (a 13), (a 14), (a 15), (a 16))) M) (hmV n (lgo fuX (laX (g 3) (g 4) (a 2) (a 5)) (a 4) n (fun t => cix ((cutF (2 * M) (fun j => f (I + j)) (fun _ => 0)) t)) (xbeg n (a 3) ((a 12), (a 13), (a 14), (a 15), (a 16))) M).1) w else (-1)) ∧ ∃ (T : LnS (Nat → Int32) × Int32 × Int32), u = ((upd (upd g 0 0) 18 T.2.2), (va_up (va_up (va_up (va_up (va_up a 12 ((T.1).1)) 13 ((T.1).2.1)) 14 ((T.1).2.2.1)) 15 ((T.1).2.2.2.1)) 16 ((T.1).2.2.2.2)))) (fun u t => gB dC dI ct A ex o q (ql, qs, md, qe, n) y u t) A) 8 3000 A := by
  refine cx_MetW (cc := cX0_loans) (maxL := 7) (ret := (some .int)) (hh := [((55 : Nat), (82 : Nat), (83 : Nat), (173 : Nat)), ((55 : Nat), (82 : Nat), (91 : Nat), (179 : Nat)), ((55 : Nat), (82 : Nat), (99 : Nat), (183 : Nat))]) (by decide) rfl ?_
  intro p e s m args below meth c s₁ B hml het hv
  obtain ⟨rfl, hP, hK, hD, hE, hE9, hA, hst, hI9⟩ := hv
  have hN9 := hE9.now
  have hx := B.exec
  have hb := B.bytes
  have hr := B.returns
  have hts := atoms_spec (ws := wsW_ yX0_loans cX0_loans 7 (some .int) [((55 : Nat), (82 : Nat), (83 : Nat), (173 : Nat)), ((55 : Nat), (82 : Nat), (91 : Nat), (179 : Nat)), ((55 : Nat), (82 : Nat), (99 : Nat), (183 : Nat))]) B.pre
  have hts : ∀ w ∈ lw_all, w.before _ s = true := fun w h => hts w (List.mem_cons_of_mem _ h)
  have hown : s.vm.findClass RX0 = some m.cls := findClass_of_methodNamed B.named
  have hlocks := B.notSynchronized
  have hS : va_S A s.heap s.heap [] := va_S.rf
  have hl := lv_entry ([.ref o, .int (nI K), .int (nI lx), .int (nI I), .int (nI M), .int w]) (n := 7) (Nat.le_of_ble_eq_true rfl)
  rw [lg_entry_eq]
  generalize (lg_sl ([.ref o, .int (nI K), .int (nI lx), .int (nI I), .int (nI M), .int w]) ++ List.replicate (7 - (lg_sl ([.ref o, .int (nI K), .int (nI lx), .int (nI I), .int (nI M), .int w])).length) Slot.unset).toArray = ls at hl ⊢
  have hl : lv_has ls 7 [(0, .ref o), (1, .int (nI K)), (2, .int (nI lx)), (3, .int (nI I)), (4, .int (nI M)), (5, .int w)] := hl
  refine lv_aload_n hx hb dX0_loans_0 rfl (lv_at hl 0 rfl) ?_
  refine lv_iconst (v := 0) hx hb dX0_loans_1 (by decide) ?_
  refine g_put (v := 0) hx hb hts hown hK hP hD hS 0 0 (by decide) rfl q144 rfl rfl (by decide +kernel) dX0_loans_2 (fun H locs hP hD hS => ?_)
  refine lv_iload_n hx hb dX0_loans_5 rfl (lv_at hl 1 rfl) ?_
  refine vp_callSi ((va_runS (As := [.int (nI K)]) (rest := []) ⟨hx, hb, hml, hown, hts⟩ (metX0_isSheet l (nI K) ) (va_cwS 1 hts (lw_S q376 q377 q69 q378) rfl rfl rfl (by decide +kernel) ⟨Nat.le_of_ble_eq_true rfl, Nat.le_of_ble_eq_true rfl⟩) (pcS _) rfl rfl hl.1 rfl (lv_room (Nat.le_of_ble_eq_true rfl)) dX0_loans_6 ⟨Nat.le_of_ble_eq_true rfl, Nat.le_of_ble_eq_true rfl⟩)).run (fun r hw => ?_)
  have hw : r = (b2i (inP (nI K) 4)) := hw
  subst hw
  refine bz_ne (tgt := 14) hx hb dX0_loans_9 (by decide) (fun c_1 => ?_) (fun c_1 => ?_)
  · skip
    refine lv_iload_n hx hb dX0_loans_14 rfl (lv_at hl 2 rfl) ?_
    refine vp_callSi ((va_runS (As := [.int (nI lx)]) (rest := []) ⟨hx, hb, hml, hown, hts⟩ (metX0_isLane l (nI lx) ) (va_cwS 1 hts (lw_S q383 q384 q69 q385) rfl rfl rfl (by decide +kernel) ⟨Nat.le_of_ble_eq_true rfl, Nat.le_of_ble_eq_true rfl⟩) (pcS _) rfl rfl hl.1 rfl (lv_room (Nat.le_of_ble_eq_true rfl)) dX0_loans_15 ⟨Nat.le_of_ble_eq_true rfl, Nat.le_of_ble_eq_true rfl⟩)).run (fun r hw => ?_)
    have hw : r = (b2i (inP (nI lx) 3)) := hw
    subst hw
    refine bz_eq (tgt := 42) hx hb dX0_loans_18 (by decide) (fun c_2 => ?_) (fun c_2 => ?_)
    · skip
      exact False.elim (by rw [inL hlx] at c_2; cases c_2)
    · skip
      refine lv_iload hx hb dX0_loans_21 (lv_at hl 4 rfl) ?_
      refine lv_i2l (v := (Int32.toInt64 (nI M))) hx hb dX0_loans_23 rfl ?_
      refine lv_lconst (v := 0) hx hb dX0_loans_24 (by decide) ?_
      refine lv_ldc2 (v := 20) hx hb hown (hts _ q663) dX0_loans_25 ?_
      refine vp_callSi ((va_runS (As := [.long (Int32.toInt64 (nI M)), .long 0, .long 20]) (rest := []) ⟨hx, hb, hml, hown, hts⟩ (metX0_isIn l (Int32.toInt64 (nI M)) 0 20 ) (va_cwS 3 hts (lw_S q380 q381 q69 q382) rfl rfl rfl (by decide +kernel) ⟨Nat.le_of_ble_eq_true rfl, Nat.le_of_ble_eq_true rfl⟩) (pcS _) rfl rfl hl.1 rfl (lv_room (Nat.le_of_ble_eq_true rfl)) dX0_loans_28 ⟨Nat.le_of_ble_eq_true rfl, Nat.le_of_ble_eq_true rfl⟩)).run (fun r hw => ?_)
      have hw : r = (b2i (lin (Int32.toInt64 (nI M)) 0 20)) := hw
      subst hw
      refine bz_eq (tgt := 42) hx hb dX0_loans_31 (by decide) (fun c_3 => ?_) (fun c_3 => ?_)
      · skip
        exact False.elim (by rw [lin20 hM] at c_3; cases c_3)
      · skip
        refine lv_iload hx hb dX0_loans_34 (lv_at hl 5 rfl) ?_
        refine vp_callSi ((va_runS (As := [.int w]) (rest := []) ⟨hx, hb, hml, hown, hts⟩ (metX0_isWhat l w ) (va_cwS 1 hts (lw_S q664 q665 q69 q666) rfl rfl rfl (by decide +kernel) ⟨Nat.le_of_ble_eq_true rfl, Nat.le_of_ble_eq_true rfl⟩) (pcS _) rfl rfl hl.1 rfl (lv_room (Nat.le_of_ble_eq_true rfl)) dX0_loans_36 ⟨Nat.le_of_ble_eq_true rfl, Nat.le_of_ble_eq_true rfl⟩)).run (fun r hw => ?_)
        have hw : r = (b2i (whatV w)) := hw
        subst hw
        refine bz_ne (tgt := 45) hx hb dX0_loans_39 (by decide) (fun c_4 => ?_) (fun c_4 => ?_)
        · skip
          refine lv_aload_n hx hb dX0_loans_45 rfl (lv_at hl 0 rfl) ?_
          refine vp_callSi ((va_runV (As := []) (rest := []) ⟨hx, hb, hml, hown, hts⟩ (metX0_isCounter l dC dI ct A (peW ct o qe n y a ++ ex) o q ql qs md qe n (upd g 0 0) a  hn6) (cwV 0 hts (lw_V q672 q674 qs15 q69 q675) rfl rfl rfl (by decide +kernel) ⟨Nat.le_of_ble_eq_true rfl, Nat.le_of_ble_eq_true rfl⟩) (xPV hK hP hD hE _) rfl rfl hl.1 rfl (lv_room (Nat.le_of_ble_eq_true rfl)) dX0_loans_46 ⟨Nat.le_of_ble_eq_true rfl, Nat.le_of_ble_eq_true rfl⟩)).run (fun r hw => ?_)
          have hw : r = (b2i (!(decide (n = 0)))) := hw
          subst hw
          refine bz_ne (tgt := 55) hx hb dX0_loans_49 (by decide) (fun c_5 => ?_) (fun c_5 => ?_)
          · skip
            refine lv_aload_n hx hb dX0_loans_55 rfl (lv_at hl 0 rfl) ?_
            refine lv_aload_n hx hb dX0_loans_56 rfl (lv_at hl 0 rfl) ?_
            refine g_get (v := .ref qs) hx hb hts hown hK hP 25 (by decide) rfl q174 rfl dX0_loans_57 ?_
            refine lv_iload_n hx hb dX0_loans_60 rfl (lv_at hl 1 rfl) ?_
            refine s_pla hx hb hK hP (xps n + j0) ((xG_ex j0).trans hj0) K hK4 dX0_loans_61 ?_
            refine s_has hx hb hts hown hK hP hE (xps n + j1) ((xG_ex j1).trans hj1) dX0_loans_62 ?_
            refine lv_iload_n hx hb dX0_loans_65 rfl (lv_at hl 2 rfl) ?_
            refine va_csr ((va_runS (As := [.ref ad, .int (nI lx)]) (rest := [.ref o]) ⟨hx, hb, hml, hown, hts⟩ (metX0_asLane l dC dI ct A (xG ct o q (ql, qs, md, qe, n) y (upd g 0 0) a ex) (xps n + j2) ad N f lx hlx ((xG_ex j2).trans hj2) (by omega)) (va_cwS 2 hts (lw_S q387 q388 q69 q389) rfl rfl rfl (by decide +kernel) ⟨Nat.le_of_ble_eq_true rfl, Nat.le_of_ble_eq_true rfl⟩) (aPS hK hP hE9 hS _) rfl rfl hl.1 rfl (lv_room (Nat.le_of_ble_eq_true rfl)) dX0_loans_66 ⟨Nat.le_of_ble_eq_true rfl, Nat.le_of_ble_eq_true rfl⟩)).run (fun _ _ => ?_)
            refine lv_iload_n hx hb dX0_loans_69 rfl (lv_at hl 3 rfl) ?_
            refine lv_iconst (v := 2) hx hb dX0_loans_70 (by decide) ?_
            refine lv_iload hx hb dX0_loans_71 (lv_at hl 4 rfl) ?_
            refine lv_imul hx hb dX0_loans_73 ?_
            refine va_callr (va_runS (As := [.ref ad, .int (nI I), .int (2 * (nI M))]) (rest := [.ref o]) ⟨hx, hb, hml, hown, hts⟩ (metX0_rowW l dC dI ct A (xG ct o q (ql, qs, md, qe, n) y (upd g 0 0) a ex) (xps n + j2) ad N f lx hlx ((xG_ex j2).trans hj2) hN (nI I) (2 * (nI M)) I (2 * M) rfl (nI_mul2 M) hIL) (va_cwS 3 hts (lw_S q393 q394 q69 q395) rfl rfl rfl (by decide +kernel) ⟨Nat.le_of_ble_eq_true rfl, Nat.le_of_ble_eq_true rfl⟩) (rPS hK hP hD hE9 hS hA _) rfl rfl hl.1 rfl (lv_room (Nat.le_of_ble_eq_true rfl)) dX0_loans_74 ⟨Nat.le_of_ble_eq_true rfl, Nat.le_of_ble_eq_true rfl⟩) hS (fun q _ h => h) (fun q h => h) (fun _ qr t H1 locs ht hvm hw hB hz1 hk1 hS => ?_)
            clear hw
            obtain ⟨hP, -, hD⟩ := hB
            rw [ht, ← xG_app] at hP
            rw [← xG_app] at hD
            generalize H1 = H at hP hS ⊢
            refine lv_iload hx hb dX0_loans_77 (lv_at hl 5 rfl) ?_
            refine va_calli (va_runV (As := [.ref qr, .int w]) (rest := []) ⟨hx, hb, hml, hown, hts⟩ (metX0_lentBy l dC dI ct A (ex ++ [(qr, .inl (ct 0, 2 * M, .inl (cutF (2 * M) (fun j => f (I + j)) (fun _ => 0))))]) o q ql qs md qe n y (upd g 0 0) a w ex.length qr M (cutF (2 * M) (fun j => f (I + j)) (fun _ => 0)) ap_last (by omega) hn6 hwv) (cwV 2 hts (lw_V q685 q687 qs16 q69 q688) rfl rfl rfl (by decide +kernel) ⟨Nat.le_of_ble_eq_true rfl, Nat.le_of_ble_eq_true rfl⟩) (gPV hK hP hD hE _) rfl rfl hl.1 rfl (lv_room (Nat.le_of_ble_eq_true rfl)) dX0_loans_79 ⟨Nat.le_of_ble_eq_true rfl, Nat.le_of_ble_eq_true rfl⟩) hS (fun q _ h => h) (fun q h => h) (fun r u t H1 locs ht hvm hw hB hz1 hk1 hS => ?_)
            obtain ⟨hw, T_6, hw2⟩ := hw
            have hw : r = (if allP n (cutF (2 * M) (fun j => f (I + j)) (fun _ => 0)) (2 * M) = true then lval n (a 4) (lgo fuX (laX (g 3) (g 4) (a 2) (a 5)) (a 4) n (fun t => cix ((cutF (2 * M) (fun j => f (I + j)) (fun _ => 0)) t)) (xbeg n (a 3) ((a 12), (a 13), (a 14), (a 15), (a 16))) M) (hmV n (lgo fuX (laX (g 3) (g 4) (a 2) (a 5)) (a 4) n (fun t => cix ((cutF (2 * M) (fun j => f (I + j)) (fun _ => 0)) t)) (xbeg n (a 3) ((a 12), (a 13), (a 14), (a 15), (a 16))) M).1) w else (-1)) := hw
            subst hw
            subst hw2
            obtain ⟨hP, -, hD⟩ := hB
            rw [ht] at hP
            generalize H1 = H at hP hS ⊢
            have hP : va_P (dC, dI) clA (xG ct o q (ql, qs, md, qe, n) y (upd (upd g 0 0) 18 T_6.2.2) (va_up (va_up (va_up (va_up (va_up a 12 ((T_6.1).1)) 13 ((T_6.1).2.1)) 14 ((T_6.1).2.2.1)) 15 ((T_6.1).2.2.2.1)) 16 ((T_6.1).2.2.2.2)) (ex ++ [(qr, .inl (ct 0, 2 * M, .inl (cutF (2 * M) (fun j => f (I + j)) (fun _ => 0))))])) H := hP
            have hD : va_D A (xG ct o q (ql, qs, md, qe, n) y (upd (upd g 0 0) 18 T_6.2.2) (va_up (va_up (va_up (va_up (va_up a 12 ((T_6.1).1)) 13 ((T_6.1).2.1)) 14 ((T_6.1).2.2.1)) 15 ((T_6.1).2.2.2.1)) 16 ((T_6.1).2.2.2.2)) (ex ++ [(qr, .inl (ct 0, 2 * M, .inl (cutF (2 * M) (fun j => f (I + j)) (fun _ => 0))))])) := hD
            rw [xG_app] at hP hD
            have hP := hP.left
            have hD := hD.left
            refine W.widen (k := 8) (n := 3000) (Nat.le_of_ble_eq_true rfl) (Nat.le_of_ble_eq_true rfl) ?_
            exact W.iret (v := (if allP n (cutF (2 * M) (fun j => f (I + j)) (fun _ => 0)) (2 * M) = true then lval n (a 4) (lgo fuX (laX (g 3) (g 4) (a 2) (a 5)) (a 4) n (fun t => cix ((cutF (2 * M) (fun j => f (I + j)) (fun _ => 0)) t)) (xbeg n (a 3) ((a 12), (a 13), (a 14), (a 15), (a 16))) M) (hmV n (lgo fuX (laX (g 3) (g 4) (a 2) (a 5)) (a 4) n (fun t => cix ((cutF (2 * M) (fun j => f (I + j)) (fun _ => 0)) t)) (xbeg n (a 3) ((a 12), (a 13), (a 14), (a 15), (a 16))) M).1) w else (-1))) hx hb hr (fun t ht hW => ⟨⟨(if allP n (cutF (2 * M) (fun j => f (I + j)) (fun _ => 0)) (2 * M) = true then lval n (a 4) (lgo fuX (laX (g 3) (g 4) (a 2) (a 5)) (a 4) n (fun t => cix ((cutF (2 * M) (fun j => f (I + j)) (fun _ => 0)) t)) (xbeg n (a 3) ((a 12), (a 13), (a 14), (a 15), (a 16))) M) (hmV n (lgo fuX (laX (g 3) (g 4) (a 2) (a 5)) (a 4) n (fun t => cix ((cutF (2 * M) (fun j => f (I + j)) (fun _ => 0)) t)) (xbeg n (a 3) ((a 12), (a 13), (a 14), (a 15), (a 16))) M).1) w else (-1)), ((upd (upd g 0 0) 18 T_6.2.2), (va_up (va_up (va_up (va_up (va_up a 12 ((T_6.1).1)) 13 ((T_6.1).2.1)) 14 ((T_6.1).2.2.1)) 15 ((T_6.1).2.2.2.1)) 16 ((T_6.1).2.2.2.2))), rfl, ⟨rfl, ⟨T_6, rfl⟩⟩, by rw [ht]; exact hP, va_K.moved hW.alike hK, hD⟩, hS.F ht⟩) hS.2.2 dX0_loans_82
          · skip
            exact False.elim (by simp [hnz] at c_5)
        · skip
          exact False.elim (by rw [hwv] at c_4; cases c_4)
  · skip
    exact False.elim (by rw [inK hK4] at c_1; cases c_1)
set_option maxHeartbeats 4000000 in
set_option maxRecDepth 100000 in
theorem metX0_odds_bad (l : Launch) (dC : Nat → ClassId) (dI : Nat → Nat → Nat) (ct : Nat → ClassId) (A : Nat → Prop) (ex : va_W) (o : Nat) (q : Nat → Nat) (ql qs : Nat) (md : Int32) (qe n : Nat) (y : Nat → Nat) (g : Nat → Int32) (a : Nat → Nat → Int32) (htr : l.stackTraces = false) (pp : Int32) (k : Int32) (lane : Int32) (i : Int32) (z : Int32) (w : Int32) (hn6 : n ≤ 6) (ho : ¬ (inP pp n = true ∧ inP k 4 = true ∧ inP lane 3 = true ∧ lin z.toInt64 0 20 = true ∧ lin w.toInt64 0 1 = true)) : Met l yX0_odds (wsW_ yX0_odds cX0_odds 8 (some .long) [((55 : Nat), (84 : Nat), (85 : Nat), (173 : Nat)), ((55 : Nat), (84 : Nat), (93 : Nat), (179 : Nat)), ((55 : Nat), (84 : Nat), (101 : Nat), (183 : Nat))]) ({ frames := 16, cells := 8, slots := 3000, locals := 12000 }) (sPre dC dI ct A ex o q (ql, qs, md, qe, n) y g a [.ref o, .int pp, .int k, .int lane, .int i, .int z, .int w]) (va_Ql (fun (r : Int64) (u : (Nat → Int32) × (Nat → Nat → Int32)) => r = (-9223372036854775808) ∧ u = ((upd g 0 0), a)) (fun u t => gB dC dI ct A ex o q (ql, qs, md, qe, n) y u t) A) 8 3000 A := by
  refine cx_MetW (cc := cX0_odds) (maxL := 8) (ret := (some .long)) (hh := [((55 : Nat), (84 : Nat), (85 : Nat), (173 : Nat)), ((55 : Nat), (84 : Nat), (93 : Nat), (179 : Nat)), ((55 : Nat), (84 : Nat), (101 : Nat), (183 : Nat))]) (by decide) rfl ?_
  intro p e s m args below meth c s₁ B hml het hv
  obtain ⟨rfl, hP, hK, hD, hE, hE9, hA, hst, hI9⟩ := hv
  have hN9 := hE9.now
  have hx := B.exec
  have hb := B.bytes
  have hr := B.returns
  have hts := atoms_spec (ws := wsW_ yX0_odds cX0_odds 8 (some .long) [((55 : Nat), (84 : Nat), (85 : Nat), (173 : Nat)), ((55 : Nat), (84 : Nat), (93 : Nat), (179 : Nat)), ((55 : Nat), (84 : Nat), (101 : Nat), (183 : Nat))]) B.pre
  have hts : ∀ w ∈ lw_all, w.before _ s = true := fun w h => hts w (List.mem_cons_of_mem _ h)
  have hown : s.vm.findClass RX0 = some m.cls := findClass_of_methodNamed B.named
  have hlocks := B.notSynchronized
  have hS : va_S A s.heap s.heap [] := va_S.rf
  have hl := lv_entry ([.ref o, .int pp, .int k, .int lane, .int i, .int z, .int w]) (n := 8) (Nat.le_of_ble_eq_true rfl)
  rw [lg_entry_eq]
  generalize (lg_sl ([.ref o, .int pp, .int k, .int lane, .int i, .int z, .int w]) ++ List.replicate (8 - (lg_sl ([.ref o, .int pp, .int k, .int lane, .int i, .int z, .int w])).length) Slot.unset).toArray = ls at hl ⊢
  have hl : lv_has ls 8 [(0, .ref o), (1, .int pp), (2, .int k), (3, .int lane), (4, .int i), (5, .int z), (6, .int w)] := hl
  refine lv_aload_n hx hb dX0_odds_0 rfl (lv_at hl 0 rfl) ?_
  refine lv_iconst (v := 0) hx hb dX0_odds_1 (by decide) ?_
  refine g_put (v := 0) hx hb hts hown hK hP hD hS 0 0 (by decide) rfl q144 rfl rfl (by decide +kernel) dX0_odds_2 (fun H locs hP hD hS => ?_)
  refine lv_aload_n hx hb dX0_odds_5 rfl (lv_at hl 0 rfl) ?_
  refine lv_iload_n hx hb dX0_odds_6 rfl (lv_at hl 1 rfl) ?_
  refine vp_callSi ((va_runV (As := [.int pp]) (rest := []) ⟨hx, hb, hml, hown, hts⟩ (metX0_isPerson l dC dI ct A (peW ct o qe n y a ++ ex) o q ql qs md qe n (upd g 0 0) a pp hn6) (cwV 1 hts (lw_V q589 q591 qs13 q69 q592) rfl rfl rfl (by decide +kernel) ⟨Nat.le_of_ble_eq_true rfl, Nat.le_of_ble_eq_true rfl⟩) (xPV hK hP hD hE _) rfl rfl hl.1 rfl (lv_room (Nat.le_of_ble_eq_true rfl)) dX0_odds_7 ⟨Nat.le_of_ble_eq_true rfl, Nat.le_of_ble_eq_true rfl⟩)).run (fun r hw => ?_)
  have hw : r = (b2i (inP pp n)) := hw
  subst hw
  refine bz_eq (tgt := 51) hx hb dX0_odds_10 (by decide) (fun c_1 => ?_) (fun c_1 => ?_)
  · skip
    refine lv_ldc2 (v := (-9223372036854775808)) hx hb hown (hts _ q846) dX0_odds_51 ?_
    refine W.widen (k := 8) (n := 3000) (Nat.le_of_ble_eq_true rfl) (Nat.le_of_ble_eq_true rfl) ?_
    exact W.lret (v := (-9223372036854775808)) hx hb hr (fun t ht hW => ⟨⟨(-9223372036854775808), ((upd g 0 0), a), rfl, ⟨(by first | rfl | (simp [c_1]; done)), rfl⟩, by rw [ht]; exact hP, va_K.moved hW.alike hK, hD⟩, hS.F ht⟩) hS.2.2 dX0_odds_54
  · skip
    refine lv_iload_n hx hb dX0_odds_13 rfl (lv_at hl 2 rfl) ?_
    refine vp_callSi ((va_runS (As := [.int k]) (rest := []) ⟨hx, hb, hml, hown, hts⟩ (metX0_isSheet l k ) (va_cwS 1 hts (lw_S q376 q377 q69 q378) rfl rfl rfl (by decide +kernel) ⟨Nat.le_of_ble_eq_true rfl, Nat.le_of_ble_eq_true rfl⟩) (pcS _) rfl rfl hl.1 rfl (lv_room (Nat.le_of_ble_eq_true rfl)) dX0_odds_14 ⟨Nat.le_of_ble_eq_true rfl, Nat.le_of_ble_eq_true rfl⟩)).run (fun r hw => ?_)
    have hw : r = (b2i (inP k 4)) := hw
    subst hw
    refine bz_eq (tgt := 51) hx hb dX0_odds_17 (by decide) (fun c_2 => ?_) (fun c_2 => ?_)
    · skip
      refine lv_ldc2 (v := (-9223372036854775808)) hx hb hown (hts _ q846) dX0_odds_51 ?_
      refine W.widen (k := 8) (n := 3000) (Nat.le_of_ble_eq_true rfl) (Nat.le_of_ble_eq_true rfl) ?_
      exact W.lret (v := (-9223372036854775808)) hx hb hr (fun t ht hW => ⟨⟨(-9223372036854775808), ((upd g 0 0), a), rfl, ⟨(by first | rfl | (simp [c_1, c_2]; done)), rfl⟩, by rw [ht]; exact hP, va_K.moved hW.alike hK, hD⟩, hS.F ht⟩) hS.2.2 dX0_odds_54
    · skip
      refine lv_iload_n hx hb dX0_odds_20 rfl (lv_at hl 3 rfl) ?_
      refine vp_callSi ((va_runS (As := [.int lane]) (rest := []) ⟨hx, hb, hml, hown, hts⟩ (metX0_isLane l lane ) (va_cwS 1 hts (lw_S q383 q384 q69 q385) rfl rfl rfl (by decide +kernel) ⟨Nat.le_of_ble_eq_true rfl, Nat.le_of_ble_eq_true rfl⟩) (pcS _) rfl rfl hl.1 rfl (lv_room (Nat.le_of_ble_eq_true rfl)) dX0_odds_21 ⟨Nat.le_of_ble_eq_true rfl, Nat.le_of_ble_eq_true rfl⟩)).run (fun r hw => ?_)
      have hw : r = (b2i (inP lane 3)) := hw
      subst hw
      refine bz_eq (tgt := 51) hx hb dX0_odds_24 (by decide) (fun c_3 => ?_) (fun c_3 => ?_)
      · skip
        refine lv_ldc2 (v := (-9223372036854775808)) hx hb hown (hts _ q846) dX0_odds_51 ?_
        refine W.widen (k := 8) (n := 3000) (Nat.le_of_ble_eq_true rfl) (Nat.le_of_ble_eq_true rfl) ?_
        exact W.lret (v := (-9223372036854775808)) hx hb hr (fun t ht hW => ⟨⟨(-9223372036854775808), ((upd g 0 0), a), rfl, ⟨(by first | rfl | (simp [c_1, c_2, c_3]; done)), rfl⟩, by rw [ht]; exact hP, va_K.moved hW.alike hK, hD⟩, hS.F ht⟩) hS.2.2 dX0_odds_54
      · skip
        refine lv_iload hx hb dX0_odds_27 (lv_at hl 5 rfl) ?_
        refine lv_i2l (v := (Int32.toInt64 z)) hx hb dX0_odds_29 rfl ?_
        refine lv_lconst (v := 0) hx hb dX0_odds_30 (by decide) ?_
        refine lv_ldc2 (v := 20) hx hb hown (hts _ q663) dX0_odds_31 ?_
        refine vp_callSi ((va_runS (As := [.long (Int32.toInt64 z), .long 0, .long 20]) (rest := []) ⟨hx, hb, hml, hown, hts⟩ (metX0_isIn l (Int32.toInt64 z) 0 20 ) (va_cwS 3 hts (lw_S q380 q381 q69 q382) rfl rfl rfl (by decide +kernel) ⟨Nat.le_of_ble_eq_true rfl, Nat.le_of_ble_eq_true rfl⟩) (pcS _) rfl rfl hl.1 rfl (lv_room (Nat.le_of_ble_eq_true rfl)) dX0_odds_34 ⟨Nat.le_of_ble_eq_true rfl, Nat.le_of_ble_eq_true rfl⟩)).run (fun r hw => ?_)
        have hw : r = (b2i (lin (Int32.toInt64 z) 0 20)) := hw
        subst hw
        refine bz_eq (tgt := 51) hx hb dX0_odds_37 (by decide) (fun c_4 => ?_) (fun c_4 => ?_)
        · skip
          refine lv_ldc2 (v := (-9223372036854775808)) hx hb hown (hts _ q846) dX0_odds_51 ?_
          refine W.widen (k := 8) (n := 3000) (Nat.le_of_ble_eq_true rfl) (Nat.le_of_ble_eq_true rfl) ?_
          exact W.lret (v := (-9223372036854775808)) hx hb hr (fun t ht hW => ⟨⟨(-9223372036854775808), ((upd g 0 0), a), rfl, ⟨(by first | rfl | (simp [c_1, c_2, c_3, c_4]; done)), rfl⟩, by rw [ht]; exact hP, va_K.moved hW.alike hK, hD⟩, hS.F ht⟩) hS.2.2 dX0_odds_54
        · skip
          refine lv_iload hx hb dX0_odds_40 (lv_at hl 6 rfl) ?_
          refine lv_i2l (v := (Int32.toInt64 w)) hx hb dX0_odds_42 rfl ?_
          refine lv_lconst (v := 0) hx hb dX0_odds_43 (by decide) ?_
          refine lv_lconst (v := 1) hx hb dX0_odds_44 (by decide) ?_
          refine vp_callSi ((va_runS (As := [.long (Int32.toInt64 w), .long 0, .long 1]) (rest := []) ⟨hx, hb, hml, hown, hts⟩ (metX0_isIn l (Int32.toInt64 w) 0 1 ) (va_cwS 3 hts (lw_S q380 q381 q69 q382) rfl rfl rfl (by decide +kernel) ⟨Nat.le_of_ble_eq_true rfl, Nat.le_of_ble_eq_true rfl⟩) (pcS _) rfl rfl hl.1 rfl (lv_room (Nat.le_of_ble_eq_true rfl)) dX0_odds_45 ⟨Nat.le_of_ble_eq_true rfl, Nat.le_of_ble_eq_true rfl⟩)).run (fun r hw => ?_)
          have hw : r = (b2i (lin (Int32.toInt64 w) 0 1)) := hw
          subst hw
          refine bz_ne (tgt := 55) hx hb dX0_odds_48 (by decide) (fun c_5 => ?_) (fun c_5 => ?_)
          · skip
            exact False.elim (by exact ho ⟨c_1, c_2, c_3, c_4, c_5⟩)
          · skip
            refine lv_ldc2 (v := (-9223372036854775808)) hx hb hown (hts _ q846) dX0_odds_51 ?_
            refine W.widen (k := 8) (n := 3000) (Nat.le_of_ble_eq_true rfl) (Nat.le_of_ble_eq_true rfl) ?_
            exact W.lret (v := (-9223372036854775808)) hx hb hr (fun t ht hW => ⟨⟨(-9223372036854775808), ((upd g 0 0), a), rfl, ⟨(by first | rfl | (simp [c_1, c_2, c_3, c_4, c_5]; done)), rfl⟩, by rw [ht]; exact hP, va_K.moved hW.alike hK, hD⟩, hS.F ht⟩) hS.2.2 dX0_odds_54
set_option maxHeartbeats 4000000 in
set_option maxRecDepth 100000 in
theorem metX0_odds_n (l : Launch) (dC : Nat → ClassId) (dI : Nat → Nat → Nat) (ct : Nat → ClassId) (A : Nat → Prop) (ex : va_W) (o : Nat) (q : Nat → Nat) (ql qs : Nat) (md : Int32) (qe n : Nat) (y : Nat → Nat) (g : Nat → Int32) (a : Nat → Nat → Int32) (htr : l.stackTraces = false) (P : Nat) (K : Nat) (lz : Nat) (i : Int32) (M : Nat) (w : Int32) (j0 : Nat) (pl : Nat → Nat) (hj0 : ex[j0]? = some (qs, .inl (ct 5, 4, .inr (.inr (.inr (.inr (fun j => some (pl j)))))))) (K : Nat) (hK4 : K < 4) (j1 : Nat) (hj1 : ex[j1]? = some (pl K, .inr (6, [.null]))) (hlz : lz < 3) (hM : M ≤ 20) (hn6 : n ≤ 6) (hPn : P < n) (hw2 : lin w.toInt64 0 1 = true) : Met l yX0_odds (wsW_ yX0_odds cX0_odds 8 (some .long) [((55 : Nat), (84 : Nat), (85 : Nat), (173 : Nat)), ((55 : Nat), (84 : Nat), (93 : Nat), (179 : Nat)), ((55 : Nat), (84 : Nat), (101 : Nat), (183 : Nat))]) ({ frames := 16, cells := 8, slots := 3000, locals := 12000 }) (sPre dC dI ct A ex o q (ql, qs, md, qe, n) y g a [.ref o, .int (nI P), .int (nI K), .int (nI lz), .int i, .int (nI M), .int w]) (va_Ql (fun (r : Int64) (u : (Nat → Int32) × (Nat → Nat → Int32)) => r = (-9223372036854775808) ∧ u = ((upd g 0 1), a)) (fun u t => gB dC dI ct A ex o q (ql, qs, md, qe, n) y u t) A) 8 3000 A := by
  refine cx_MetW (cc := cX0_odds) (maxL := 8) (ret := (some .long)) (hh := [((55 : Nat), (84 : Nat), (85 : Nat), (173 : Nat)), ((55 : Nat), (84 : Nat), (93 : Nat), (179 : Nat)), ((55 : Nat), (84 : Nat), (101 : Nat), (183 : Nat))]) (by decide) rfl ?_
  intro p e s m args below meth c s₁ B hml het hv
  obtain ⟨rfl, hP, hK, hD, hE, hE9, hA, hst, hI9⟩ := hv
  have hN9 := hE9.now
  have hx := B.exec
  have hb := B.bytes
  have hr := B.returns
  have hts := atoms_spec (ws := wsW_ yX0_odds cX0_odds 8 (some .long) [((55 : Nat), (84 : Nat), (85 : Nat), (173 : Nat)), ((55 : Nat), (84 : Nat), (93 : Nat), (179 : Nat)), ((55 : Nat), (84 : Nat), (101 : Nat), (183 : Nat))]) B.pre
  have hts : ∀ w ∈ lw_all, w.before _ s = true := fun w h => hts w (List.mem_cons_of_mem _ h)
  have hown : s.vm.findClass RX0 = some m.cls := findClass_of_methodNamed B.named
  have hlocks := B.notSynchronized
  have hS : va_S A s.heap s.heap [] := va_S.rf
  have hl := lv_entry ([.ref o, .int (nI P), .int (nI K), .int (nI lz), .int i, .int (nI M), .int w]) (n := 8) (Nat.le_of_ble_eq_true rfl)
  rw [lg_entry_eq]
  generalize (lg_sl ([.ref o, .int (nI P), .int (nI K), .int (nI lz), .int i, .int (nI M), .int w]) ++ List.replicate (8 - (lg_sl ([.ref o, .int (nI P), .int (nI K), .int (nI lz), .int i, .int (nI M), .int w])).length) Slot.unset).toArray = ls at hl ⊢
  have hl : lv_has ls 8 [(0, .ref o), (1, .int (nI P)), (2, .int (nI K)), (3, .int (nI lz)), (4, .int i), (5, .int (nI M)), (6, .int w)] := hl
  refine lv_aload_n hx hb dX0_odds_0 rfl (lv_at hl 0 rfl) ?_
  refine lv_iconst (v := 0) hx hb dX0_odds_1 (by decide) ?_
  refine g_put (v := 0) hx hb hts hown hK hP hD hS 0 0 (by decide) rfl q144 rfl rfl (by decide +kernel) dX0_odds_2 (fun H locs hP hD hS => ?_)
  refine lv_aload_n hx hb dX0_odds_5 rfl (lv_at hl 0 rfl) ?_
  refine lv_iload_n hx hb dX0_odds_6 rfl (lv_at hl 1 rfl) ?_
  refine vp_callSi ((va_runV (As := [.int (nI P)]) (rest := []) ⟨hx, hb, hml, hown, hts⟩ (metX0_isPerson l dC dI ct A (peW ct o qe n y a ++ ex) o q ql qs md qe n (upd g 0 0) a (nI P) hn6) (cwV 1 hts (lw_V q589 q591 qs13 q69 q592) rfl rfl rfl (by decide +kernel) ⟨Nat.le_of_ble_eq_true rfl, Nat.le_of_ble_eq_true rfl⟩) (xPV hK hP hD hE _) rfl rfl hl.1 rfl (lv_room (Nat.le_of_ble_eq_true rfl)) dX0_odds_7 ⟨Nat.le_of_ble_eq_true rfl, Nat.le_of_ble_eq_true rfl⟩)).run (fun r hw => ?_)
  have hw : r = (b2i (inP (nI P) n)) := hw
  subst hw
  refine bz_eq (tgt := 51) hx hb dX0_odds_10 (by decide) (fun c_1 => ?_) (fun c_1 => ?_)
  · skip
    exact False.elim (by rw [inPn hn6 hPn] at c_1; cases c_1)
  · skip
    refine lv_iload_n hx hb dX0_odds_13 rfl (lv_at hl 2 rfl) ?_
    refine vp_callSi ((va_runS (As := [.int (nI K)]) (rest := []) ⟨hx, hb, hml, hown, hts⟩ (metX0_isSheet l (nI K) ) (va_cwS 1 hts (lw_S q376 q377 q69 q378) rfl rfl rfl (by decide +kernel) ⟨Nat.le_of_ble_eq_true rfl, Nat.le_of_ble_eq_true rfl⟩) (pcS _) rfl rfl hl.1 rfl (lv_room (Nat.le_of_ble_eq_true rfl)) dX0_odds_14 ⟨Nat.le_of_ble_eq_true rfl, Nat.le_of_ble_eq_true rfl⟩)).run (fun r hw => ?_)
    have hw : r = (b2i (inP (nI K) 4)) := hw
    subst hw
    refine bz_eq (tgt := 51) hx hb dX0_odds_17 (by decide) (fun c_2 => ?_) (fun c_2 => ?_)
    · skip
      exact False.elim (by rw [inK hK4] at c_2; cases c_2)
    · skip
      refine lv_iload_n hx hb dX0_odds_20 rfl (lv_at hl 3 rfl) ?_
      refine vp_callSi ((va_runS (As := [.int (nI lz)]) (rest := []) ⟨hx, hb, hml, hown, hts⟩ (metX0_isLane l (nI lz) ) (va_cwS 1 hts (lw_S q383 q384 q69 q385) rfl rfl rfl (by decide +kernel) ⟨Nat.le_of_ble_eq_true rfl, Nat.le_of_ble_eq_true rfl⟩) (pcS _) rfl rfl hl.1 rfl (lv_room (Nat.le_of_ble_eq_true rfl)) dX0_odds_21 ⟨Nat.le_of_ble_eq_true rfl, Nat.le_of_ble_eq_true rfl⟩)).run (fun r hw => ?_)
      have hw : r = (b2i (inP (nI lz) 3)) := hw
      subst hw
      refine bz_eq (tgt := 51) hx hb dX0_odds_24 (by decide) (fun c_3 => ?_) (fun c_3 => ?_)
      · skip
        exact False.elim (by rw [inL hlz] at c_3; cases c_3)
      · skip
        refine lv_iload hx hb dX0_odds_27 (lv_at hl 5 rfl) ?_
        refine lv_i2l (v := (Int32.toInt64 (nI M))) hx hb dX0_odds_29 rfl ?_
        refine lv_lconst (v := 0) hx hb dX0_odds_30 (by decide) ?_
        refine lv_ldc2 (v := 20) hx hb hown (hts _ q663) dX0_odds_31 ?_
        refine vp_callSi ((va_runS (As := [.long (Int32.toInt64 (nI M)), .long 0, .long 20]) (rest := []) ⟨hx, hb, hml, hown, hts⟩ (metX0_isIn l (Int32.toInt64 (nI M)) 0 20 ) (va_cwS 3 hts (lw_S q380 q381 q69 q382) rfl rfl rfl (by decide +kernel) ⟨Nat.le_of_ble_eq_true rfl, Nat.le_of_ble_eq_true rfl⟩) (pcS _) rfl rfl hl.1 rfl (lv_room (Nat.le_of_ble_eq_true rfl)) dX0_odds_34 ⟨Nat.le_of_ble_eq_true rfl, Nat.le_of_ble_eq_true rfl⟩)).run (fun r hw => ?_)
        have hw : r = (b2i (lin (Int32.toInt64 (nI M)) 0 20)) := hw
        subst hw
        refine bz_eq (tgt := 51) hx hb dX0_odds_37 (by decide) (fun c_4 => ?_) (fun c_4 => ?_)
        · skip
          exact False.elim (by rw [lin20 hM] at c_4; cases c_4)
        · skip
          refine lv_iload hx hb dX0_odds_40 (lv_at hl 6 rfl) ?_
          refine lv_i2l (v := (Int32.toInt64 w)) hx hb dX0_odds_42 rfl ?_
          refine lv_lconst (v := 0) hx hb dX0_odds_43 (by decide) ?_
          refine lv_lconst (v := 1) hx hb dX0_odds_44 (by decide) ?_
          refine vp_callSi ((va_runS (As := [.long (Int32.toInt64 w), .long 0, .long 1]) (rest := []) ⟨hx, hb, hml, hown, hts⟩ (metX0_isIn l (Int32.toInt64 w) 0 1 ) (va_cwS 3 hts (lw_S q380 q381 q69 q382) rfl rfl rfl (by decide +kernel) ⟨Nat.le_of_ble_eq_true rfl, Nat.le_of_ble_eq_true rfl⟩) (pcS _) rfl rfl hl.1 rfl (lv_room (Nat.le_of_ble_eq_true rfl)) dX0_odds_45 ⟨Nat.le_of_ble_eq_true rfl, Nat.le_of_ble_eq_true rfl⟩)).run (fun r hw => ?_)
          have hw : r = (b2i (lin (Int32.toInt64 w) 0 1)) := hw
          subst hw
          refine bz_ne (tgt := 55) hx hb dX0_odds_48 (by decide) (fun c_5 => ?_) (fun c_5 => ?_)
          · skip
            refine lv_aload_n hx hb dX0_odds_55 rfl (lv_at hl 0 rfl) ?_
            refine lv_iload_n hx hb dX0_odds_56 rfl (lv_at hl 1 rfl) ?_
            refine lv_aload_n hx hb dX0_odds_57 rfl (lv_at hl 0 rfl) ?_
            refine g_get (v := .ref qs) hx hb hts hown hK hP 25 (by decide) rfl q174 rfl dX0_odds_58 ?_
            refine lv_iload_n hx hb dX0_odds_61 rfl (lv_at hl 2 rfl) ?_
            refine s_pla hx hb hK hP (xps n + j0) ((xG_ex j0).trans hj0) K hK4 dX0_odds_62 ?_
            refine s_has hx hb hts hown hK hP hE (xps n + j1) ((xG_ex j1).trans hj1) dX0_odds_63 ?_
            refine lv_iload_n hx hb dX0_odds_66 rfl (lv_at hl 3 rfl) ?_
            refine va_csr ((va_runS (As := [.null, .int (nI lz)]) (rest := [.int (nI P), .ref o]) ⟨hx, hb, hml, hown, hts⟩ (metX0_asLane_n l dC dI ct A (xG ct o q (ql, qs, md, qe, n) y (upd g 0 0) a ex) lz hlz) (va_cwS 2 hts (lw_S q387 q388 q69 q389) rfl rfl rfl (by decide +kernel) ⟨Nat.le_of_ble_eq_true rfl, Nat.le_of_ble_eq_true rfl⟩) (aPS hK hP hE9 hS _) rfl rfl hl.1 rfl (lv_room (Nat.le_of_ble_eq_true rfl)) dX0_odds_67 ⟨Nat.le_of_ble_eq_true rfl, Nat.le_of_ble_eq_true rfl⟩)).run (fun _ _ => ?_)
            refine lv_iload hx hb dX0_odds_70 (lv_at hl 4 rfl) ?_
            refine lv_iconst (v := 2) hx hb dX0_odds_72 (by decide) ?_
            refine lv_iload hx hb dX0_odds_73 (lv_at hl 5 rfl) ?_
            refine lv_imul hx hb dX0_odds_75 ?_
            refine W.exCall (As := [.null, .int i, .int (2 * (nI M))]) (rest := [.int (nI P), .ref o]) ⟨hx, hb, hml, hown, hts⟩ (metX0_rowW_N l dC dI ct A (xG ct o q (ql, qs, md, qe, n) y (upd g 0 0) a ex) htr i (2 * (nI M))) (va_cwS 3 hts (lw_S q393 q394 q69 q395) rfl rfl rfl (by decide +kernel) ⟨Nat.le_of_ble_eq_true rfl, Nat.le_of_ble_eq_true rfl⟩) (rPS hK hP hD hE9 hS hA _) rfl hl.1 rfl (Nat.le_of_ble_eq_true rfl) dX0_odds_76 ⟨Nat.le_of_ble_eq_true rfl, Nat.le_of_ble_eq_true rfl⟩ (fun H x9 ce h1 h2 h3 h4 => ?_)
            have hP := h1.P hP
            have hS := h1.S hS
            refine WT.caught (own := "LentYouths") hown h2 h4 (x := ⟨55, 84, 93, 179⟩) (rest := cxT [(55, 84, 101, 183)]) (nm := "java/lang/NullPointerException") ⟨rfl, by decide, hts _ q318⟩ h3 (va_asg _ _) [(⟨55, 84, 85, 173⟩, "java/lang/ClassCastException")] (fun z hz => by
                simp only [List.mem_cons, List.not_mem_nil, or_false] at hz
                rcases hz with rfl
                · exact Or.inr ⟨⟨rfl, by decide, hts _ q232⟩, cx_nc h3 (hN9.2.1 ("java/lang/NullPointerException", "java/lang/ClassCastException") (by decide))⟩) het ?_
            refine W.eq (g2 := F0 m 93 ls [.ref x9]) rfl ?_
            refine lv_astore (lv' := [(7, .ref x9), (0, .ref o), (1, .int (nI P)), (2, .int (nI K)), (3, .int (nI lz)), (4, .int i), (5, .int (nI M)), (6, .int w)]) hx hb dX0_odds_93 hl (by decide) rfl (fun ls hl => ?_)
            refine lv_aload_n hx hb dX0_odds_95 rfl (lv_at hl 1 rfl) ?_
            refine lv_iconst (v := 1) hx hb dX0_odds_96 (by decide) ?_
            refine va_calll (va_runV (As := [.int 1]) (rest := []) ⟨hx, hb, hml, hown, hts⟩ (metX0_lost l dC dI ct A (peW ct o qe n y a ++ ex) o q ql qs md qe n (upd g 0 0) a 1 ) (cwV 1 hts (lw_V q851 q853 qs39 q69 q854) rfl rfl rfl (by decide +kernel) ⟨Nat.le_of_ble_eq_true rfl, Nat.le_of_ble_eq_true rfl⟩) (xPV hK hP hD hE _) rfl rfl hl.1 rfl (lv_room (Nat.le_of_ble_eq_true rfl)) dX0_odds_97 ⟨Nat.le_of_ble_eq_true rfl, Nat.le_of_ble_eq_true rfl⟩) hS (fun q _ h => h) (fun q h => h) (fun r u t H1 locs ht hvm hw hB hz1 hk1 hS => ?_)
            obtain ⟨hw, hw2⟩ := hw
            have hw : r = (-9223372036854775808) := hw
            subst hw
            subst hw2
            obtain ⟨hP, -, hD⟩ := hB
            rw [ht] at hP
            generalize H1 = H at hP hS ⊢
            have hP : va_P (dC, dI) clA (xG ct o q (ql, qs, md, qe, n) y (upd g 0 1) a ex) H := hP
            have hD : va_D A (xG ct o q (ql, qs, md, qe, n) y (upd g 0 1) a ex) := hD
            refine W.widen (k := 8) (n := 3000) (Nat.le_of_ble_eq_true rfl) (Nat.le_of_ble_eq_true rfl) ?_
            exact W.lret (v := (-9223372036854775808)) hx hb hr (fun t ht hW => ⟨⟨(-9223372036854775808), ((upd g 0 1), a), rfl, ⟨(by first | rfl | (simp [c_1, c_2, c_3, c_4, c_5]; done)), rfl⟩, by rw [ht]; exact hP, va_K.moved hW.alike hK, hD⟩, hS.F ht⟩) hS.2.2 dX0_odds_100
          · skip
            exact False.elim (by rw [hw2] at c_5; cases c_5)
set_option maxHeartbeats 4000000 in
set_option maxRecDepth 100000 in
theorem metX0_odds_C (l : Launch) (dC : Nat → ClassId) (dI : Nat → Nat → Nat) (ct : Nat → ClassId) (A : Nat → Prop) (ex : va_W) (o : Nat) (q : Nat → Nat) (ql qs : Nat) (md : Int32) (qe n : Nat) (y : Nat → Nat) (g : Nat → Int32) (a : Nat → Nat → Int32) (htr : l.stackTraces = false) (P : Nat) (K : Nat) (lz : Nat) (i : Int32) (M : Nat) (w : Int32) (j0 : Nat) (pl : Nat → Nat) (hj0 : ex[j0]? = some (qs, .inl (ct 5, 4, .inr (.inr (.inr (.inr (fun j => some (pl j)))))))) (j2 ad N : Nat) (f : Nat → Int32) (lx : Nat) (hlx : lx < 3) (hj2 : ex[j2]? = some (ad, .inl (ct (lty lx), N, .inl f))) (hN : N ≤ 60) (K : Nat) (hK4 : K < 4) (j1 : Nat) (hj1 : ex[j1]? = some (pl K, .inr (6, [.ref ad]))) (hlz : lz < 3) (hne : lx ≠ lz) (hM : M ≤ 20) (hn6 : n ≤ 6) (hPn : P < n) (hw2 : lin w.toInt64 0 1 = true) : Met l yX0_odds (wsW_ yX0_odds cX0_odds 8 (some .long) [((55 : Nat), (84 : Nat), (85 : Nat), (173 : Nat)), ((55 : Nat), (84 : Nat), (93 : Nat), (179 : Nat)), ((55 : Nat), (84 : Nat), (101 : Nat), (183 : Nat))]) ({ frames := 16, cells := 8, slots := 3000, locals := 12000 }) (sPre dC dI ct A ex o q (ql, qs, md, qe, n) y g a [.ref o, .int (nI P), .int (nI K), .int (nI lz), .int i, .int (nI M), .int w]) (va_Ql (fun (r : Int64) (u : (Nat → Int32) × (Nat → Nat → Int32)) => r = (-9223372036854775808) ∧ u = ((upd g 0 2), a)) (fun u t => gB dC dI ct A ex o q (ql, qs, md, qe, n) y u t) A) 8 3000 A := by
  refine cx_MetW (cc := cX0_odds) (maxL := 8) (ret := (some .long)) (hh := [((55 : Nat), (84 : Nat), (85 : Nat), (173 : Nat)), ((55 : Nat), (84 : Nat), (93 : Nat), (179 : Nat)), ((55 : Nat), (84 : Nat), (101 : Nat), (183 : Nat))]) (by decide) rfl ?_
  intro p e s m args below meth c s₁ B hml het hv
  obtain ⟨rfl, hP, hK, hD, hE, hE9, hA, hst, hI9⟩ := hv
  have hN9 := hE9.now
  have hx := B.exec
  have hb := B.bytes
  have hr := B.returns
  have hts := atoms_spec (ws := wsW_ yX0_odds cX0_odds 8 (some .long) [((55 : Nat), (84 : Nat), (85 : Nat), (173 : Nat)), ((55 : Nat), (84 : Nat), (93 : Nat), (179 : Nat)), ((55 : Nat), (84 : Nat), (101 : Nat), (183 : Nat))]) B.pre
  have hts : ∀ w ∈ lw_all, w.before _ s = true := fun w h => hts w (List.mem_cons_of_mem _ h)
  have hown : s.vm.findClass RX0 = some m.cls := findClass_of_methodNamed B.named
  have hlocks := B.notSynchronized
  have hS : va_S A s.heap s.heap [] := va_S.rf
  have hl := lv_entry ([.ref o, .int (nI P), .int (nI K), .int (nI lz), .int i, .int (nI M), .int w]) (n := 8) (Nat.le_of_ble_eq_true rfl)
  rw [lg_entry_eq]
  generalize (lg_sl ([.ref o, .int (nI P), .int (nI K), .int (nI lz), .int i, .int (nI M), .int w]) ++ List.replicate (8 - (lg_sl ([.ref o, .int (nI P), .int (nI K), .int (nI lz), .int i, .int (nI M), .int w])).length) Slot.unset).toArray = ls at hl ⊢
  have hl : lv_has ls 8 [(0, .ref o), (1, .int (nI P)), (2, .int (nI K)), (3, .int (nI lz)), (4, .int i), (5, .int (nI M)), (6, .int w)] := hl
  refine lv_aload_n hx hb dX0_odds_0 rfl (lv_at hl 0 rfl) ?_
  refine lv_iconst (v := 0) hx hb dX0_odds_1 (by decide) ?_
  refine g_put (v := 0) hx hb hts hown hK hP hD hS 0 0 (by decide) rfl q144 rfl rfl (by decide +kernel) dX0_odds_2 (fun H locs hP hD hS => ?_)
  refine lv_aload_n hx hb dX0_odds_5 rfl (lv_at hl 0 rfl) ?_
  refine lv_iload_n hx hb dX0_odds_6 rfl (lv_at hl 1 rfl) ?_
  refine vp_callSi ((va_runV (As := [.int (nI P)]) (rest := []) ⟨hx, hb, hml, hown, hts⟩ (metX0_isPerson l dC dI ct A (peW ct o qe n y a ++ ex) o q ql qs md qe n (upd g 0 0) a (nI P) hn6) (cwV 1 hts (lw_V q589 q591 qs13 q69 q592) rfl rfl rfl (by decide +kernel) ⟨Nat.le_of_ble_eq_true rfl, Nat.le_of_ble_eq_true rfl⟩) (xPV hK hP hD hE _) rfl rfl hl.1 rfl (lv_room (Nat.le_of_ble_eq_true rfl)) dX0_odds_7 ⟨Nat.le_of_ble_eq_true rfl, Nat.le_of_ble_eq_true rfl⟩)).run (fun r hw => ?_)
  have hw : r = (b2i (inP (nI P) n)) := hw
  subst hw
  refine bz_eq (tgt := 51) hx hb dX0_odds_10 (by decide) (fun c_1 => ?_) (fun c_1 => ?_)
  · skip
    exact False.elim (by rw [inPn hn6 hPn] at c_1; cases c_1)
  · skip
    refine lv_iload_n hx hb dX0_odds_13 rfl (lv_at hl 2 rfl) ?_
    refine vp_callSi ((va_runS (As := [.int (nI K)]) (rest := []) ⟨hx, hb, hml, hown, hts⟩ (metX0_isSheet l (nI K) ) (va_cwS 1 hts (lw_S q376 q377 q69 q378) rfl rfl rfl (by decide +kernel) ⟨Nat.le_of_ble_eq_true rfl, Nat.le_of_ble_eq_true rfl⟩) (pcS _) rfl rfl hl.1 rfl (lv_room (Nat.le_of_ble_eq_true rfl)) dX0_odds_14 ⟨Nat.le_of_ble_eq_true rfl, Nat.le_of_ble_eq_true rfl⟩)).run (fun r hw => ?_)
    have hw : r = (b2i (inP (nI K) 4)) := hw
    subst hw
    refine bz_eq (tgt := 51) hx hb dX0_odds_17 (by decide) (fun c_2 => ?_) (fun c_2 => ?_)
    · skip
      exact False.elim (by rw [inK hK4] at c_2; cases c_2)
    · skip
      refine lv_iload_n hx hb dX0_odds_20 rfl (lv_at hl 3 rfl) ?_
      refine vp_callSi ((va_runS (As := [.int (nI lz)]) (rest := []) ⟨hx, hb, hml, hown, hts⟩ (metX0_isLane l (nI lz) ) (va_cwS 1 hts (lw_S q383 q384 q69 q385) rfl rfl rfl (by decide +kernel) ⟨Nat.le_of_ble_eq_true rfl, Nat.le_of_ble_eq_true rfl⟩) (pcS _) rfl rfl hl.1 rfl (lv_room (Nat.le_of_ble_eq_true rfl)) dX0_odds_21 ⟨Nat.le_of_ble_eq_true rfl, Nat.le_of_ble_eq_true rfl⟩)).run (fun r hw => ?_)
      have hw : r = (b2i (inP (nI lz) 3)) := hw
      subst hw
      refine bz_eq (tgt := 51) hx hb dX0_odds_24 (by decide) (fun c_3 => ?_) (fun c_3 => ?_)
      · skip
        exact False.elim (by rw [inL hlz] at c_3; cases c_3)
      · skip
        refine lv_iload hx hb dX0_odds_27 (lv_at hl 5 rfl) ?_
        refine lv_i2l (v := (Int32.toInt64 (nI M))) hx hb dX0_odds_29 rfl ?_
        refine lv_lconst (v := 0) hx hb dX0_odds_30 (by decide) ?_
        refine lv_ldc2 (v := 20) hx hb hown (hts _ q663) dX0_odds_31 ?_
        refine vp_callSi ((va_runS (As := [.long (Int32.toInt64 (nI M)), .long 0, .long 20]) (rest := []) ⟨hx, hb, hml, hown, hts⟩ (metX0_isIn l (Int32.toInt64 (nI M)) 0 20 ) (va_cwS 3 hts (lw_S q380 q381 q69 q382) rfl rfl rfl (by decide +kernel) ⟨Nat.le_of_ble_eq_true rfl, Nat.le_of_ble_eq_true rfl⟩) (pcS _) rfl rfl hl.1 rfl (lv_room (Nat.le_of_ble_eq_true rfl)) dX0_odds_34 ⟨Nat.le_of_ble_eq_true rfl, Nat.le_of_ble_eq_true rfl⟩)).run (fun r hw => ?_)
        have hw : r = (b2i (lin (Int32.toInt64 (nI M)) 0 20)) := hw
        subst hw
        refine bz_eq (tgt := 51) hx hb dX0_odds_37 (by decide) (fun c_4 => ?_) (fun c_4 => ?_)
        · skip
          exact False.elim (by rw [lin20 hM] at c_4; cases c_4)
        · skip
          refine lv_iload hx hb dX0_odds_40 (lv_at hl 6 rfl) ?_
          refine lv_i2l (v := (Int32.toInt64 w)) hx hb dX0_odds_42 rfl ?_
          refine lv_lconst (v := 0) hx hb dX0_odds_43 (by decide) ?_
          refine lv_lconst (v := 1) hx hb dX0_odds_44 (by decide) ?_
          refine vp_callSi ((va_runS (As := [.long (Int32.toInt64 w), .long 0, .long 1]) (rest := []) ⟨hx, hb, hml, hown, hts⟩ (metX0_isIn l (Int32.toInt64 w) 0 1 ) (va_cwS 3 hts (lw_S q380 q381 q69 q382) rfl rfl rfl (by decide +kernel) ⟨Nat.le_of_ble_eq_true rfl, Nat.le_of_ble_eq_true rfl⟩) (pcS _) rfl rfl hl.1 rfl (lv_room (Nat.le_of_ble_eq_true rfl)) dX0_odds_45 ⟨Nat.le_of_ble_eq_true rfl, Nat.le_of_ble_eq_true rfl⟩)).run (fun r hw => ?_)
          have hw : r = (b2i (lin (Int32.toInt64 w) 0 1)) := hw
          subst hw
          refine bz_ne (tgt := 55) hx hb dX0_odds_48 (by decide) (fun c_5 => ?_) (fun c_5 => ?_)
          · skip
            refine lv_aload_n hx hb dX0_odds_55 rfl (lv_at hl 0 rfl) ?_
            refine lv_iload_n hx hb dX0_odds_56 rfl (lv_at hl 1 rfl) ?_
            refine lv_aload_n hx hb dX0_odds_57 rfl (lv_at hl 0 rfl) ?_
            refine g_get (v := .ref qs) hx hb hts hown hK hP 25 (by decide) rfl q174 rfl dX0_odds_58 ?_
            refine lv_iload_n hx hb dX0_odds_61 rfl (lv_at hl 2 rfl) ?_
            refine s_pla hx hb hK hP (xps n + j0) ((xG_ex j0).trans hj0) K hK4 dX0_odds_62 ?_
            refine s_has hx hb hts hown hK hP hE (xps n + j1) ((xG_ex j1).trans hj1) dX0_odds_63 ?_
            refine lv_iload_n hx hb dX0_odds_66 rfl (lv_at hl 3 rfl) ?_
            refine W.exCall (As := [.ref ad, .int (nI lz)]) (rest := [.int (nI P), .ref o]) ⟨hx, hb, hml, hown, hts⟩ (metX0_asLane_x l dC dI ct A (xG ct o q (ql, qs, md, qe, n) y (upd g 0 0) a ex) htr (xps n + j2) ad N f lx hlx ((xG_ex j2).trans hj2) (by omega) lz hlz hne) (va_cwS 2 hts (lw_S q387 q388 q69 q389) rfl rfl rfl (by decide +kernel) ⟨Nat.le_of_ble_eq_true rfl, Nat.le_of_ble_eq_true rfl⟩) (aPS hK hP hE9 hS _) rfl hl.1 rfl (Nat.le_of_ble_eq_true rfl) dX0_odds_67 ⟨Nat.le_of_ble_eq_true rfl, Nat.le_of_ble_eq_true rfl⟩ (fun H x9 ce h1 h2 h3 h4 => ?_)
            have hP := h1.P hP
            have hS := h1.S hS
            refine WT.caught (own := "LentYouths") hown h2 h4 (x := ⟨55, 84, 85, 173⟩) (rest := cxT [(55, 84, 93, 179), (55, 84, 101, 183)]) (nm := "java/lang/ClassCastException") ⟨rfl, by decide, hts _ q232⟩ h3 (va_asg _ _) [] (fun z hz => absurd hz List.not_mem_nil) het ?_
            refine W.eq (g2 := F0 m 85 ls [.ref x9]) rfl ?_
            refine lv_astore (lv' := [(7, .ref x9), (0, .ref o), (1, .int (nI P)), (2, .int (nI K)), (3, .int (nI lz)), (4, .int i), (5, .int (nI M)), (6, .int w)]) hx hb dX0_odds_85 hl (by decide) rfl (fun ls hl => ?_)
            refine lv_aload_n hx hb dX0_odds_87 rfl (lv_at hl 1 rfl) ?_
            refine lv_iconst (v := 2) hx hb dX0_odds_88 (by decide) ?_
            refine va_calll (va_runV (As := [.int 2]) (rest := []) ⟨hx, hb, hml, hown, hts⟩ (metX0_lost l dC dI ct A (peW ct o qe n y a ++ ex) o q ql qs md qe n (upd g 0 0) a 2 ) (cwV 1 hts (lw_V q851 q853 qs39 q69 q854) rfl rfl rfl (by decide +kernel) ⟨Nat.le_of_ble_eq_true rfl, Nat.le_of_ble_eq_true rfl⟩) (xPV hK hP hD hE _) rfl rfl hl.1 rfl (lv_room (Nat.le_of_ble_eq_true rfl)) dX0_odds_89 ⟨Nat.le_of_ble_eq_true rfl, Nat.le_of_ble_eq_true rfl⟩) hS (fun q _ h => h) (fun q h => h) (fun r u t H1 locs ht hvm hw hB hz1 hk1 hS => ?_)
            obtain ⟨hw, hw2⟩ := hw
            have hw : r = (-9223372036854775808) := hw
            subst hw
            subst hw2
            obtain ⟨hP, -, hD⟩ := hB
            rw [ht] at hP
            generalize H1 = H at hP hS ⊢
            have hP : va_P (dC, dI) clA (xG ct o q (ql, qs, md, qe, n) y (upd g 0 2) a ex) H := hP
            have hD : va_D A (xG ct o q (ql, qs, md, qe, n) y (upd g 0 2) a ex) := hD
            refine W.widen (k := 8) (n := 3000) (Nat.le_of_ble_eq_true rfl) (Nat.le_of_ble_eq_true rfl) ?_
            exact W.lret (v := (-9223372036854775808)) hx hb hr (fun t ht hW => ⟨⟨(-9223372036854775808), ((upd g 0 2), a), rfl, ⟨(by first | rfl | (simp [c_1, c_2, c_3, c_4, c_5]; done)), rfl⟩, by rw [ht]; exact hP, va_K.moved hW.alike hK, hD⟩, hS.F ht⟩) hS.2.2 dX0_odds_92
          · skip
            exact False.elim (by rw [hw2] at c_5; cases c_5)
set_option maxHeartbeats 4000000 in
set_option maxRecDepth 100000 in
theorem metX0_odds_I (l : Launch) (dC : Nat → ClassId) (dI : Nat → Nat → Nat) (ct : Nat → ClassId) (A : Nat → Prop) (ex : va_W) (o : Nat) (q : Nat → Nat) (ql qs : Nat) (md : Int32) (qe n : Nat) (y : Nat → Nat) (g : Nat → Int32) (a : Nat → Nat → Int32) (htr : l.stackTraces = false) (P : Nat) (K : Nat) (lx : Nat) (i : Int32) (M : Nat) (w : Int32) (j0 : Nat) (pl : Nat → Nat) (hj0 : ex[j0]? = some (qs, .inl (ct 5, 4, .inr (.inr (.inr (.inr (fun j => some (pl j)))))))) (j2 ad N : Nat) (f : Nat → Int32) (hlx : lx < 3) (hj2 : ex[j2]? = some (ad, .inl (ct (lty lx), N, .inl f))) (hN : N ≤ 60) (K : Nat) (hK4 : K < 4) (j1 : Nat) (hj1 : ex[j1]? = some (pl K, .inr (6, [.ref ad]))) (hM : M ≤ 20) (hn6 : n ≤ 6) (hPn : P < n) (hw2 : lin w.toInt64 0 1 = true) (hr9 : i < 0 ∨ nI N - 2 * nI M < i) : Met l yX0_odds (wsW_ yX0_odds cX0_odds 8 (some .long) [((55 : Nat), (84 : Nat), (85 : Nat), (173 : Nat)), ((55 : Nat), (84 : Nat), (93 : Nat), (179 : Nat)), ((55 : Nat), (84 : Nat), (101 : Nat), (183 : Nat))]) ({ frames := 16, cells := 8, slots := 3000, locals := 12000 }) (sPre dC dI ct A ex o q (ql, qs, md, qe, n) y g a [.ref o, .int (nI P), .int (nI K), .int (nI lx), .int i, .int (nI M), .int w]) (va_Ql (fun (r : Int64) (u : (Nat → Int32) × (Nat → Nat → Int32)) => r = (-9223372036854775808) ∧ u = ((upd g 0 3), a)) (fun u t => gB dC dI ct A ex o q (ql, qs, md, qe, n) y u t) A) 8 3000 A := by
  refine cx_MetW (cc := cX0_odds) (maxL := 8) (ret := (some .long)) (hh := [((55 : Nat), (84 : Nat), (85 : Nat), (173 : Nat)), ((55 : Nat), (84 : Nat), (93 : Nat), (179 : Nat)), ((55 : Nat), (84 : Nat), (101 : Nat), (183 : Nat))]) (by decide) rfl ?_
  intro p e s m args below meth c s₁ B hml het hv
  obtain ⟨rfl, hP, hK, hD, hE, hE9, hA, hst, hI9⟩ := hv
  have hN9 := hE9.now
  have hx := B.exec
  have hb := B.bytes
  have hr := B.returns
  have hts := atoms_spec (ws := wsW_ yX0_odds cX0_odds 8 (some .long) [((55 : Nat), (84 : Nat), (85 : Nat), (173 : Nat)), ((55 : Nat), (84 : Nat), (93 : Nat), (179 : Nat)), ((55 : Nat), (84 : Nat), (101 : Nat), (183 : Nat))]) B.pre
  have hts : ∀ w ∈ lw_all, w.before _ s = true := fun w h => hts w (List.mem_cons_of_mem _ h)
  have hown : s.vm.findClass RX0 = some m.cls := findClass_of_methodNamed B.named
  have hlocks := B.notSynchronized
  have hS : va_S A s.heap s.heap [] := va_S.rf
  have hl := lv_entry ([.ref o, .int (nI P), .int (nI K), .int (nI lx), .int i, .int (nI M), .int w]) (n := 8) (Nat.le_of_ble_eq_true rfl)
  rw [lg_entry_eq]
  generalize (lg_sl ([.ref o, .int (nI P), .int (nI K), .int (nI lx), .int i, .int (nI M), .int w]) ++ List.replicate (8 - (lg_sl ([.ref o, .int (nI P), .int (nI K), .int (nI lx), .int i, .int (nI M), .int w])).length) Slot.unset).toArray = ls at hl ⊢
  have hl : lv_has ls 8 [(0, .ref o), (1, .int (nI P)), (2, .int (nI K)), (3, .int (nI lx)), (4, .int i), (5, .int (nI M)), (6, .int w)] := hl
  have hn0 : 0 ≤ 2 * nI M := by rw [nI_mul2]; exact nI_pos' (by omega)
  refine lv_aload_n hx hb dX0_odds_0 rfl (lv_at hl 0 rfl) ?_
  refine lv_iconst (v := 0) hx hb dX0_odds_1 (by decide) ?_
  refine g_put (v := 0) hx hb hts hown hK hP hD hS 0 0 (by decide) rfl q144 rfl rfl (by decide +kernel) dX0_odds_2 (fun H locs hP hD hS => ?_)
  refine lv_aload_n hx hb dX0_odds_5 rfl (lv_at hl 0 rfl) ?_
  refine lv_iload_n hx hb dX0_odds_6 rfl (lv_at hl 1 rfl) ?_
  refine vp_callSi ((va_runV (As := [.int (nI P)]) (rest := []) ⟨hx, hb, hml, hown, hts⟩ (metX0_isPerson l dC dI ct A (peW ct o qe n y a ++ ex) o q ql qs md qe n (upd g 0 0) a (nI P) hn6) (cwV 1 hts (lw_V q589 q591 qs13 q69 q592) rfl rfl rfl (by decide +kernel) ⟨Nat.le_of_ble_eq_true rfl, Nat.le_of_ble_eq_true rfl⟩) (xPV hK hP hD hE _) rfl rfl hl.1 rfl (lv_room (Nat.le_of_ble_eq_true rfl)) dX0_odds_7 ⟨Nat.le_of_ble_eq_true rfl, Nat.le_of_ble_eq_true rfl⟩)).run (fun r hw => ?_)
  have hw : r = (b2i (inP (nI P) n)) := hw
  subst hw
  refine bz_eq (tgt := 51) hx hb dX0_odds_10 (by decide) (fun c_1 => ?_) (fun c_1 => ?_)
  · skip
    exact False.elim (by rw [inPn hn6 hPn] at c_1; cases c_1)
  · skip
    refine lv_iload_n hx hb dX0_odds_13 rfl (lv_at hl 2 rfl) ?_
    refine vp_callSi ((va_runS (As := [.int (nI K)]) (rest := []) ⟨hx, hb, hml, hown, hts⟩ (metX0_isSheet l (nI K) ) (va_cwS 1 hts (lw_S q376 q377 q69 q378) rfl rfl rfl (by decide +kernel) ⟨Nat.le_of_ble_eq_true rfl, Nat.le_of_ble_eq_true rfl⟩) (pcS _) rfl rfl hl.1 rfl (lv_room (Nat.le_of_ble_eq_true rfl)) dX0_odds_14 ⟨Nat.le_of_ble_eq_true rfl, Nat.le_of_ble_eq_true rfl⟩)).run (fun r hw => ?_)
    have hw : r = (b2i (inP (nI K) 4)) := hw
    subst hw
    refine bz_eq (tgt := 51) hx hb dX0_odds_17 (by decide) (fun c_2 => ?_) (fun c_2 => ?_)
    · skip
      exact False.elim (by rw [inK hK4] at c_2; cases c_2)
    · skip
      refine lv_iload_n hx hb dX0_odds_20 rfl (lv_at hl 3 rfl) ?_
      refine vp_callSi ((va_runS (As := [.int (nI lx)]) (rest := []) ⟨hx, hb, hml, hown, hts⟩ (metX0_isLane l (nI lx) ) (va_cwS 1 hts (lw_S q383 q384 q69 q385) rfl rfl rfl (by decide +kernel) ⟨Nat.le_of_ble_eq_true rfl, Nat.le_of_ble_eq_true rfl⟩) (pcS _) rfl rfl hl.1 rfl (lv_room (Nat.le_of_ble_eq_true rfl)) dX0_odds_21 ⟨Nat.le_of_ble_eq_true rfl, Nat.le_of_ble_eq_true rfl⟩)).run (fun r hw => ?_)
      have hw : r = (b2i (inP (nI lx) 3)) := hw
      subst hw
      refine bz_eq (tgt := 51) hx hb dX0_odds_24 (by decide) (fun c_3 => ?_) (fun c_3 => ?_)
      · skip
        exact False.elim (by rw [inL hlx] at c_3; cases c_3)
      · skip
        refine lv_iload hx hb dX0_odds_27 (lv_at hl 5 rfl) ?_
        refine lv_i2l (v := (Int32.toInt64 (nI M))) hx hb dX0_odds_29 rfl ?_
        refine lv_lconst (v := 0) hx hb dX0_odds_30 (by decide) ?_
        refine lv_ldc2 (v := 20) hx hb hown (hts _ q663) dX0_odds_31 ?_
        refine vp_callSi ((va_runS (As := [.long (Int32.toInt64 (nI M)), .long 0, .long 20]) (rest := []) ⟨hx, hb, hml, hown, hts⟩ (metX0_isIn l (Int32.toInt64 (nI M)) 0 20 ) (va_cwS 3 hts (lw_S q380 q381 q69 q382) rfl rfl rfl (by decide +kernel) ⟨Nat.le_of_ble_eq_true rfl, Nat.le_of_ble_eq_true rfl⟩) (pcS _) rfl rfl hl.1 rfl (lv_room (Nat.le_of_ble_eq_true rfl)) dX0_odds_34 ⟨Nat.le_of_ble_eq_true rfl, Nat.le_of_ble_eq_true rfl⟩)).run (fun r hw => ?_)
        have hw : r = (b2i (lin (Int32.toInt64 (nI M)) 0 20)) := hw
        subst hw
        refine bz_eq (tgt := 51) hx hb dX0_odds_37 (by decide) (fun c_4 => ?_) (fun c_4 => ?_)
        · skip
          exact False.elim (by rw [lin20 hM] at c_4; cases c_4)
        · skip
          refine lv_iload hx hb dX0_odds_40 (lv_at hl 6 rfl) ?_
          refine lv_i2l (v := (Int32.toInt64 w)) hx hb dX0_odds_42 rfl ?_
          refine lv_lconst (v := 0) hx hb dX0_odds_43 (by decide) ?_
          refine lv_lconst (v := 1) hx hb dX0_odds_44 (by decide) ?_
          refine vp_callSi ((va_runS (As := [.long (Int32.toInt64 w), .long 0, .long 1]) (rest := []) ⟨hx, hb, hml, hown, hts⟩ (metX0_isIn l (Int32.toInt64 w) 0 1 ) (va_cwS 3 hts (lw_S q380 q381 q69 q382) rfl rfl rfl (by decide +kernel) ⟨Nat.le_of_ble_eq_true rfl, Nat.le_of_ble_eq_true rfl⟩) (pcS _) rfl rfl hl.1 rfl (lv_room (Nat.le_of_ble_eq_true rfl)) dX0_odds_45 ⟨Nat.le_of_ble_eq_true rfl, Nat.le_of_ble_eq_true rfl⟩)).run (fun r hw => ?_)
          have hw : r = (b2i (lin (Int32.toInt64 w) 0 1)) := hw
          subst hw
          refine bz_ne (tgt := 55) hx hb dX0_odds_48 (by decide) (fun c_5 => ?_) (fun c_5 => ?_)
          · skip
            refine lv_aload_n hx hb dX0_odds_55 rfl (lv_at hl 0 rfl) ?_
            refine lv_iload_n hx hb dX0_odds_56 rfl (lv_at hl 1 rfl) ?_
            refine lv_aload_n hx hb dX0_odds_57 rfl (lv_at hl 0 rfl) ?_
            refine g_get (v := .ref qs) hx hb hts hown hK hP 25 (by decide) rfl q174 rfl dX0_odds_58 ?_
            refine lv_iload_n hx hb dX0_odds_61 rfl (lv_at hl 2 rfl) ?_
            refine s_pla hx hb hK hP (xps n + j0) ((xG_ex j0).trans hj0) K hK4 dX0_odds_62 ?_
            refine s_has hx hb hts hown hK hP hE (xps n + j1) ((xG_ex j1).trans hj1) dX0_odds_63 ?_
            refine lv_iload_n hx hb dX0_odds_66 rfl (lv_at hl 3 rfl) ?_
            refine va_csr ((va_runS (As := [.ref ad, .int (nI lx)]) (rest := [.int (nI P), .ref o]) ⟨hx, hb, hml, hown, hts⟩ (metX0_asLane l dC dI ct A (xG ct o q (ql, qs, md, qe, n) y (upd g 0 0) a ex) (xps n + j2) ad N f lx hlx ((xG_ex j2).trans hj2) (by omega)) (va_cwS 2 hts (lw_S q387 q388 q69 q389) rfl rfl rfl (by decide +kernel) ⟨Nat.le_of_ble_eq_true rfl, Nat.le_of_ble_eq_true rfl⟩) (aPS hK hP hE9 hS _) rfl rfl hl.1 rfl (lv_room (Nat.le_of_ble_eq_true rfl)) dX0_odds_67 ⟨Nat.le_of_ble_eq_true rfl, Nat.le_of_ble_eq_true rfl⟩)).run (fun _ _ => ?_)
            refine lv_iload hx hb dX0_odds_70 (lv_at hl 4 rfl) ?_
            refine lv_iconst (v := 2) hx hb dX0_odds_72 (by decide) ?_
            refine lv_iload hx hb dX0_odds_73 (lv_at hl 5 rfl) ?_
            refine lv_imul hx hb dX0_odds_75 ?_
            refine W.exCall (As := [.ref ad, .int i, .int (2 * (nI M))]) (rest := [.int (nI P), .ref o]) ⟨hx, hb, hml, hown, hts⟩ (metX0_rowW_I l dC dI ct A (xG ct o q (ql, qs, md, qe, n) y (upd g 0 0) a ex) htr (xps n + j2) ad N f lx hlx ((xG_ex j2).trans hj2) hN i (2 * (nI M)) hn0 hr9) (va_cwS 3 hts (lw_S q393 q394 q69 q395) rfl rfl rfl (by decide +kernel) ⟨Nat.le_of_ble_eq_true rfl, Nat.le_of_ble_eq_true rfl⟩) (rPS hK hP hD hE9 hS hA _) rfl hl.1 rfl (Nat.le_of_ble_eq_true rfl) dX0_odds_76 ⟨Nat.le_of_ble_eq_true rfl, Nat.le_of_ble_eq_true rfl⟩ (fun H x9 ce h1 h2 h3 h4 => ?_)
            have hP := h1.P hP
            have hS := h1.S hS
            refine WT.caught (own := "LentYouths") hown h2 h4 (x := ⟨55, 84, 101, 183⟩) (rest := cxT []) (nm := "java/lang/ArrayIndexOutOfBoundsException") ⟨rfl, by decide, hts _ q357⟩ h3 (va_asg _ _) [(⟨55, 84, 85, 173⟩, "java/lang/ClassCastException"), (⟨55, 84, 93, 179⟩, "java/lang/NullPointerException")] (fun z hz => by
                simp only [List.mem_cons, List.not_mem_nil, or_false] at hz
                rcases hz with rfl | rfl
                · exact Or.inr ⟨⟨rfl, by decide, hts _ q232⟩, cx_nc h3 (hN9.2.1 ("java/lang/ArrayIndexOutOfBoundsException", "java/lang/ClassCastException") (by decide))⟩
                · exact Or.inr ⟨⟨rfl, by decide, hts _ q318⟩, cx_nc h3 (hN9.2.1 ("java/lang/ArrayIndexOutOfBoundsException", "java/lang/NullPointerException") (by decide))⟩) het ?_
            refine W.eq (g2 := F0 m 101 ls [.ref x9]) rfl ?_
            refine lv_astore (lv' := [(7, .ref x9), (0, .ref o), (1, .int (nI P)), (2, .int (nI K)), (3, .int (nI lx)), (4, .int i), (5, .int (nI M)), (6, .int w)]) hx hb dX0_odds_101 hl (by decide) rfl (fun ls hl => ?_)
            refine lv_aload_n hx hb dX0_odds_103 rfl (lv_at hl 1 rfl) ?_
            refine lv_iconst (v := 3) hx hb dX0_odds_104 (by decide) ?_
            refine va_calll (va_runV (As := [.int 3]) (rest := []) ⟨hx, hb, hml, hown, hts⟩ (metX0_lost l dC dI ct A (peW ct o qe n y a ++ ex) o q ql qs md qe n (upd g 0 0) a 3 ) (cwV 1 hts (lw_V q851 q853 qs39 q69 q854) rfl rfl rfl (by decide +kernel) ⟨Nat.le_of_ble_eq_true rfl, Nat.le_of_ble_eq_true rfl⟩) (xPV hK hP hD hE _) rfl rfl hl.1 rfl (lv_room (Nat.le_of_ble_eq_true rfl)) dX0_odds_105 ⟨Nat.le_of_ble_eq_true rfl, Nat.le_of_ble_eq_true rfl⟩) hS (fun q _ h => h) (fun q h => h) (fun r u t H1 locs ht hvm hw hB hz1 hk1 hS => ?_)
            obtain ⟨hw, hw2⟩ := hw
            have hw : r = (-9223372036854775808) := hw
            subst hw
            subst hw2
            obtain ⟨hP, -, hD⟩ := hB
            rw [ht] at hP
            generalize H1 = H at hP hS ⊢
            have hP : va_P (dC, dI) clA (xG ct o q (ql, qs, md, qe, n) y (upd g 0 3) a ex) H := hP
            have hD : va_D A (xG ct o q (ql, qs, md, qe, n) y (upd g 0 3) a ex) := hD
            refine W.widen (k := 8) (n := 3000) (Nat.le_of_ble_eq_true rfl) (Nat.le_of_ble_eq_true rfl) ?_
            exact W.lret (v := (-9223372036854775808)) hx hb hr (fun t ht hW => ⟨⟨(-9223372036854775808), ((upd g 0 3), a), rfl, ⟨(by first | rfl | (simp [c_1, c_2, c_3, c_4, c_5]; done)), rfl⟩, by rw [ht]; exact hP, va_K.moved hW.alike hK, hD⟩, hS.F ht⟩) hS.2.2 dX0_odds_108
          · skip
            exact False.elim (by rw [hw2] at c_5; cases c_5)
set_option maxHeartbeats 4000000 in
set_option maxRecDepth 100000 in
theorem metX0_odds_a (l : Launch) (dC : Nat → ClassId) (dI : Nat → Nat → Nat) (ct : Nat → ClassId) (A : Nat → Prop) (ex : va_W) (o : Nat) (q : Nat → Nat) (ql qs : Nat) (md : Int32) (qe n : Nat) (y : Nat → Nat) (g : Nat → Int32) (a : Nat → Nat → Int32) (htr : l.stackTraces = false) (P : Nat) (K : Nat) (lx : Nat) (I : Nat) (M : Nat) (w : Int32) (j0 : Nat) (pl : Nat → Nat) (hj0 : ex[j0]? = some (qs, .inl (ct 5, 4, .inr (.inr (.inr (.inr (fun j => some (pl j)))))))) (j2 ad N : Nat) (f : Nat → Int32) (hlx : lx < 3) (hj2 : ex[j2]? = some (ad, .inl (ct (lty lx), N, .inl f))) (hN : N ≤ 60) (K : Nat) (hK4 : K < 4) (j1 : Nat) (hj1 : ex[j1]? = some (pl K, .inr (6, [.ref ad]))) (hM : M ≤ 20) (hn6 : n ≤ 6) (hPn : P < n) (hw2 : lin w.toInt64 0 1 = true) (hIL : I + 2 * M ≤ N) : Met l yX0_odds (wsW_ yX0_odds cX0_odds 8 (some .long) [((55 : Nat), (84 : Nat), (85 : Nat), (173 : Nat)), ((55 : Nat), (84 : Nat), (93 : Nat), (179 : Nat)), ((55 : Nat), (84 : Nat), (101 : Nat), (183 : Nat))]) ({ frames := 16, cells := 8, slots := 3000, locals := 12000 }) (sPre dC dI ct A ex o q (ql, qs, md, qe, n) y g a [.ref o, .int (nI P), .int (nI K), .int (nI lx), .int (nI I), .int (nI M), .int w]) (va_Ql (fun (r : Int64) (u : (Nat → Int32) × (Nat → Nat → Int32)) => r = (if allP n (cutF (2 * M) (fun j => f (I + j)) (fun _ => 0)) (2 * M) = true ∧ (cgo n (a 3) (a 4) (laX (g 3) (g 4) (a 2) (a 5)) (fun t => cix ((cutF (2 * M) (fun j => f (I + j)) (fun _ => 0)) t)) M).2.1 < 0 then (if (a 4) P = 6 then 1 else oddL w (cntB (fun j => bq ((cgo n (a 3) (a 4) (laX (g 3) (g 4) (a 2) (a 5)) (fun t => cix ((cutF (2 * M) (fun j => f (I + j)) (fun _ => 0)) t)) M).1.2.2.2.2 P) (nI j)) n)) else (-9223372036854775808)) ∧ ∃ (T : LnS (Nat → Int32) × Int32 × Int32), u = ((upd (upd g 0 0) 18 T.2.2), (va_up (va_up (va_up (va_up (va_up a 12 ((T.1).1)) 13 ((T.1).2.1)) 14 ((T.1).2.2.1)) 15 ((T.1).2.2.2.1)) 16 ((T.1).2.2.2.2)))) (fun u t => gB dC dI ct A ex o q (ql, qs, md, qe, n) y u t) A) 8 3000 A := by
  refine cx_MetW (cc := cX0_odds) (maxL := 8) (ret := (some .long)) (hh := [((55 : Nat), (84 : Nat), (85 : Nat), (173 : Nat)), ((55 : Nat), (84 : Nat), (93 : Nat), (179 : Nat)), ((55 : Nat), (84 : Nat), (101 : Nat), (183 : Nat))]) (by decide) rfl ?_
  intro p e s m args below meth c s₁ B hml het hv
  obtain ⟨rfl, hP, hK, hD, hE, hE9, hA, hst, hI9⟩ := hv
  have hN9 := hE9.now
  have hx := B.exec
  have hb := B.bytes
  have hr := B.returns
  have hts := atoms_spec (ws := wsW_ yX0_odds cX0_odds 8 (some .long) [((55 : Nat), (84 : Nat), (85 : Nat), (173 : Nat)), ((55 : Nat), (84 : Nat), (93 : Nat), (179 : Nat)), ((55 : Nat), (84 : Nat), (101 : Nat), (183 : Nat))]) B.pre
  have hts : ∀ w ∈ lw_all, w.before _ s = true := fun w h => hts w (List.mem_cons_of_mem _ h)
  have hown : s.vm.findClass RX0 = some m.cls := findClass_of_methodNamed B.named
  have hlocks := B.notSynchronized
  have hS : va_S A s.heap s.heap [] := va_S.rf
  have hl := lv_entry ([.ref o, .int (nI P), .int (nI K), .int (nI lx), .int (nI I), .int (nI M), .int w]) (n := 8) (Nat.le_of_ble_eq_true rfl)
  rw [lg_entry_eq]
  generalize (lg_sl ([.ref o, .int (nI P), .int (nI K), .int (nI lx), .int (nI I), .int (nI M), .int w]) ++ List.replicate (8 - (lg_sl ([.ref o, .int (nI P), .int (nI K), .int (nI lx), .int (nI I), .int (nI M), .int w])).length) Slot.unset).toArray = ls at hl ⊢
  have hl : lv_has ls 8 [(0, .ref o), (1, .int (nI P)), (2, .int (nI K)), (3, .int (nI lx)), (4, .int (nI I)), (5, .int (nI M)), (6, .int w)] := hl
  refine lv_aload_n hx hb dX0_odds_0 rfl (lv_at hl 0 rfl) ?_
  refine lv_iconst (v := 0) hx hb dX0_odds_1 (by decide) ?_
  refine g_put (v := 0) hx hb hts hown hK hP hD hS 0 0 (by decide) rfl q144 rfl rfl (by decide +kernel) dX0_odds_2 (fun H locs hP hD hS => ?_)
  refine lv_aload_n hx hb dX0_odds_5 rfl (lv_at hl 0 rfl) ?_
  refine lv_iload_n hx hb dX0_odds_6 rfl (lv_at hl 1 rfl) ?_
  refine vp_callSi ((va_runV (As := [.int (nI P)]) (rest := []) ⟨hx, hb, hml, hown, hts⟩ (metX0_isPerson l dC dI ct A (peW ct o qe n y a ++ ex) o q ql qs md qe n (upd g 0 0) a (nI P) hn6) (cwV 1 hts (lw_V q589 q591 qs13 q69 q592) rfl rfl rfl (by decide +kernel) ⟨Nat.le_of_ble_eq_true rfl, Nat.le_of_ble_eq_true rfl⟩) (xPV hK hP hD hE _) rfl rfl hl.1 rfl (lv_room (Nat.le_of_ble_eq_true rfl)) dX0_odds_7 ⟨Nat.le_of_ble_eq_true rfl, Nat.le_of_ble_eq_true rfl⟩)).run (fun r hw => ?_)
  have hw : r = (b2i (inP (nI P) n)) := hw
  subst hw
  refine bz_eq (tgt := 51) hx hb dX0_odds_10 (by decide) (fun c_1 => ?_) (fun c_1 => ?_)
  · skip
    exact False.elim (by rw [inPn hn6 hPn] at c_1; cases c_1)
  · skip
    refine lv_iload_n hx hb dX0_odds_13 rfl (lv_at hl 2 rfl) ?_
    refine vp_callSi ((va_runS (As := [.int (nI K)]) (rest := []) ⟨hx, hb, hml, hown, hts⟩ (metX0_isSheet l (nI K) ) (va_cwS 1 hts (lw_S q376 q377 q69 q378) rfl rfl rfl (by decide +kernel) ⟨Nat.le_of_ble_eq_true rfl, Nat.le_of_ble_eq_true rfl⟩) (pcS _) rfl rfl hl.1 rfl (lv_room (Nat.le_of_ble_eq_true rfl)) dX0_odds_14 ⟨Nat.le_of_ble_eq_true rfl, Nat.le_of_ble_eq_true rfl⟩)).run (fun r hw => ?_)
    have hw : r = (b2i (inP (nI K) 4)) := hw
    subst hw
    refine bz_eq (tgt := 51) hx hb dX0_odds_17 (by decide) (fun c_2 => ?_) (fun c_2 => ?_)
    · skip
      exact False.elim (by rw [inK hK4] at c_2; cases c_2)
    · skip
      refine lv_iload_n hx hb dX0_odds_20 rfl (lv_at hl 3 rfl) ?_
      refine vp_callSi ((va_runS (As := [.int (nI lx)]) (rest := []) ⟨hx, hb, hml, hown, hts⟩ (metX0_isLane l (nI lx) ) (va_cwS 1 hts (lw_S q383 q384 q69 q385) rfl rfl rfl (by decide +kernel) ⟨Nat.le_of_ble_eq_true rfl, Nat.le_of_ble_eq_true rfl⟩) (pcS _) rfl rfl hl.1 rfl (lv_room (Nat.le_of_ble_eq_true rfl)) dX0_odds_21 ⟨Nat.le_of_ble_eq_true rfl, Nat.le_of_ble_eq_true rfl⟩)).run (fun r hw => ?_)
      have hw : r = (b2i (inP (nI lx) 3)) := hw
      subst hw
      refine bz_eq (tgt := 51) hx hb dX0_odds_24 (by decide) (fun c_3 => ?_) (fun c_3 => ?_)
      · skip
        exact False.elim (by rw [inL hlx] at c_3; cases c_3)
      · skip
        refine lv_iload hx hb dX0_odds_27 (lv_at hl 5 rfl) ?_
        refine lv_i2l (v := (Int32.toInt64 (nI M))) hx hb dX0_odds_29 rfl ?_
        refine lv_lconst (v := 0) hx hb dX0_odds_30 (by decide) ?_
        refine lv_ldc2 (v := 20) hx hb hown (hts _ q663) dX0_odds_31 ?_
        refine vp_callSi ((va_runS (As := [.long (Int32.toInt64 (nI M)), .long 0, .long 20]) (rest := []) ⟨hx, hb, hml, hown, hts⟩ (metX0_isIn l (Int32.toInt64 (nI M)) 0 20 ) (va_cwS 3 hts (lw_S q380 q381 q69 q382) rfl rfl rfl (by decide +kernel) ⟨Nat.le_of_ble_eq_true rfl, Nat.le_of_ble_eq_true rfl⟩) (pcS _) rfl rfl hl.1 rfl (lv_room (Nat.le_of_ble_eq_true rfl)) dX0_odds_34 ⟨Nat.le_of_ble_eq_true rfl, Nat.le_of_ble_eq_true rfl⟩)).run (fun r hw => ?_)
        have hw : r = (b2i (lin (Int32.toInt64 (nI M)) 0 20)) := hw
        subst hw
        refine bz_eq (tgt := 51) hx hb dX0_odds_37 (by decide) (fun c_4 => ?_) (fun c_4 => ?_)
        · skip
          exact False.elim (by rw [lin20 hM] at c_4; cases c_4)
        · skip
          refine lv_iload hx hb dX0_odds_40 (lv_at hl 6 rfl) ?_
          refine lv_i2l (v := (Int32.toInt64 w)) hx hb dX0_odds_42 rfl ?_
          refine lv_lconst (v := 0) hx hb dX0_odds_43 (by decide) ?_
          refine lv_lconst (v := 1) hx hb dX0_odds_44 (by decide) ?_
          refine vp_callSi ((va_runS (As := [.long (Int32.toInt64 w), .long 0, .long 1]) (rest := []) ⟨hx, hb, hml, hown, hts⟩ (metX0_isIn l (Int32.toInt64 w) 0 1 ) (va_cwS 3 hts (lw_S q380 q381 q69 q382) rfl rfl rfl (by decide +kernel) ⟨Nat.le_of_ble_eq_true rfl, Nat.le_of_ble_eq_true rfl⟩) (pcS _) rfl rfl hl.1 rfl (lv_room (Nat.le_of_ble_eq_true rfl)) dX0_odds_45 ⟨Nat.le_of_ble_eq_true rfl, Nat.le_of_ble_eq_true rfl⟩)).run (fun r hw => ?_)
          have hw : r = (b2i (lin (Int32.toInt64 w) 0 1)) := hw
          subst hw
          refine bz_ne (tgt := 55) hx hb dX0_odds_48 (by decide) (fun c_5 => ?_) (fun c_5 => ?_)
          · skip
            refine lv_aload_n hx hb dX0_odds_55 rfl (lv_at hl 0 rfl) ?_
            refine lv_iload_n hx hb dX0_odds_56 rfl (lv_at hl 1 rfl) ?_
            refine lv_aload_n hx hb dX0_odds_57 rfl (lv_at hl 0 rfl) ?_
            refine g_get (v := .ref qs) hx hb hts hown hK hP 25 (by decide) rfl q174 rfl dX0_odds_58 ?_
            refine lv_iload_n hx hb dX0_odds_61 rfl (lv_at hl 2 rfl) ?_
            refine s_pla hx hb hK hP (xps n + j0) ((xG_ex j0).trans hj0) K hK4 dX0_odds_62 ?_
            refine s_has hx hb hts hown hK hP hE (xps n + j1) ((xG_ex j1).trans hj1) dX0_odds_63 ?_
            refine lv_iload_n hx hb dX0_odds_66 rfl (lv_at hl 3 rfl) ?_
            refine va_csr ((va_runS (As := [.ref ad, .int (nI lx)]) (rest := [.int (nI P), .ref o]) ⟨hx, hb, hml, hown, hts⟩ (metX0_asLane l dC dI ct A (xG ct o q (ql, qs, md, qe, n) y (upd g 0 0) a ex) (xps n + j2) ad N f lx hlx ((xG_ex j2).trans hj2) (by omega)) (va_cwS 2 hts (lw_S q387 q388 q69 q389) rfl rfl rfl (by decide +kernel) ⟨Nat.le_of_ble_eq_true rfl, Nat.le_of_ble_eq_true rfl⟩) (aPS hK hP hE9 hS _) rfl rfl hl.1 rfl (lv_room (Nat.le_of_ble_eq_true rfl)) dX0_odds_67 ⟨Nat.le_of_ble_eq_true rfl, Nat.le_of_ble_eq_true rfl⟩)).run (fun _ _ => ?_)
            refine lv_iload hx hb dX0_odds_70 (lv_at hl 4 rfl) ?_
            refine lv_iconst (v := 2) hx hb dX0_odds_72 (by decide) ?_
            refine lv_iload hx hb dX0_odds_73 (lv_at hl 5 rfl) ?_
            refine lv_imul hx hb dX0_odds_75 ?_
            refine va_callr (va_runS (As := [.ref ad, .int (nI I), .int (2 * (nI M))]) (rest := [.int (nI P), .ref o]) ⟨hx, hb, hml, hown, hts⟩ (metX0_rowW l dC dI ct A (xG ct o q (ql, qs, md, qe, n) y (upd g 0 0) a ex) (xps n + j2) ad N f lx hlx ((xG_ex j2).trans hj2) hN (nI I) (2 * (nI M)) I (2 * M) rfl (nI_mul2 M) hIL) (va_cwS 3 hts (lw_S q393 q394 q69 q395) rfl rfl rfl (by decide +kernel) ⟨Nat.le_of_ble_eq_true rfl, Nat.le_of_ble_eq_true rfl⟩) (rPS hK hP hD hE9 hS hA _) rfl rfl hl.1 rfl (lv_room (Nat.le_of_ble_eq_true rfl)) dX0_odds_76 ⟨Nat.le_of_ble_eq_true rfl, Nat.le_of_ble_eq_true rfl⟩) hS (fun q _ h => h) (fun q h => h) (fun _ qr t H1 locs ht hvm hw hB hz1 hk1 hS => ?_)
            clear hw
            obtain ⟨hP, -, hD⟩ := hB
            rw [ht, ← xG_app] at hP
            rw [← xG_app] at hD
            generalize H1 = H at hP hS ⊢
            refine lv_iload hx hb dX0_odds_79 (lv_at hl 6 rfl) ?_
            refine va_calll (va_runV (As := [.int (nI P), .ref qr, .int w]) (rest := []) ⟨hx, hb, hml, hown, hts⟩ (metX0_oddsOf l dC dI ct A (ex ++ [(qr, .inl (ct 0, 2 * M, .inl (cutF (2 * M) (fun j => f (I + j)) (fun _ => 0))))]) o q ql qs md qe n y (upd g 0 0) a (nI P) w P hPn ex.length qr M (cutF (2 * M) (fun j => f (I + j)) (fun _ => 0)) ap_last (by omega) hn6) (cwV 3 hts (lw_V q847 q849 qs38 q69 q850) rfl rfl rfl (by decide +kernel) ⟨Nat.le_of_ble_eq_true rfl, Nat.le_of_ble_eq_true rfl⟩) (gPV hK hP hD hE _) rfl rfl hl.1 rfl (lv_room (Nat.le_of_ble_eq_true rfl)) dX0_odds_81 ⟨Nat.le_of_ble_eq_true rfl, Nat.le_of_ble_eq_true rfl⟩) hS (fun q _ h => h) (fun q h => h) (fun r u t H1 locs ht hvm hw hB hz1 hk1 hS => ?_)
            obtain ⟨hw, T_6, hw2⟩ := hw
            have hw : r = (if allP n (cutF (2 * M) (fun j => f (I + j)) (fun _ => 0)) (2 * M) = true ∧ (cgo n (a 3) (a 4) (laX (g 3) (g 4) (a 2) (a 5)) (fun t => cix ((cutF (2 * M) (fun j => f (I + j)) (fun _ => 0)) t)) M).2.1 < 0 then (if (a 4) P = 6 then 1 else oddL w (cntB (fun j => bq ((cgo n (a 3) (a 4) (laX (g 3) (g 4) (a 2) (a 5)) (fun t => cix ((cutF (2 * M) (fun j => f (I + j)) (fun _ => 0)) t)) M).1.2.2.2.2 P) (nI j)) n)) else (-9223372036854775808)) := hw
            subst hw
            subst hw2
            obtain ⟨hP, -, hD⟩ := hB
            rw [ht] at hP
            generalize H1 = H at hP hS ⊢
            have hP : va_P (dC, dI) clA (xG ct o q (ql, qs, md, qe, n) y (upd (upd g 0 0) 18 T_6.2.2) (va_up (va_up (va_up (va_up (va_up a 12 ((T_6.1).1)) 13 ((T_6.1).2.1)) 14 ((T_6.1).2.2.1)) 15 ((T_6.1).2.2.2.1)) 16 ((T_6.1).2.2.2.2)) (ex ++ [(qr, .inl (ct 0, 2 * M, .inl (cutF (2 * M) (fun j => f (I + j)) (fun _ => 0))))])) H := hP
            have hD : va_D A (xG ct o q (ql, qs, md, qe, n) y (upd (upd g 0 0) 18 T_6.2.2) (va_up (va_up (va_up (va_up (va_up a 12 ((T_6.1).1)) 13 ((T_6.1).2.1)) 14 ((T_6.1).2.2.1)) 15 ((T_6.1).2.2.2.1)) 16 ((T_6.1).2.2.2.2)) (ex ++ [(qr, .inl (ct 0, 2 * M, .inl (cutF (2 * M) (fun j => f (I + j)) (fun _ => 0))))])) := hD
            rw [xG_app] at hP hD
            have hP := hP.left
            have hD := hD.left
            refine W.widen (k := 8) (n := 3000) (Nat.le_of_ble_eq_true rfl) (Nat.le_of_ble_eq_true rfl) ?_
            exact W.lret (v := (if allP n (cutF (2 * M) (fun j => f (I + j)) (fun _ => 0)) (2 * M) = true ∧ (cgo n (a 3) (a 4) (laX (g 3) (g 4) (a 2) (a 5)) (fun t => cix ((cutF (2 * M) (fun j => f (I + j)) (fun _ => 0)) t)) M).2.1 < 0 then (if (a 4) P = 6 then 1 else oddL w (cntB (fun j => bq ((cgo n (a 3) (a 4) (laX (g 3) (g 4) (a 2) (a 5)) (fun t => cix ((cutF (2 * M) (fun j => f (I + j)) (fun _ => 0)) t)) M).1.2.2.2.2 P) (nI j)) n)) else (-9223372036854775808))) hx hb hr (fun t ht hW => ⟨⟨(if allP n (cutF (2 * M) (fun j => f (I + j)) (fun _ => 0)) (2 * M) = true ∧ (cgo n (a 3) (a 4) (laX (g 3) (g 4) (a 2) (a 5)) (fun t => cix ((cutF (2 * M) (fun j => f (I + j)) (fun _ => 0)) t)) M).2.1 < 0 then (if (a 4) P = 6 then 1 else oddL w (cntB (fun j => bq ((cgo n (a 3) (a 4) (laX (g 3) (g 4) (a 2) (a 5)) (fun t => cix ((cutF (2 * M) (fun j => f (I + j)) (fun _ => 0)) t)) M).1.2.2.2.2 P) (nI j)) n)) else (-9223372036854775808)), ((upd (upd g 0 0) 18 T_6.2.2), (va_up (va_up (va_up (va_up (va_up a 12 ((T_6.1).1)) 13 ((T_6.1).2.1)) 14 ((T_6.1).2.2.1)) 15 ((T_6.1).2.2.2.1)) 16 ((T_6.1).2.2.2.2))), rfl, ⟨rfl, ⟨T_6, rfl⟩⟩, by rw [ht]; exact hP, va_K.moved hW.alike hK, hD⟩, hS.F ht⟩) hS.2.2 dX0_odds_84
          · skip
            exact False.elim (by rw [hw2] at c_5; cases c_5)
set_option maxHeartbeats 4000000 in
set_option maxRecDepth 100000 in
theorem metX0_asked_bad (l : Launch) (dC : Nat → ClassId) (dI : Nat → Nat → Nat) (ct : Nat → ClassId) (A : Nat → Prop) (ex : va_W) (o : Nat) (q : Nat → Nat) (ql qs : Nat) (md : Int32) (qe n : Nat) (y : Nat → Nat) (g : Nat → Int32) (a : Nat → Nat → Int32) (htr : l.stackTraces = false) (pp : Int32) (k : Int32) (lane : Int32) (i : Int32) (z : Int32) (w : Int32) (by9 : Int32) (hn6 : n ≤ 6) (ho : ¬ (inP pp n = true ∧ inP k 4 = true)) : Met l yX0_asked (wsW_ yX0_asked cX0_asked 9 (some .int) [((56 : Nat), (90 : Nat), (168 : Nat), (173 : Nat)), ((91 : Nat), (167 : Nat), (168 : Nat), (173 : Nat)), ((56 : Nat), (90 : Nat), (176 : Nat), (179 : Nat)), ((91 : Nat), (167 : Nat), (176 : Nat), (179 : Nat)), ((56 : Nat), (90 : Nat), (184 : Nat), (183 : Nat)), ((91 : Nat), (167 : Nat), (184 : Nat), (183 : Nat))]) ({ frames := 16, cells := 8, slots := 3000, locals := 12000 }) (sPre dC dI ct A ex o q (ql, qs, md, qe, n) y g a [.ref o, .int pp, .int k, .int lane, .int i, .int z, .int w, .int by9]) (va_Qi (fun (r : Int32) (u : (Nat → Int32) × (Nat → Nat → Int32)) => r = (-1) ∧ u = ((upd g 0 0), a)) (fun u t => gB dC dI ct A ex o q (ql, qs, md, qe, n) y u t) A) 8 3000 A := by
  refine cx_MetW (cc := cX0_asked) (maxL := 9) (ret := (some .int)) (hh := [((56 : Nat), (90 : Nat), (168 : Nat), (173 : Nat)), ((91 : Nat), (167 : Nat), (168 : Nat), (173 : Nat)), ((56 : Nat), (90 : Nat), (176 : Nat), (179 : Nat)), ((91 : Nat), (167 : Nat), (176 : Nat), (179 : Nat)), ((56 : Nat), (90 : Nat), (184 : Nat), (183 : Nat)), ((91 : Nat), (167 : Nat), (184 : Nat), (183 : Nat))]) (by decide) rfl ?_
  intro p e s m args below meth c s₁ B hml het hv
  obtain ⟨rfl, hP, hK, hD, hE, hE9, hA, hst, hI9⟩ := hv
  have hN9 := hE9.now
  have hx := B.exec
  have hb := B.bytes
  have hr := B.returns
  have hts := atoms_spec (ws := wsW_ yX0_asked cX0_asked 9 (some .int) [((56 : Nat), (90 : Nat), (168 : Nat), (173 : Nat)), ((91 : Nat), (167 : Nat), (168 : Nat), (173 : Nat)), ((56 : Nat), (90 : Nat), (176 : Nat), (179 : Nat)), ((91 : Nat), (167 : Nat), (176 : Nat), (179 : Nat)), ((56 : Nat), (90 : Nat), (184 : Nat), (183 : Nat)), ((91 : Nat), (167 : Nat), (184 : Nat), (183 : Nat))]) B.pre
  have hts : ∀ w ∈ lw_all, w.before _ s = true := fun w h => hts w (List.mem_cons_of_mem _ h)
  have hown : s.vm.findClass RX0 = some m.cls := findClass_of_methodNamed B.named
  have hlocks := B.notSynchronized
  have hS : va_S A s.heap s.heap [] := va_S.rf
  have hl := lv_entry ([.ref o, .int pp, .int k, .int lane, .int i, .int z, .int w, .int by9]) (n := 9) (Nat.le_of_ble_eq_true rfl)
  rw [lg_entry_eq]
  generalize (lg_sl ([.ref o, .int pp, .int k, .int lane, .int i, .int z, .int w, .int by9]) ++ List.replicate (9 - (lg_sl ([.ref o, .int pp, .int k, .int lane, .int i, .int z, .int w, .int by9])).length) Slot.unset).toArray = ls at hl ⊢
  have hl : lv_has ls 9 [(0, .ref o), (1, .int pp), (2, .int k), (3, .int lane), (4, .int i), (5, .int z), (6, .int w), (7, .int by9)] := hl
  refine lv_aload_n hx hb dX0_asked_0 rfl (lv_at hl 0 rfl) ?_
  refine lv_iconst (v := 0) hx hb dX0_asked_1 (by decide) ?_
  refine g_put (v := 0) hx hb hts hown hK hP hD hS 0 0 (by decide) rfl q144 rfl rfl (by decide +kernel) dX0_asked_2 (fun H locs hP hD hS => ?_)
  refine lv_aload_n hx hb dX0_asked_5 rfl (lv_at hl 0 rfl) ?_
  refine lv_iload_n hx hb dX0_asked_6 rfl (lv_at hl 1 rfl) ?_
  refine vp_callSi ((va_runV (As := [.int pp]) (rest := []) ⟨hx, hb, hml, hown, hts⟩ (metX0_isPerson l dC dI ct A (peW ct o qe n y a ++ ex) o q ql qs md qe n (upd g 0 0) a pp hn6) (cwV 1 hts (lw_V q589 q591 qs13 q69 q592) rfl rfl rfl (by decide +kernel) ⟨Nat.le_of_ble_eq_true rfl, Nat.le_of_ble_eq_true rfl⟩) (xPV hK hP hD hE _) rfl rfl hl.1 rfl (lv_room (Nat.le_of_ble_eq_true rfl)) dX0_asked_7 ⟨Nat.le_of_ble_eq_true rfl, Nat.le_of_ble_eq_true rfl⟩)).run (fun r hw => ?_)
  have hw : r = (b2i (inP pp n)) := hw
  subst hw
  refine bz_eq (tgt := 20) hx hb dX0_asked_10 (by decide) (fun c_1 => ?_) (fun c_1 => ?_)
  · skip
    refine lv_iconst (v := (-1)) hx hb dX0_asked_20 (by decide) ?_
    refine W.widen (k := 8) (n := 3000) (Nat.le_of_ble_eq_true rfl) (Nat.le_of_ble_eq_true rfl) ?_
    exact W.iret (v := (-1)) hx hb hr (fun t ht hW => ⟨⟨(-1), ((upd g 0 0), a), rfl, ⟨(by first | rfl | (simp [c_1]; done)), rfl⟩, by rw [ht]; exact hP, va_K.moved hW.alike hK, hD⟩, hS.F ht⟩) hS.2.2 dX0_asked_21
  · skip
    refine lv_iload_n hx hb dX0_asked_13 rfl (lv_at hl 2 rfl) ?_
    refine vp_callSi ((va_runS (As := [.int k]) (rest := []) ⟨hx, hb, hml, hown, hts⟩ (metX0_isSheet l k ) (va_cwS 1 hts (lw_S q376 q377 q69 q378) rfl rfl rfl (by decide +kernel) ⟨Nat.le_of_ble_eq_true rfl, Nat.le_of_ble_eq_true rfl⟩) (pcS _) rfl rfl hl.1 rfl (lv_room (Nat.le_of_ble_eq_true rfl)) dX0_asked_14 ⟨Nat.le_of_ble_eq_true rfl, Nat.le_of_ble_eq_true rfl⟩)).run (fun r hw => ?_)
    have hw : r = (b2i (inP k 4)) := hw
    subst hw
    refine bz_ne (tgt := 22) hx hb dX0_asked_17 (by decide) (fun c_2 => ?_) (fun c_2 => ?_)
    · skip
      exact False.elim (by exact ho ⟨c_1, c_2⟩)
    · skip
      refine lv_iconst (v := (-1)) hx hb dX0_asked_20 (by decide) ?_
      refine W.widen (k := 8) (n := 3000) (Nat.le_of_ble_eq_true rfl) (Nat.le_of_ble_eq_true rfl) ?_
      exact W.iret (v := (-1)) hx hb hr (fun t ht hW => ⟨⟨(-1), ((upd g 0 0), a), rfl, ⟨(by first | rfl | (simp [c_1, c_2]; done)), rfl⟩, by rw [ht]; exact hP, va_K.moved hW.alike hK, hD⟩, hS.F ht⟩) hS.2.2 dX0_asked_21
set_option maxHeartbeats 4000000 in
set_option maxRecDepth 100000 in
theorem metX0_asked_out (l : Launch) (dC : Nat → ClassId) (dI : Nat → Nat → Nat) (ct : Nat → ClassId) (A : Nat → Prop) (ex : va_W) (o : Nat) (q : Nat → Nat) (ql qs : Nat) (md : Int32) (qe n : Nat) (y : Nat → Nat) (g : Nat → Int32) (a : Nat → Nat → Int32) (htr : l.stackTraces = false) (pp : Int32) (k : Int32) (lane : Int32) (i : Int32) (z : Int32) (w : Int32) (by9 : Int32) (hn6 : n ≤ 6) (hp : inP pp n = true) (hk4 : inP k 4 = true) (ho : ¬ (inP lane 3 = true ∧ lin z.toInt64 0 20 = true ∧ lin w.toInt64 0 1 = true)) : Met l yX0_asked (wsW_ yX0_asked cX0_asked 9 (some .int) [((56 : Nat), (90 : Nat), (168 : Nat), (173 : Nat)), ((91 : Nat), (167 : Nat), (168 : Nat), (173 : Nat)), ((56 : Nat), (90 : Nat), (176 : Nat), (179 : Nat)), ((91 : Nat), (167 : Nat), (176 : Nat), (179 : Nat)), ((56 : Nat), (90 : Nat), (184 : Nat), (183 : Nat)), ((91 : Nat), (167 : Nat), (184 : Nat), (183 : Nat))]) ({ frames := 16, cells := 8, slots := 3000, locals := 12000 }) (sPre dC dI ct A ex o q (ql, qs, md, qe, n) y g a [.ref o, .int pp, .int k, .int lane, .int i, .int z, .int w, .int by9]) (va_Qi (fun (r : Int32) (u : (Nat → Int32) × (Nat → Nat → Int32)) => r = (-2) ∧ u = ((upd g 0 0), a)) (fun u t => gB dC dI ct A ex o q (ql, qs, md, qe, n) y u t) A) 8 3000 A := by
  refine cx_MetW (cc := cX0_asked) (maxL := 9) (ret := (some .int)) (hh := [((56 : Nat), (90 : Nat), (168 : Nat), (173 : Nat)), ((91 : Nat), (167 : Nat), (168 : Nat), (173 : Nat)), ((56 : Nat), (90 : Nat), (176 : Nat), (179 : Nat)), ((91 : Nat), (167 : Nat), (176 : Nat), (179 : Nat)), ((56 : Nat), (90 : Nat), (184 : Nat), (183 : Nat)), ((91 : Nat), (167 : Nat), (184 : Nat), (183 : Nat))]) (by decide) rfl ?_
  intro p e s m args below meth c s₁ B hml het hv
  obtain ⟨rfl, hP, hK, hD, hE, hE9, hA, hst, hI9⟩ := hv
  have hN9 := hE9.now
  have hx := B.exec
  have hb := B.bytes
  have hr := B.returns
  have hts := atoms_spec (ws := wsW_ yX0_asked cX0_asked 9 (some .int) [((56 : Nat), (90 : Nat), (168 : Nat), (173 : Nat)), ((91 : Nat), (167 : Nat), (168 : Nat), (173 : Nat)), ((56 : Nat), (90 : Nat), (176 : Nat), (179 : Nat)), ((91 : Nat), (167 : Nat), (176 : Nat), (179 : Nat)), ((56 : Nat), (90 : Nat), (184 : Nat), (183 : Nat)), ((91 : Nat), (167 : Nat), (184 : Nat), (183 : Nat))]) B.pre
  have hts : ∀ w ∈ lw_all, w.before _ s = true := fun w h => hts w (List.mem_cons_of_mem _ h)
  have hown : s.vm.findClass RX0 = some m.cls := findClass_of_methodNamed B.named
  have hlocks := B.notSynchronized
  have hS : va_S A s.heap s.heap [] := va_S.rf
  have hl := lv_entry ([.ref o, .int pp, .int k, .int lane, .int i, .int z, .int w, .int by9]) (n := 9) (Nat.le_of_ble_eq_true rfl)
  rw [lg_entry_eq]
  generalize (lg_sl ([.ref o, .int pp, .int k, .int lane, .int i, .int z, .int w, .int by9]) ++ List.replicate (9 - (lg_sl ([.ref o, .int pp, .int k, .int lane, .int i, .int z, .int w, .int by9])).length) Slot.unset).toArray = ls at hl ⊢
  have hl : lv_has ls 9 [(0, .ref o), (1, .int pp), (2, .int k), (3, .int lane), (4, .int i), (5, .int z), (6, .int w), (7, .int by9)] := hl
  refine lv_aload_n hx hb dX0_asked_0 rfl (lv_at hl 0 rfl) ?_
  refine lv_iconst (v := 0) hx hb dX0_asked_1 (by decide) ?_
  refine g_put (v := 0) hx hb hts hown hK hP hD hS 0 0 (by decide) rfl q144 rfl rfl (by decide +kernel) dX0_asked_2 (fun H locs hP hD hS => ?_)
  refine lv_aload_n hx hb dX0_asked_5 rfl (lv_at hl 0 rfl) ?_
  refine lv_iload_n hx hb dX0_asked_6 rfl (lv_at hl 1 rfl) ?_
  refine vp_callSi ((va_runV (As := [.int pp]) (rest := []) ⟨hx, hb, hml, hown, hts⟩ (metX0_isPerson l dC dI ct A (peW ct o qe n y a ++ ex) o q ql qs md qe n (upd g 0 0) a pp hn6) (cwV 1 hts (lw_V q589 q591 qs13 q69 q592) rfl rfl rfl (by decide +kernel) ⟨Nat.le_of_ble_eq_true rfl, Nat.le_of_ble_eq_true rfl⟩) (xPV hK hP hD hE _) rfl rfl hl.1 rfl (lv_room (Nat.le_of_ble_eq_true rfl)) dX0_asked_7 ⟨Nat.le_of_ble_eq_true rfl, Nat.le_of_ble_eq_true rfl⟩)).run (fun r hw => ?_)
  have hw : r = (b2i (inP pp n)) := hw
  subst hw
  refine bz_eq (tgt := 20) hx hb dX0_asked_10 (by decide) (fun c_1 => ?_) (fun c_1 => ?_)
  · skip
    exact False.elim (by rw [hp] at c_1; cases c_1)
  · skip
    refine lv_iload_n hx hb dX0_asked_13 rfl (lv_at hl 2 rfl) ?_
    refine vp_callSi ((va_runS (As := [.int k]) (rest := []) ⟨hx, hb, hml, hown, hts⟩ (metX0_isSheet l k ) (va_cwS 1 hts (lw_S q376 q377 q69 q378) rfl rfl rfl (by decide +kernel) ⟨Nat.le_of_ble_eq_true rfl, Nat.le_of_ble_eq_true rfl⟩) (pcS _) rfl rfl hl.1 rfl (lv_room (Nat.le_of_ble_eq_true rfl)) dX0_asked_14 ⟨Nat.le_of_ble_eq_true rfl, Nat.le_of_ble_eq_true rfl⟩)).run (fun r hw => ?_)
    have hw : r = (b2i (inP k 4)) := hw
    subst hw
    refine bz_ne (tgt := 22) hx hb dX0_asked_17 (by decide) (fun c_2 => ?_) (fun c_2 => ?_)
    · skip
      refine lv_iload_n hx hb dX0_asked_22 rfl (lv_at hl 3 rfl) ?_
      refine vp_callSi ((va_runS (As := [.int lane]) (rest := []) ⟨hx, hb, hml, hown, hts⟩ (metX0_isLane l lane ) (va_cwS 1 hts (lw_S q383 q384 q69 q385) rfl rfl rfl (by decide +kernel) ⟨Nat.le_of_ble_eq_true rfl, Nat.le_of_ble_eq_true rfl⟩) (pcS _) rfl rfl hl.1 rfl (lv_room (Nat.le_of_ble_eq_true rfl)) dX0_asked_23 ⟨Nat.le_of_ble_eq_true rfl, Nat.le_of_ble_eq_true rfl⟩)).run (fun r hw => ?_)
      have hw : r = (b2i (inP lane 3)) := hw
      subst hw
      refine bz_eq (tgt := 53) hx hb dX0_asked_26 (by decide) (fun c_3 => ?_) (fun c_3 => ?_)
      · skip
        refine lv_bipush (v := (-2)) hx hb dX0_asked_53 (by decide) ?_
        refine W.widen (k := 8) (n := 3000) (Nat.le_of_ble_eq_true rfl) (Nat.le_of_ble_eq_true rfl) ?_
        exact W.iret (v := (-2)) hx hb hr (fun t ht hW => ⟨⟨(-2), ((upd g 0 0), a), rfl, ⟨(by first | rfl | (simp [c_1, c_2, c_3]; done)), rfl⟩, by rw [ht]; exact hP, va_K.moved hW.alike hK, hD⟩, hS.F ht⟩) hS.2.2 dX0_asked_55
      · skip
        refine lv_iload hx hb dX0_asked_29 (lv_at hl 5 rfl) ?_
        refine lv_i2l (v := (Int32.toInt64 z)) hx hb dX0_asked_31 rfl ?_
        refine lv_lconst (v := 0) hx hb dX0_asked_32 (by decide) ?_
        refine lv_ldc2 (v := 20) hx hb hown (hts _ q663) dX0_asked_33 ?_
        refine vp_callSi ((va_runS (As := [.long (Int32.toInt64 z), .long 0, .long 20]) (rest := []) ⟨hx, hb, hml, hown, hts⟩ (metX0_isIn l (Int32.toInt64 z) 0 20 ) (va_cwS 3 hts (lw_S q380 q381 q69 q382) rfl rfl rfl (by decide +kernel) ⟨Nat.le_of_ble_eq_true rfl, Nat.le_of_ble_eq_true rfl⟩) (pcS _) rfl rfl hl.1 rfl (lv_room (Nat.le_of_ble_eq_true rfl)) dX0_asked_36 ⟨Nat.le_of_ble_eq_true rfl, Nat.le_of_ble_eq_true rfl⟩)).run (fun r hw => ?_)
        have hw : r = (b2i (lin (Int32.toInt64 z) 0 20)) := hw
        subst hw
        refine bz_eq (tgt := 53) hx hb dX0_asked_39 (by decide) (fun c_4 => ?_) (fun c_4 => ?_)
        · skip
          refine lv_bipush (v := (-2)) hx hb dX0_asked_53 (by decide) ?_
          refine W.widen (k := 8) (n := 3000) (Nat.le_of_ble_eq_true rfl) (Nat.le_of_ble_eq_true rfl) ?_
          exact W.iret (v := (-2)) hx hb hr (fun t ht hW => ⟨⟨(-2), ((upd g 0 0), a), rfl, ⟨(by first | rfl | (simp [c_1, c_2, c_3, c_4]; done)), rfl⟩, by rw [ht]; exact hP, va_K.moved hW.alike hK, hD⟩, hS.F ht⟩) hS.2.2 dX0_asked_55
        · skip
          refine lv_iload hx hb dX0_asked_42 (lv_at hl 6 rfl) ?_
          refine lv_i2l (v := (Int32.toInt64 w)) hx hb dX0_asked_44 rfl ?_
          refine lv_lconst (v := 0) hx hb dX0_asked_45 (by decide) ?_
          refine lv_lconst (v := 1) hx hb dX0_asked_46 (by decide) ?_
          refine vp_callSi ((va_runS (As := [.long (Int32.toInt64 w), .long 0, .long 1]) (rest := []) ⟨hx, hb, hml, hown, hts⟩ (metX0_isIn l (Int32.toInt64 w) 0 1 ) (va_cwS 3 hts (lw_S q380 q381 q69 q382) rfl rfl rfl (by decide +kernel) ⟨Nat.le_of_ble_eq_true rfl, Nat.le_of_ble_eq_true rfl⟩) (pcS _) rfl rfl hl.1 rfl (lv_room (Nat.le_of_ble_eq_true rfl)) dX0_asked_47 ⟨Nat.le_of_ble_eq_true rfl, Nat.le_of_ble_eq_true rfl⟩)).run (fun r hw => ?_)
          have hw : r = (b2i (lin (Int32.toInt64 w) 0 1)) := hw
          subst hw
          refine bz_ne (tgt := 56) hx hb dX0_asked_50 (by decide) (fun c_5 => ?_) (fun c_5 => ?_)
          · skip
            exact False.elim (by exact ho ⟨c_3, c_4, c_5⟩)
          · skip
            refine lv_bipush (v := (-2)) hx hb dX0_asked_53 (by decide) ?_
            refine W.widen (k := 8) (n := 3000) (Nat.le_of_ble_eq_true rfl) (Nat.le_of_ble_eq_true rfl) ?_
            exact W.iret (v := (-2)) hx hb hr (fun t ht hW => ⟨⟨(-2), ((upd g 0 0), a), rfl, ⟨(by first | rfl | (simp [c_1, c_2, c_3, c_4, c_5]; done)), rfl⟩, by rw [ht]; exact hP, va_K.moved hW.alike hK, hD⟩, hS.F ht⟩) hS.2.2 dX0_asked_55
    · skip
      exact False.elim (by rw [hk4] at c_2; cases c_2)
set_option maxHeartbeats 4000000 in
set_option maxRecDepth 100000 in
theorem metX0_asked_n (l : Launch) (dC : Nat → ClassId) (dI : Nat → Nat → Nat) (ct : Nat → ClassId) (A : Nat → Prop) (ex : va_W) (o : Nat) (q : Nat → Nat) (ql qs : Nat) (md : Int32) (qe n : Nat) (y : Nat → Nat) (g : Nat → Int32) (a : Nat → Nat → Int32) (htr : l.stackTraces = false) (P : Nat) (K : Nat) (lz : Nat) (i : Int32) (M : Nat) (w : Int32) (by9 : Int32) (j0 : Nat) (pl : Nat → Nat) (hj0 : ex[j0]? = some (qs, .inl (ct 5, 4, .inr (.inr (.inr (.inr (fun j => some (pl j)))))))) (K : Nat) (hK4 : K < 4) (j1 : Nat) (hj1 : ex[j1]? = some (pl K, .inr (6, [.null]))) (hlz : lz < 3) (hM : M ≤ 20) (hn6 : n ≤ 6) (hPn : P < n) (hw2 : lin w.toInt64 0 1 = true) : Met l yX0_asked (wsW_ yX0_asked cX0_asked 9 (some .int) [((56 : Nat), (90 : Nat), (168 : Nat), (173 : Nat)), ((91 : Nat), (167 : Nat), (168 : Nat), (173 : Nat)), ((56 : Nat), (90 : Nat), (176 : Nat), (179 : Nat)), ((91 : Nat), (167 : Nat), (176 : Nat), (179 : Nat)), ((56 : Nat), (90 : Nat), (184 : Nat), (183 : Nat)), ((91 : Nat), (167 : Nat), (184 : Nat), (183 : Nat))]) ({ frames := 16, cells := 8, slots := 3000, locals := 12000 }) (sPre dC dI ct A ex o q (ql, qs, md, qe, n) y g a [.ref o, .int (nI P), .int (nI K), .int (nI lz), .int i, .int (nI M), .int w, .int by9]) (va_Qi (fun (r : Int32) (u : (Nat → Int32) × (Nat → Nat → Int32)) => r = (-11) ∧ u = ((upd g 0 1), a)) (fun u t => gB dC dI ct A ex o q (ql, qs, md, qe, n) y u t) A) 8 3000 A := by
  refine cx_MetW (cc := cX0_asked) (maxL := 9) (ret := (some .int)) (hh := [((56 : Nat), (90 : Nat), (168 : Nat), (173 : Nat)), ((91 : Nat), (167 : Nat), (168 : Nat), (173 : Nat)), ((56 : Nat), (90 : Nat), (176 : Nat), (179 : Nat)), ((91 : Nat), (167 : Nat), (176 : Nat), (179 : Nat)), ((56 : Nat), (90 : Nat), (184 : Nat), (183 : Nat)), ((91 : Nat), (167 : Nat), (184 : Nat), (183 : Nat))]) (by decide) rfl ?_
  intro p e s m args below meth c s₁ B hml het hv
  obtain ⟨rfl, hP, hK, hD, hE, hE9, hA, hst, hI9⟩ := hv
  have hN9 := hE9.now
  have hx := B.exec
  have hb := B.bytes
  have hr := B.returns
  have hts := atoms_spec (ws := wsW_ yX0_asked cX0_asked 9 (some .int) [((56 : Nat), (90 : Nat), (168 : Nat), (173 : Nat)), ((91 : Nat), (167 : Nat), (168 : Nat), (173 : Nat)), ((56 : Nat), (90 : Nat), (176 : Nat), (179 : Nat)), ((91 : Nat), (167 : Nat), (176 : Nat), (179 : Nat)), ((56 : Nat), (90 : Nat), (184 : Nat), (183 : Nat)), ((91 : Nat), (167 : Nat), (184 : Nat), (183 : Nat))]) B.pre
  have hts : ∀ w ∈ lw_all, w.before _ s = true := fun w h => hts w (List.mem_cons_of_mem _ h)
  have hown : s.vm.findClass RX0 = some m.cls := findClass_of_methodNamed B.named
  have hlocks := B.notSynchronized
  have hS : va_S A s.heap s.heap [] := va_S.rf
  have hl := lv_entry ([.ref o, .int (nI P), .int (nI K), .int (nI lz), .int i, .int (nI M), .int w, .int by9]) (n := 9) (Nat.le_of_ble_eq_true rfl)
  rw [lg_entry_eq]
  generalize (lg_sl ([.ref o, .int (nI P), .int (nI K), .int (nI lz), .int i, .int (nI M), .int w, .int by9]) ++ List.replicate (9 - (lg_sl ([.ref o, .int (nI P), .int (nI K), .int (nI lz), .int i, .int (nI M), .int w, .int by9])).length) Slot.unset).toArray = ls at hl ⊢
  have hl : lv_has ls 9 [(0, .ref o), (1, .int (nI P)), (2, .int (nI K)), (3, .int (nI lz)), (4, .int i), (5, .int (nI M)), (6, .int w), (7, .int by9)] := hl
  refine lv_aload_n hx hb dX0_asked_0 rfl (lv_at hl 0 rfl) ?_
  refine lv_iconst (v := 0) hx hb dX0_asked_1 (by decide) ?_
  refine g_put (v := 0) hx hb hts hown hK hP hD hS 0 0 (by decide) rfl q144 rfl rfl (by decide +kernel) dX0_asked_2 (fun H locs hP hD hS => ?_)
  refine lv_aload_n hx hb dX0_asked_5 rfl (lv_at hl 0 rfl) ?_
  refine lv_iload_n hx hb dX0_asked_6 rfl (lv_at hl 1 rfl) ?_
  refine vp_callSi ((va_runV (As := [.int (nI P)]) (rest := []) ⟨hx, hb, hml, hown, hts⟩ (metX0_isPerson l dC dI ct A (peW ct o qe n y a ++ ex) o q ql qs md qe n (upd g 0 0) a (nI P) hn6) (cwV 1 hts (lw_V q589 q591 qs13 q69 q592) rfl rfl rfl (by decide +kernel) ⟨Nat.le_of_ble_eq_true rfl, Nat.le_of_ble_eq_true rfl⟩) (xPV hK hP hD hE _) rfl rfl hl.1 rfl (lv_room (Nat.le_of_ble_eq_true rfl)) dX0_asked_7 ⟨Nat.le_of_ble_eq_true rfl, Nat.le_of_ble_eq_true rfl⟩)).run (fun r hw => ?_)
  have hw : r = (b2i (inP (nI P) n)) := hw
  subst hw
  refine bz_eq (tgt := 20) hx hb dX0_asked_10 (by decide) (fun c_1 => ?_) (fun c_1 => ?_)
  · skip
    exact False.elim (by rw [inPn hn6 hPn] at c_1; cases c_1)
  · skip
    refine lv_iload_n hx hb dX0_asked_13 rfl (lv_at hl 2 rfl) ?_
    refine vp_callSi ((va_runS (As := [.int (nI K)]) (rest := []) ⟨hx, hb, hml, hown, hts⟩ (metX0_isSheet l (nI K) ) (va_cwS 1 hts (lw_S q376 q377 q69 q378) rfl rfl rfl (by decide +kernel) ⟨Nat.le_of_ble_eq_true rfl, Nat.le_of_ble_eq_true rfl⟩) (pcS _) rfl rfl hl.1 rfl (lv_room (Nat.le_of_ble_eq_true rfl)) dX0_asked_14 ⟨Nat.le_of_ble_eq_true rfl, Nat.le_of_ble_eq_true rfl⟩)).run (fun r hw => ?_)
    have hw : r = (b2i (inP (nI K) 4)) := hw
    subst hw
    refine bz_ne (tgt := 22) hx hb dX0_asked_17 (by decide) (fun c_2 => ?_) (fun c_2 => ?_)
    · skip
      refine lv_iload_n hx hb dX0_asked_22 rfl (lv_at hl 3 rfl) ?_
      refine vp_callSi ((va_runS (As := [.int (nI lz)]) (rest := []) ⟨hx, hb, hml, hown, hts⟩ (metX0_isLane l (nI lz) ) (va_cwS 1 hts (lw_S q383 q384 q69 q385) rfl rfl rfl (by decide +kernel) ⟨Nat.le_of_ble_eq_true rfl, Nat.le_of_ble_eq_true rfl⟩) (pcS _) rfl rfl hl.1 rfl (lv_room (Nat.le_of_ble_eq_true rfl)) dX0_asked_23 ⟨Nat.le_of_ble_eq_true rfl, Nat.le_of_ble_eq_true rfl⟩)).run (fun r hw => ?_)
      have hw : r = (b2i (inP (nI lz) 3)) := hw
      subst hw
      refine bz_eq (tgt := 53) hx hb dX0_asked_26 (by decide) (fun c_3 => ?_) (fun c_3 => ?_)
      · skip
        exact False.elim (by rw [inL hlz] at c_3; cases c_3)
      · skip
        refine lv_iload hx hb dX0_asked_29 (lv_at hl 5 rfl) ?_
        refine lv_i2l (v := (Int32.toInt64 (nI M))) hx hb dX0_asked_31 rfl ?_
        refine lv_lconst (v := 0) hx hb dX0_asked_32 (by decide) ?_
        refine lv_ldc2 (v := 20) hx hb hown (hts _ q663) dX0_asked_33 ?_
        refine vp_callSi ((va_runS (As := [.long (Int32.toInt64 (nI M)), .long 0, .long 20]) (rest := []) ⟨hx, hb, hml, hown, hts⟩ (metX0_isIn l (Int32.toInt64 (nI M)) 0 20 ) (va_cwS 3 hts (lw_S q380 q381 q69 q382) rfl rfl rfl (by decide +kernel) ⟨Nat.le_of_ble_eq_true rfl, Nat.le_of_ble_eq_true rfl⟩) (pcS _) rfl rfl hl.1 rfl (lv_room (Nat.le_of_ble_eq_true rfl)) dX0_asked_36 ⟨Nat.le_of_ble_eq_true rfl, Nat.le_of_ble_eq_true rfl⟩)).run (fun r hw => ?_)
        have hw : r = (b2i (lin (Int32.toInt64 (nI M)) 0 20)) := hw
        subst hw
        refine bz_eq (tgt := 53) hx hb dX0_asked_39 (by decide) (fun c_4 => ?_) (fun c_4 => ?_)
        · skip
          exact False.elim (by rw [lin20 hM] at c_4; cases c_4)
        · skip
          refine lv_iload hx hb dX0_asked_42 (lv_at hl 6 rfl) ?_
          refine lv_i2l (v := (Int32.toInt64 w)) hx hb dX0_asked_44 rfl ?_
          refine lv_lconst (v := 0) hx hb dX0_asked_45 (by decide) ?_
          refine lv_lconst (v := 1) hx hb dX0_asked_46 (by decide) ?_
          refine vp_callSi ((va_runS (As := [.long (Int32.toInt64 w), .long 0, .long 1]) (rest := []) ⟨hx, hb, hml, hown, hts⟩ (metX0_isIn l (Int32.toInt64 w) 0 1 ) (va_cwS 3 hts (lw_S q380 q381 q69 q382) rfl rfl rfl (by decide +kernel) ⟨Nat.le_of_ble_eq_true rfl, Nat.le_of_ble_eq_true rfl⟩) (pcS _) rfl rfl hl.1 rfl (lv_room (Nat.le_of_ble_eq_true rfl)) dX0_asked_47 ⟨Nat.le_of_ble_eq_true rfl, Nat.le_of_ble_eq_true rfl⟩)).run (fun r hw => ?_)
          have hw : r = (b2i (lin (Int32.toInt64 w) 0 1)) := hw
          subst hw
          refine bz_ne (tgt := 56) hx hb dX0_asked_50 (by decide) (fun c_5 => ?_) (fun c_5 => ?_)
          · skip
            refine lv_aload_n hx hb dX0_asked_56 rfl (lv_at hl 0 rfl) ?_
            refine g_get (v := .ref qs) hx hb hts hown hK hP 25 (by decide) rfl q174 rfl dX0_asked_57 ?_
            refine lv_iload_n hx hb dX0_asked_60 rfl (lv_at hl 2 rfl) ?_
            refine s_pla hx hb hK hP (xps n + j0) ((xG_ex j0).trans hj0) K hK4 dX0_asked_61 ?_
            refine s_has hx hb hts hown hK hP hE (xps n + j1) ((xG_ex j1).trans hj1) dX0_asked_62 ?_
            refine lv_iload_n hx hb dX0_asked_65 rfl (lv_at hl 3 rfl) ?_
            refine va_csr ((va_runS (As := [.null, .int (nI lz)]) (rest := []) ⟨hx, hb, hml, hown, hts⟩ (metX0_asLane_n l dC dI ct A (xG ct o q (ql, qs, md, qe, n) y (upd g 0 0) a ex) lz hlz) (va_cwS 2 hts (lw_S q387 q388 q69 q389) rfl rfl rfl (by decide +kernel) ⟨Nat.le_of_ble_eq_true rfl, Nat.le_of_ble_eq_true rfl⟩) (aPS hK hP hE9 hS _) rfl rfl hl.1 rfl (lv_room (Nat.le_of_ble_eq_true rfl)) dX0_asked_66 ⟨Nat.le_of_ble_eq_true rfl, Nat.le_of_ble_eq_true rfl⟩)).run (fun _ _ => ?_)
            refine lv_iload hx hb dX0_asked_69 (lv_at hl 4 rfl) ?_
            refine lv_iconst (v := 2) hx hb dX0_asked_71 (by decide) ?_
            refine lv_iload hx hb dX0_asked_72 (lv_at hl 5 rfl) ?_
            refine lv_imul hx hb dX0_asked_74 ?_
            refine W.exCall (As := [.null, .int i, .int (2 * (nI M))]) (rest := []) ⟨hx, hb, hml, hown, hts⟩ (metX0_rowW_N l dC dI ct A (xG ct o q (ql, qs, md, qe, n) y (upd g 0 0) a ex) htr i (2 * (nI M))) (va_cwS 3 hts (lw_S q393 q394 q69 q395) rfl rfl rfl (by decide +kernel) ⟨Nat.le_of_ble_eq_true rfl, Nat.le_of_ble_eq_true rfl⟩) (rPS hK hP hD hE9 hS hA _) rfl hl.1 rfl (Nat.le_of_ble_eq_true rfl) dX0_asked_75 ⟨Nat.le_of_ble_eq_true rfl, Nat.le_of_ble_eq_true rfl⟩ (fun H x9 ce h1 h2 h3 h4 => ?_)
            have hP := h1.P hP
            have hS := h1.S hS
            refine WT.caught (own := "LentYouths") hown h2 h4 (x := ⟨56, 90, 176, 179⟩) (rest := cxT [(91, 167, 176, 179), (56, 90, 184, 183), (91, 167, 184, 183)]) (nm := "java/lang/NullPointerException") ⟨rfl, by decide, hts _ q318⟩ h3 (va_asg _ _) [(⟨56, 90, 168, 173⟩, "java/lang/ClassCastException"), (⟨91, 167, 168, 173⟩, "java/lang/ClassCastException")] (fun z hz => by
                simp only [List.mem_cons, List.not_mem_nil, or_false] at hz
                rcases hz with rfl | rfl
                · exact Or.inr ⟨⟨rfl, by decide, hts _ q232⟩, cx_nc h3 (hN9.2.1 ("java/lang/NullPointerException", "java/lang/ClassCastException") (by decide))⟩
                · exact Or.inl rfl) het ?_
            refine W.eq (g2 := F0 m 176 ls [.ref x9]) rfl ?_
            refine lv_astore (lv' := [(8, .ref x9), (0, .ref o), (1, .int (nI P)), (2, .int (nI K)), (3, .int (nI lz)), (4, .int i), (5, .int (nI M)), (6, .int w), (7, .int by9)]) hx hb dX0_asked_176 hl (by decide) rfl (fun ls hl => ?_)
            refine lv_aload_n hx hb dX0_asked_178 rfl (lv_at hl 1 rfl) ?_
            refine lv_iconst (v := 1) hx hb dX0_asked_179 (by decide) ?_
            refine va_calli (va_runV (As := [.int 1]) (rest := []) ⟨hx, hb, hml, hown, hts⟩ (metX0_faulty l dC dI ct A (peW ct o qe n y a ++ ex) o q ql qs md qe n (upd g 0 0) a 1 ) (cwV 1 hts (lw_V q581 q583 qs12 q69 q584) rfl rfl rfl (by decide +kernel) ⟨Nat.le_of_ble_eq_true rfl, Nat.le_of_ble_eq_true rfl⟩) (xPV hK hP hD hE _) rfl rfl hl.1 rfl (lv_room (Nat.le_of_ble_eq_true rfl)) dX0_asked_180 ⟨Nat.le_of_ble_eq_true rfl, Nat.le_of_ble_eq_true rfl⟩) hS (fun q _ h => h) (fun q h => h) (fun r u t H1 locs ht hvm hw hB hz1 hk1 hS => ?_)
            obtain ⟨hw, hw2⟩ := hw
            have hw : r = ((-10) - 1) := hw
            subst hw
            subst hw2
            obtain ⟨hP, -, hD⟩ := hB
            rw [ht] at hP
            generalize H1 = H at hP hS ⊢
            have hP : va_P (dC, dI) clA (xG ct o q (ql, qs, md, qe, n) y (upd g 0 1) a ex) H := hP
            have hD : va_D A (xG ct o q (ql, qs, md, qe, n) y (upd g 0 1) a ex) := hD
            refine W.widen (k := 8) (n := 3000) (Nat.le_of_ble_eq_true rfl) (Nat.le_of_ble_eq_true rfl) ?_
            exact W.iret (v := ((-10) - 1)) hx hb hr (fun t ht hW => ⟨⟨((-10) - 1), ((upd g 0 1), a), rfl, ⟨(by first | rfl | (simp [c_1, c_2, c_3, c_4, c_5]; done)), rfl⟩, by rw [ht]; exact hP, va_K.moved hW.alike hK, hD⟩, hS.F ht⟩) hS.2.2 dX0_asked_183
          · skip
            exact False.elim (by rw [hw2] at c_5; cases c_5)
    · skip
      exact False.elim (by rw [inK hK4] at c_2; cases c_2)
set_option maxHeartbeats 4000000 in
set_option maxRecDepth 100000 in
theorem metX0_asked_C (l : Launch) (dC : Nat → ClassId) (dI : Nat → Nat → Nat) (ct : Nat → ClassId) (A : Nat → Prop) (ex : va_W) (o : Nat) (q : Nat → Nat) (ql qs : Nat) (md : Int32) (qe n : Nat) (y : Nat → Nat) (g : Nat → Int32) (a : Nat → Nat → Int32) (htr : l.stackTraces = false) (P : Nat) (K : Nat) (lz : Nat) (i : Int32) (M : Nat) (w : Int32) (by9 : Int32) (j0 : Nat) (pl : Nat → Nat) (hj0 : ex[j0]? = some (qs, .inl (ct 5, 4, .inr (.inr (.inr (.inr (fun j => some (pl j)))))))) (j2 ad N : Nat) (f : Nat → Int32) (lx : Nat) (hlx : lx < 3) (hj2 : ex[j2]? = some (ad, .inl (ct (lty lx), N, .inl f))) (hN : N ≤ 60) (K : Nat) (hK4 : K < 4) (j1 : Nat) (hj1 : ex[j1]? = some (pl K, .inr (6, [.ref ad]))) (hlz : lz < 3) (hne : lx ≠ lz) (hM : M ≤ 20) (hn6 : n ≤ 6) (hPn : P < n) (hw2 : lin w.toInt64 0 1 = true) : Met l yX0_asked (wsW_ yX0_asked cX0_asked 9 (some .int) [((56 : Nat), (90 : Nat), (168 : Nat), (173 : Nat)), ((91 : Nat), (167 : Nat), (168 : Nat), (173 : Nat)), ((56 : Nat), (90 : Nat), (176 : Nat), (179 : Nat)), ((91 : Nat), (167 : Nat), (176 : Nat), (179 : Nat)), ((56 : Nat), (90 : Nat), (184 : Nat), (183 : Nat)), ((91 : Nat), (167 : Nat), (184 : Nat), (183 : Nat))]) ({ frames := 16, cells := 8, slots := 3000, locals := 12000 }) (sPre dC dI ct A ex o q (ql, qs, md, qe, n) y g a [.ref o, .int (nI P), .int (nI K), .int (nI lz), .int i, .int (nI M), .int w, .int by9]) (va_Qi (fun (r : Int32) (u : (Nat → Int32) × (Nat → Nat → Int32)) => r = (-12) ∧ u = ((upd g 0 2), a)) (fun u t => gB dC dI ct A ex o q (ql, qs, md, qe, n) y u t) A) 8 3000 A := by
  refine cx_MetW (cc := cX0_asked) (maxL := 9) (ret := (some .int)) (hh := [((56 : Nat), (90 : Nat), (168 : Nat), (173 : Nat)), ((91 : Nat), (167 : Nat), (168 : Nat), (173 : Nat)), ((56 : Nat), (90 : Nat), (176 : Nat), (179 : Nat)), ((91 : Nat), (167 : Nat), (176 : Nat), (179 : Nat)), ((56 : Nat), (90 : Nat), (184 : Nat), (183 : Nat)), ((91 : Nat), (167 : Nat), (184 : Nat), (183 : Nat))]) (by decide) rfl ?_
  intro p e s m args below meth c s₁ B hml het hv
  obtain ⟨rfl, hP, hK, hD, hE, hE9, hA, hst, hI9⟩ := hv
  have hN9 := hE9.now
  have hx := B.exec
  have hb := B.bytes
  have hr := B.returns
  have hts := atoms_spec (ws := wsW_ yX0_asked cX0_asked 9 (some .int) [((56 : Nat), (90 : Nat), (168 : Nat), (173 : Nat)), ((91 : Nat), (167 : Nat), (168 : Nat), (173 : Nat)), ((56 : Nat), (90 : Nat), (176 : Nat), (179 : Nat)), ((91 : Nat), (167 : Nat), (176 : Nat), (179 : Nat)), ((56 : Nat), (90 : Nat), (184 : Nat), (183 : Nat)), ((91 : Nat), (167 : Nat), (184 : Nat), (183 : Nat))]) B.pre
  have hts : ∀ w ∈ lw_all, w.before _ s = true := fun w h => hts w (List.mem_cons_of_mem _ h)
  have hown : s.vm.findClass RX0 = some m.cls := findClass_of_methodNamed B.named
  have hlocks := B.notSynchronized
  have hS : va_S A s.heap s.heap [] := va_S.rf
  have hl := lv_entry ([.ref o, .int (nI P), .int (nI K), .int (nI lz), .int i, .int (nI M), .int w, .int by9]) (n := 9) (Nat.le_of_ble_eq_true rfl)
  rw [lg_entry_eq]
  generalize (lg_sl ([.ref o, .int (nI P), .int (nI K), .int (nI lz), .int i, .int (nI M), .int w, .int by9]) ++ List.replicate (9 - (lg_sl ([.ref o, .int (nI P), .int (nI K), .int (nI lz), .int i, .int (nI M), .int w, .int by9])).length) Slot.unset).toArray = ls at hl ⊢
  have hl : lv_has ls 9 [(0, .ref o), (1, .int (nI P)), (2, .int (nI K)), (3, .int (nI lz)), (4, .int i), (5, .int (nI M)), (6, .int w), (7, .int by9)] := hl
  refine lv_aload_n hx hb dX0_asked_0 rfl (lv_at hl 0 rfl) ?_
  refine lv_iconst (v := 0) hx hb dX0_asked_1 (by decide) ?_
  refine g_put (v := 0) hx hb hts hown hK hP hD hS 0 0 (by decide) rfl q144 rfl rfl (by decide +kernel) dX0_asked_2 (fun H locs hP hD hS => ?_)
  refine lv_aload_n hx hb dX0_asked_5 rfl (lv_at hl 0 rfl) ?_
  refine lv_iload_n hx hb dX0_asked_6 rfl (lv_at hl 1 rfl) ?_
  refine vp_callSi ((va_runV (As := [.int (nI P)]) (rest := []) ⟨hx, hb, hml, hown, hts⟩ (metX0_isPerson l dC dI ct A (peW ct o qe n y a ++ ex) o q ql qs md qe n (upd g 0 0) a (nI P) hn6) (cwV 1 hts (lw_V q589 q591 qs13 q69 q592) rfl rfl rfl (by decide +kernel) ⟨Nat.le_of_ble_eq_true rfl, Nat.le_of_ble_eq_true rfl⟩) (xPV hK hP hD hE _) rfl rfl hl.1 rfl (lv_room (Nat.le_of_ble_eq_true rfl)) dX0_asked_7 ⟨Nat.le_of_ble_eq_true rfl, Nat.le_of_ble_eq_true rfl⟩)).run (fun r hw => ?_)
  have hw : r = (b2i (inP (nI P) n)) := hw
  subst hw
  refine bz_eq (tgt := 20) hx hb dX0_asked_10 (by decide) (fun c_1 => ?_) (fun c_1 => ?_)
  · skip
    exact False.elim (by rw [inPn hn6 hPn] at c_1; cases c_1)
  · skip
    refine lv_iload_n hx hb dX0_asked_13 rfl (lv_at hl 2 rfl) ?_
    refine vp_callSi ((va_runS (As := [.int (nI K)]) (rest := []) ⟨hx, hb, hml, hown, hts⟩ (metX0_isSheet l (nI K) ) (va_cwS 1 hts (lw_S q376 q377 q69 q378) rfl rfl rfl (by decide +kernel) ⟨Nat.le_of_ble_eq_true rfl, Nat.le_of_ble_eq_true rfl⟩) (pcS _) rfl rfl hl.1 rfl (lv_room (Nat.le_of_ble_eq_true rfl)) dX0_asked_14 ⟨Nat.le_of_ble_eq_true rfl, Nat.le_of_ble_eq_true rfl⟩)).run (fun r hw => ?_)
    have hw : r = (b2i (inP (nI K) 4)) := hw
    subst hw
    refine bz_ne (tgt := 22) hx hb dX0_asked_17 (by decide) (fun c_2 => ?_) (fun c_2 => ?_)
    · skip
      refine lv_iload_n hx hb dX0_asked_22 rfl (lv_at hl 3 rfl) ?_
      refine vp_callSi ((va_runS (As := [.int (nI lz)]) (rest := []) ⟨hx, hb, hml, hown, hts⟩ (metX0_isLane l (nI lz) ) (va_cwS 1 hts (lw_S q383 q384 q69 q385) rfl rfl rfl (by decide +kernel) ⟨Nat.le_of_ble_eq_true rfl, Nat.le_of_ble_eq_true rfl⟩) (pcS _) rfl rfl hl.1 rfl (lv_room (Nat.le_of_ble_eq_true rfl)) dX0_asked_23 ⟨Nat.le_of_ble_eq_true rfl, Nat.le_of_ble_eq_true rfl⟩)).run (fun r hw => ?_)
      have hw : r = (b2i (inP (nI lz) 3)) := hw
      subst hw
      refine bz_eq (tgt := 53) hx hb dX0_asked_26 (by decide) (fun c_3 => ?_) (fun c_3 => ?_)
      · skip
        exact False.elim (by rw [inL hlz] at c_3; cases c_3)
      · skip
        refine lv_iload hx hb dX0_asked_29 (lv_at hl 5 rfl) ?_
        refine lv_i2l (v := (Int32.toInt64 (nI M))) hx hb dX0_asked_31 rfl ?_
        refine lv_lconst (v := 0) hx hb dX0_asked_32 (by decide) ?_
        refine lv_ldc2 (v := 20) hx hb hown (hts _ q663) dX0_asked_33 ?_
        refine vp_callSi ((va_runS (As := [.long (Int32.toInt64 (nI M)), .long 0, .long 20]) (rest := []) ⟨hx, hb, hml, hown, hts⟩ (metX0_isIn l (Int32.toInt64 (nI M)) 0 20 ) (va_cwS 3 hts (lw_S q380 q381 q69 q382) rfl rfl rfl (by decide +kernel) ⟨Nat.le_of_ble_eq_true rfl, Nat.le_of_ble_eq_true rfl⟩) (pcS _) rfl rfl hl.1 rfl (lv_room (Nat.le_of_ble_eq_true rfl)) dX0_asked_36 ⟨Nat.le_of_ble_eq_true rfl, Nat.le_of_ble_eq_true rfl⟩)).run (fun r hw => ?_)
        have hw : r = (b2i (lin (Int32.toInt64 (nI M)) 0 20)) := hw
        subst hw
        refine bz_eq (tgt := 53) hx hb dX0_asked_39 (by decide) (fun c_4 => ?_) (fun c_4 => ?_)
        · skip
          exact False.elim (by rw [lin20 hM] at c_4; cases c_4)
        · skip
          refine lv_iload hx hb dX0_asked_42 (lv_at hl 6 rfl) ?_
          refine lv_i2l (v := (Int32.toInt64 w)) hx hb dX0_asked_44 rfl ?_
          refine lv_lconst (v := 0) hx hb dX0_asked_45 (by decide) ?_
          refine lv_lconst (v := 1) hx hb dX0_asked_46 (by decide) ?_
          refine vp_callSi ((va_runS (As := [.long (Int32.toInt64 w), .long 0, .long 1]) (rest := []) ⟨hx, hb, hml, hown, hts⟩ (metX0_isIn l (Int32.toInt64 w) 0 1 ) (va_cwS 3 hts (lw_S q380 q381 q69 q382) rfl rfl rfl (by decide +kernel) ⟨Nat.le_of_ble_eq_true rfl, Nat.le_of_ble_eq_true rfl⟩) (pcS _) rfl rfl hl.1 rfl (lv_room (Nat.le_of_ble_eq_true rfl)) dX0_asked_47 ⟨Nat.le_of_ble_eq_true rfl, Nat.le_of_ble_eq_true rfl⟩)).run (fun r hw => ?_)
          have hw : r = (b2i (lin (Int32.toInt64 w) 0 1)) := hw
          subst hw
          refine bz_ne (tgt := 56) hx hb dX0_asked_50 (by decide) (fun c_5 => ?_) (fun c_5 => ?_)
          · skip
            refine lv_aload_n hx hb dX0_asked_56 rfl (lv_at hl 0 rfl) ?_
            refine g_get (v := .ref qs) hx hb hts hown hK hP 25 (by decide) rfl q174 rfl dX0_asked_57 ?_
            refine lv_iload_n hx hb dX0_asked_60 rfl (lv_at hl 2 rfl) ?_
            refine s_pla hx hb hK hP (xps n + j0) ((xG_ex j0).trans hj0) K hK4 dX0_asked_61 ?_
            refine s_has hx hb hts hown hK hP hE (xps n + j1) ((xG_ex j1).trans hj1) dX0_asked_62 ?_
            refine lv_iload_n hx hb dX0_asked_65 rfl (lv_at hl 3 rfl) ?_
            refine W.exCall (As := [.ref ad, .int (nI lz)]) (rest := []) ⟨hx, hb, hml, hown, hts⟩ (metX0_asLane_x l dC dI ct A (xG ct o q (ql, qs, md, qe, n) y (upd g 0 0) a ex) htr (xps n + j2) ad N f lx hlx ((xG_ex j2).trans hj2) (by omega) lz hlz hne) (va_cwS 2 hts (lw_S q387 q388 q69 q389) rfl rfl rfl (by decide +kernel) ⟨Nat.le_of_ble_eq_true rfl, Nat.le_of_ble_eq_true rfl⟩) (aPS hK hP hE9 hS _) rfl hl.1 rfl (Nat.le_of_ble_eq_true rfl) dX0_asked_66 ⟨Nat.le_of_ble_eq_true rfl, Nat.le_of_ble_eq_true rfl⟩ (fun H x9 ce h1 h2 h3 h4 => ?_)
            have hP := h1.P hP
            have hS := h1.S hS
            refine WT.caught (own := "LentYouths") hown h2 h4 (x := ⟨56, 90, 168, 173⟩) (rest := cxT [(91, 167, 168, 173), (56, 90, 176, 179), (91, 167, 176, 179), (56, 90, 184, 183), (91, 167, 184, 183)]) (nm := "java/lang/ClassCastException") ⟨rfl, by decide, hts _ q232⟩ h3 (va_asg _ _) [] (fun z hz => absurd hz List.not_mem_nil) het ?_
            refine W.eq (g2 := F0 m 168 ls [.ref x9]) rfl ?_
            refine lv_astore (lv' := [(8, .ref x9), (0, .ref o), (1, .int (nI P)), (2, .int (nI K)), (3, .int (nI lz)), (4, .int i), (5, .int (nI M)), (6, .int w), (7, .int by9)]) hx hb dX0_asked_168 hl (by decide) rfl (fun ls hl => ?_)
            refine lv_aload_n hx hb dX0_asked_170 rfl (lv_at hl 1 rfl) ?_
            refine lv_iconst (v := 2) hx hb dX0_asked_171 (by decide) ?_
            refine va_calli (va_runV (As := [.int 2]) (rest := []) ⟨hx, hb, hml, hown, hts⟩ (metX0_faulty l dC dI ct A (peW ct o qe n y a ++ ex) o q ql qs md qe n (upd g 0 0) a 2 ) (cwV 1 hts (lw_V q581 q583 qs12 q69 q584) rfl rfl rfl (by decide +kernel) ⟨Nat.le_of_ble_eq_true rfl, Nat.le_of_ble_eq_true rfl⟩) (xPV hK hP hD hE _) rfl rfl hl.1 rfl (lv_room (Nat.le_of_ble_eq_true rfl)) dX0_asked_172 ⟨Nat.le_of_ble_eq_true rfl, Nat.le_of_ble_eq_true rfl⟩) hS (fun q _ h => h) (fun q h => h) (fun r u t H1 locs ht hvm hw hB hz1 hk1 hS => ?_)
            obtain ⟨hw, hw2⟩ := hw
            have hw : r = ((-10) - 2) := hw
            subst hw
            subst hw2
            obtain ⟨hP, -, hD⟩ := hB
            rw [ht] at hP
            generalize H1 = H at hP hS ⊢
            have hP : va_P (dC, dI) clA (xG ct o q (ql, qs, md, qe, n) y (upd g 0 2) a ex) H := hP
            have hD : va_D A (xG ct o q (ql, qs, md, qe, n) y (upd g 0 2) a ex) := hD
            refine W.widen (k := 8) (n := 3000) (Nat.le_of_ble_eq_true rfl) (Nat.le_of_ble_eq_true rfl) ?_
            exact W.iret (v := ((-10) - 2)) hx hb hr (fun t ht hW => ⟨⟨((-10) - 2), ((upd g 0 2), a), rfl, ⟨(by first | rfl | (simp [c_1, c_2, c_3, c_4, c_5]; done)), rfl⟩, by rw [ht]; exact hP, va_K.moved hW.alike hK, hD⟩, hS.F ht⟩) hS.2.2 dX0_asked_175
          · skip
            exact False.elim (by rw [hw2] at c_5; cases c_5)
    · skip
      exact False.elim (by rw [inK hK4] at c_2; cases c_2)
set_option maxHeartbeats 4000000 in
set_option maxRecDepth 100000 in
theorem metX0_asked_I (l : Launch) (dC : Nat → ClassId) (dI : Nat → Nat → Nat) (ct : Nat → ClassId) (A : Nat → Prop) (ex : va_W) (o : Nat) (q : Nat → Nat) (ql qs : Nat) (md : Int32) (qe n : Nat) (y : Nat → Nat) (g : Nat → Int32) (a : Nat → Nat → Int32) (htr : l.stackTraces = false) (P : Nat) (K : Nat) (lx : Nat) (i : Int32) (M : Nat) (w : Int32) (by9 : Int32) (j0 : Nat) (pl : Nat → Nat) (hj0 : ex[j0]? = some (qs, .inl (ct 5, 4, .inr (.inr (.inr (.inr (fun j => some (pl j)))))))) (j2 ad N : Nat) (f : Nat → Int32) (hlx : lx < 3) (hj2 : ex[j2]? = some (ad, .inl (ct (lty lx), N, .inl f))) (hN : N ≤ 60) (K : Nat) (hK4 : K < 4) (j1 : Nat) (hj1 : ex[j1]? = some (pl K, .inr (6, [.ref ad]))) (hM : M ≤ 20) (hn6 : n ≤ 6) (hPn : P < n) (hw2 : lin w.toInt64 0 1 = true) (hr9 : i < 0 ∨ nI N - 2 * nI M < i) : Met l yX0_asked (wsW_ yX0_asked cX0_asked 9 (some .int) [((56 : Nat), (90 : Nat), (168 : Nat), (173 : Nat)), ((91 : Nat), (167 : Nat), (168 : Nat), (173 : Nat)), ((56 : Nat), (90 : Nat), (176 : Nat), (179 : Nat)), ((91 : Nat), (167 : Nat), (176 : Nat), (179 : Nat)), ((56 : Nat), (90 : Nat), (184 : Nat), (183 : Nat)), ((91 : Nat), (167 : Nat), (184 : Nat), (183 : Nat))]) ({ frames := 16, cells := 8, slots := 3000, locals := 12000 }) (sPre dC dI ct A ex o q (ql, qs, md, qe, n) y g a [.ref o, .int (nI P), .int (nI K), .int (nI lx), .int i, .int (nI M), .int w, .int by9]) (va_Qi (fun (r : Int32) (u : (Nat → Int32) × (Nat → Nat → Int32)) => r = (-13) ∧ u = ((upd g 0 3), a)) (fun u t => gB dC dI ct A ex o q (ql, qs, md, qe, n) y u t) A) 8 3000 A := by
  refine cx_MetW (cc := cX0_asked) (maxL := 9) (ret := (some .int)) (hh := [((56 : Nat), (90 : Nat), (168 : Nat), (173 : Nat)), ((91 : Nat), (167 : Nat), (168 : Nat), (173 : Nat)), ((56 : Nat), (90 : Nat), (176 : Nat), (179 : Nat)), ((91 : Nat), (167 : Nat), (176 : Nat), (179 : Nat)), ((56 : Nat), (90 : Nat), (184 : Nat), (183 : Nat)), ((91 : Nat), (167 : Nat), (184 : Nat), (183 : Nat))]) (by decide) rfl ?_
  intro p e s m args below meth c s₁ B hml het hv
  obtain ⟨rfl, hP, hK, hD, hE, hE9, hA, hst, hI9⟩ := hv
  have hN9 := hE9.now
  have hx := B.exec
  have hb := B.bytes
  have hr := B.returns
  have hts := atoms_spec (ws := wsW_ yX0_asked cX0_asked 9 (some .int) [((56 : Nat), (90 : Nat), (168 : Nat), (173 : Nat)), ((91 : Nat), (167 : Nat), (168 : Nat), (173 : Nat)), ((56 : Nat), (90 : Nat), (176 : Nat), (179 : Nat)), ((91 : Nat), (167 : Nat), (176 : Nat), (179 : Nat)), ((56 : Nat), (90 : Nat), (184 : Nat), (183 : Nat)), ((91 : Nat), (167 : Nat), (184 : Nat), (183 : Nat))]) B.pre
  have hts : ∀ w ∈ lw_all, w.before _ s = true := fun w h => hts w (List.mem_cons_of_mem _ h)
  have hown : s.vm.findClass RX0 = some m.cls := findClass_of_methodNamed B.named
  have hlocks := B.notSynchronized
  have hS : va_S A s.heap s.heap [] := va_S.rf
  have hl := lv_entry ([.ref o, .int (nI P), .int (nI K), .int (nI lx), .int i, .int (nI M), .int w, .int by9]) (n := 9) (Nat.le_of_ble_eq_true rfl)
  rw [lg_entry_eq]
  generalize (lg_sl ([.ref o, .int (nI P), .int (nI K), .int (nI lx), .int i, .int (nI M), .int w, .int by9]) ++ List.replicate (9 - (lg_sl ([.ref o, .int (nI P), .int (nI K), .int (nI lx), .int i, .int (nI M), .int w, .int by9])).length) Slot.unset).toArray = ls at hl ⊢
  have hl : lv_has ls 9 [(0, .ref o), (1, .int (nI P)), (2, .int (nI K)), (3, .int (nI lx)), (4, .int i), (5, .int (nI M)), (6, .int w), (7, .int by9)] := hl
  have hn0 : 0 ≤ 2 * nI M := by rw [nI_mul2]; exact nI_pos' (by omega)
  refine lv_aload_n hx hb dX0_asked_0 rfl (lv_at hl 0 rfl) ?_
  refine lv_iconst (v := 0) hx hb dX0_asked_1 (by decide) ?_
  refine g_put (v := 0) hx hb hts hown hK hP hD hS 0 0 (by decide) rfl q144 rfl rfl (by decide +kernel) dX0_asked_2 (fun H locs hP hD hS => ?_)
  refine lv_aload_n hx hb dX0_asked_5 rfl (lv_at hl 0 rfl) ?_
  refine lv_iload_n hx hb dX0_asked_6 rfl (lv_at hl 1 rfl) ?_
  refine vp_callSi ((va_runV (As := [.int (nI P)]) (rest := []) ⟨hx, hb, hml, hown, hts⟩ (metX0_isPerson l dC dI ct A (peW ct o qe n y a ++ ex) o q ql qs md qe n (upd g 0 0) a (nI P) hn6) (cwV 1 hts (lw_V q589 q591 qs13 q69 q592) rfl rfl rfl (by decide +kernel) ⟨Nat.le_of_ble_eq_true rfl, Nat.le_of_ble_eq_true rfl⟩) (xPV hK hP hD hE _) rfl rfl hl.1 rfl (lv_room (Nat.le_of_ble_eq_true rfl)) dX0_asked_7 ⟨Nat.le_of_ble_eq_true rfl, Nat.le_of_ble_eq_true rfl⟩)).run (fun r hw => ?_)
  have hw : r = (b2i (inP (nI P) n)) := hw
  subst hw
  refine bz_eq (tgt := 20) hx hb dX0_asked_10 (by decide) (fun c_1 => ?_) (fun c_1 => ?_)
  · skip
    exact False.elim (by rw [inPn hn6 hPn] at c_1; cases c_1)
  · skip
    refine lv_iload_n hx hb dX0_asked_13 rfl (lv_at hl 2 rfl) ?_
    refine vp_callSi ((va_runS (As := [.int (nI K)]) (rest := []) ⟨hx, hb, hml, hown, hts⟩ (metX0_isSheet l (nI K) ) (va_cwS 1 hts (lw_S q376 q377 q69 q378) rfl rfl rfl (by decide +kernel) ⟨Nat.le_of_ble_eq_true rfl, Nat.le_of_ble_eq_true rfl⟩) (pcS _) rfl rfl hl.1 rfl (lv_room (Nat.le_of_ble_eq_true rfl)) dX0_asked_14 ⟨Nat.le_of_ble_eq_true rfl, Nat.le_of_ble_eq_true rfl⟩)).run (fun r hw => ?_)
    have hw : r = (b2i (inP (nI K) 4)) := hw
    subst hw
    refine bz_ne (tgt := 22) hx hb dX0_asked_17 (by decide) (fun c_2 => ?_) (fun c_2 => ?_)
    · skip
      refine lv_iload_n hx hb dX0_asked_22 rfl (lv_at hl 3 rfl) ?_
      refine vp_callSi ((va_runS (As := [.int (nI lx)]) (rest := []) ⟨hx, hb, hml, hown, hts⟩ (metX0_isLane l (nI lx) ) (va_cwS 1 hts (lw_S q383 q384 q69 q385) rfl rfl rfl (by decide +kernel) ⟨Nat.le_of_ble_eq_true rfl, Nat.le_of_ble_eq_true rfl⟩) (pcS _) rfl rfl hl.1 rfl (lv_room (Nat.le_of_ble_eq_true rfl)) dX0_asked_23 ⟨Nat.le_of_ble_eq_true rfl, Nat.le_of_ble_eq_true rfl⟩)).run (fun r hw => ?_)
      have hw : r = (b2i (inP (nI lx) 3)) := hw
      subst hw
      refine bz_eq (tgt := 53) hx hb dX0_asked_26 (by decide) (fun c_3 => ?_) (fun c_3 => ?_)
      · skip
        exact False.elim (by rw [inL hlx] at c_3; cases c_3)
      · skip
        refine lv_iload hx hb dX0_asked_29 (lv_at hl 5 rfl) ?_
        refine lv_i2l (v := (Int32.toInt64 (nI M))) hx hb dX0_asked_31 rfl ?_
        refine lv_lconst (v := 0) hx hb dX0_asked_32 (by decide) ?_
        refine lv_ldc2 (v := 20) hx hb hown (hts _ q663) dX0_asked_33 ?_
        refine vp_callSi ((va_runS (As := [.long (Int32.toInt64 (nI M)), .long 0, .long 20]) (rest := []) ⟨hx, hb, hml, hown, hts⟩ (metX0_isIn l (Int32.toInt64 (nI M)) 0 20 ) (va_cwS 3 hts (lw_S q380 q381 q69 q382) rfl rfl rfl (by decide +kernel) ⟨Nat.le_of_ble_eq_true rfl, Nat.le_of_ble_eq_true rfl⟩) (pcS _) rfl rfl hl.1 rfl (lv_room (Nat.le_of_ble_eq_true rfl)) dX0_asked_36 ⟨Nat.le_of_ble_eq_true rfl, Nat.le_of_ble_eq_true rfl⟩)).run (fun r hw => ?_)
        have hw : r = (b2i (lin (Int32.toInt64 (nI M)) 0 20)) := hw
        subst hw
        refine bz_eq (tgt := 53) hx hb dX0_asked_39 (by decide) (fun c_4 => ?_) (fun c_4 => ?_)
        · skip
          exact False.elim (by rw [lin20 hM] at c_4; cases c_4)
        · skip
          refine lv_iload hx hb dX0_asked_42 (lv_at hl 6 rfl) ?_
          refine lv_i2l (v := (Int32.toInt64 w)) hx hb dX0_asked_44 rfl ?_
          refine lv_lconst (v := 0) hx hb dX0_asked_45 (by decide) ?_
          refine lv_lconst (v := 1) hx hb dX0_asked_46 (by decide) ?_
          refine vp_callSi ((va_runS (As := [.long (Int32.toInt64 w), .long 0, .long 1]) (rest := []) ⟨hx, hb, hml, hown, hts⟩ (metX0_isIn l (Int32.toInt64 w) 0 1 ) (va_cwS 3 hts (lw_S q380 q381 q69 q382) rfl rfl rfl (by decide +kernel) ⟨Nat.le_of_ble_eq_true rfl, Nat.le_of_ble_eq_true rfl⟩) (pcS _) rfl rfl hl.1 rfl (lv_room (Nat.le_of_ble_eq_true rfl)) dX0_asked_47 ⟨Nat.le_of_ble_eq_true rfl, Nat.le_of_ble_eq_true rfl⟩)).run (fun r hw => ?_)
          have hw : r = (b2i (lin (Int32.toInt64 w) 0 1)) := hw
          subst hw
          refine bz_ne (tgt := 56) hx hb dX0_asked_50 (by decide) (fun c_5 => ?_) (fun c_5 => ?_)
          · skip
            refine lv_aload_n hx hb dX0_asked_56 rfl (lv_at hl 0 rfl) ?_
            refine g_get (v := .ref qs) hx hb hts hown hK hP 25 (by decide) rfl q174 rfl dX0_asked_57 ?_
            refine lv_iload_n hx hb dX0_asked_60 rfl (lv_at hl 2 rfl) ?_
            refine s_pla hx hb hK hP (xps n + j0) ((xG_ex j0).trans hj0) K hK4 dX0_asked_61 ?_
            refine s_has hx hb hts hown hK hP hE (xps n + j1) ((xG_ex j1).trans hj1) dX0_asked_62 ?_
            refine lv_iload_n hx hb dX0_asked_65 rfl (lv_at hl 3 rfl) ?_
            refine va_csr ((va_runS (As := [.ref ad, .int (nI lx)]) (rest := []) ⟨hx, hb, hml, hown, hts⟩ (metX0_asLane l dC dI ct A (xG ct o q (ql, qs, md, qe, n) y (upd g 0 0) a ex) (xps n + j2) ad N f lx hlx ((xG_ex j2).trans hj2) (by omega)) (va_cwS 2 hts (lw_S q387 q388 q69 q389) rfl rfl rfl (by decide +kernel) ⟨Nat.le_of_ble_eq_true rfl, Nat.le_of_ble_eq_true rfl⟩) (aPS hK hP hE9 hS _) rfl rfl hl.1 rfl (lv_room (Nat.le_of_ble_eq_true rfl)) dX0_asked_66 ⟨Nat.le_of_ble_eq_true rfl, Nat.le_of_ble_eq_true rfl⟩)).run (fun _ _ => ?_)
            refine lv_iload hx hb dX0_asked_69 (lv_at hl 4 rfl) ?_
            refine lv_iconst (v := 2) hx hb dX0_asked_71 (by decide) ?_
            refine lv_iload hx hb dX0_asked_72 (lv_at hl 5 rfl) ?_
            refine lv_imul hx hb dX0_asked_74 ?_
            refine W.exCall (As := [.ref ad, .int i, .int (2 * (nI M))]) (rest := []) ⟨hx, hb, hml, hown, hts⟩ (metX0_rowW_I l dC dI ct A (xG ct o q (ql, qs, md, qe, n) y (upd g 0 0) a ex) htr (xps n + j2) ad N f lx hlx ((xG_ex j2).trans hj2) hN i (2 * (nI M)) hn0 hr9) (va_cwS 3 hts (lw_S q393 q394 q69 q395) rfl rfl rfl (by decide +kernel) ⟨Nat.le_of_ble_eq_true rfl, Nat.le_of_ble_eq_true rfl⟩) (rPS hK hP hD hE9 hS hA _) rfl hl.1 rfl (Nat.le_of_ble_eq_true rfl) dX0_asked_75 ⟨Nat.le_of_ble_eq_true rfl, Nat.le_of_ble_eq_true rfl⟩ (fun H x9 ce h1 h2 h3 h4 => ?_)
            have hP := h1.P hP
            have hS := h1.S hS
            refine WT.caught (own := "LentYouths") hown h2 h4 (x := ⟨56, 90, 184, 183⟩) (rest := cxT [(91, 167, 184, 183)]) (nm := "java/lang/ArrayIndexOutOfBoundsException") ⟨rfl, by decide, hts _ q357⟩ h3 (va_asg _ _) [(⟨56, 90, 168, 173⟩, "java/lang/ClassCastException"), (⟨91, 167, 168, 173⟩, "java/lang/ClassCastException"), (⟨56, 90, 176, 179⟩, "java/lang/NullPointerException"), (⟨91, 167, 176, 179⟩, "java/lang/NullPointerException")] (fun z hz => by
                simp only [List.mem_cons, List.not_mem_nil, or_false] at hz
                rcases hz with rfl | rfl | rfl | rfl
                · exact Or.inr ⟨⟨rfl, by decide, hts _ q232⟩, cx_nc h3 (hN9.2.1 ("java/lang/ArrayIndexOutOfBoundsException", "java/lang/ClassCastException") (by decide))⟩
                · exact Or.inl rfl
                · exact Or.inr ⟨⟨rfl, by decide, hts _ q318⟩, cx_nc h3 (hN9.2.1 ("java/lang/ArrayIndexOutOfBoundsException", "java/lang/NullPointerException") (by decide))⟩
                · exact Or.inl rfl) het ?_
            refine W.eq (g2 := F0 m 184 ls [.ref x9]) rfl ?_
            refine lv_astore (lv' := [(8, .ref x9), (0, .ref o), (1, .int (nI P)), (2, .int (nI K)), (3, .int (nI lx)), (4, .int i), (5, .int (nI M)), (6, .int w), (7, .int by9)]) hx hb dX0_asked_184 hl (by decide) rfl (fun ls hl => ?_)
            refine lv_aload_n hx hb dX0_asked_186 rfl (lv_at hl 1 rfl) ?_
            refine lv_iconst (v := 3) hx hb dX0_asked_187 (by decide) ?_
            refine va_calli (va_runV (As := [.int 3]) (rest := []) ⟨hx, hb, hml, hown, hts⟩ (metX0_faulty l dC dI ct A (peW ct o qe n y a ++ ex) o q ql qs md qe n (upd g 0 0) a 3 ) (cwV 1 hts (lw_V q581 q583 qs12 q69 q584) rfl rfl rfl (by decide +kernel) ⟨Nat.le_of_ble_eq_true rfl, Nat.le_of_ble_eq_true rfl⟩) (xPV hK hP hD hE _) rfl rfl hl.1 rfl (lv_room (Nat.le_of_ble_eq_true rfl)) dX0_asked_188 ⟨Nat.le_of_ble_eq_true rfl, Nat.le_of_ble_eq_true rfl⟩) hS (fun q _ h => h) (fun q h => h) (fun r u t H1 locs ht hvm hw hB hz1 hk1 hS => ?_)
            obtain ⟨hw, hw2⟩ := hw
            have hw : r = ((-10) - 3) := hw
            subst hw
            subst hw2
            obtain ⟨hP, -, hD⟩ := hB
            rw [ht] at hP
            generalize H1 = H at hP hS ⊢
            have hP : va_P (dC, dI) clA (xG ct o q (ql, qs, md, qe, n) y (upd g 0 3) a ex) H := hP
            have hD : va_D A (xG ct o q (ql, qs, md, qe, n) y (upd g 0 3) a ex) := hD
            refine W.widen (k := 8) (n := 3000) (Nat.le_of_ble_eq_true rfl) (Nat.le_of_ble_eq_true rfl) ?_
            exact W.iret (v := ((-10) - 3)) hx hb hr (fun t ht hW => ⟨⟨((-10) - 3), ((upd g 0 3), a), rfl, ⟨(by first | rfl | (simp [c_1, c_2, c_3, c_4, c_5]; done)), rfl⟩, by rw [ht]; exact hP, va_K.moved hW.alike hK, hD⟩, hS.F ht⟩) hS.2.2 dX0_asked_191
          · skip
            exact False.elim (by rw [hw2] at c_5; cases c_5)
    · skip
      exact False.elim (by rw [inK hK4] at c_2; cases c_2)
set_option maxHeartbeats 4000000 in
set_option maxRecDepth 100000 in
theorem metX0_asked_a0 (l : Launch) (dC : Nat → ClassId) (dI : Nat → Nat → Nat) (ct : Nat → ClassId) (A : Nat → Prop) (ex : va_W) (o : Nat) (q : Nat → Nat) (ql qs : Nat) (md : Int32) (qe n : Nat) (y : Nat → Nat) (g : Nat → Int32) (a : Nat → Nat → Int32) (htr : l.stackTraces = false) (P : Nat) (K : Nat) (lx : Nat) (I : Nat) (M : Nat) (w : Int32) (b0 : Int32) (j0 : Nat) (pl : Nat → Nat) (hj0 : ex[j0]? = some (qs, .inl (ct 5, 4, .inr (.inr (.inr (.inr (fun j => some (pl j)))))))) (j2 ad N : Nat) (f : Nat → Int32) (hlx : lx < 3) (hj2 : ex[j2]? = some (ad, .inl (ct (lty lx), N, .inl f))) (hN : N ≤ 60) (K : Nat) (hK4 : K < 4) (j1 : Nat) (hj1 : ex[j1]? = some (pl K, .inr (6, [.ref ad]))) (hM : M ≤ 20) (hn6 : n ≤ 6) (hPn : P < n) (hw2 : lin w.toInt64 0 1 = true) (hIL : I + 2 * M ≤ N) (rn : Nat) (hr8 : rn ≤ 8) (hrn : g 21 = nI rn) (hrw : ∀ k, k < rn → a 22 k = nI (cix (a 22 k)) ∧ cix (a 22 k) < n) (hall9 : allP n (cutF (2 * M) (fun j => f (I + j)) (fun _ => 0)) (2 * M) = true) : Met l yX0_asked (wsW_ yX0_asked cX0_asked 9 (some .int) [((56 : Nat), (90 : Nat), (168 : Nat), (173 : Nat)), ((91 : Nat), (167 : Nat), (168 : Nat), (173 : Nat)), ((56 : Nat), (90 : Nat), (176 : Nat), (179 : Nat)), ((91 : Nat), (167 : Nat), (176 : Nat), (179 : Nat)), ((56 : Nat), (90 : Nat), (184 : Nat), (183 : Nat)), ((91 : Nat), (167 : Nat), (184 : Nat), (183 : Nat))]) ({ frames := 16, cells := 8, slots := 3000, locals := 12000 }) (sPre dC dI ct A ex o q (ql, qs, md, qe, n) y g a [.ref o, .int (nI P), .int (nI K), .int (nI lx), .int (nI I), .int (nI M), .int w, .int 0]) (va_Qi (fun (r : Int32) (u : (Nat → Int32) × (Nat → Nat → Int32)) => r = (if w = 0 then cntB (fun z => (soV (cgo n (upd (a 3) P (nI z)) (a 4) (laX (g 3) (g 4) (a 2) (a 5)) (fun t => cix ((cutF (2 * M) (fun j => f (I + j)) (fun _ => 0)) t)) M) (a 22) (a 23) (a 24) rn)) 64 else leastB (fun z => (soV (cgo n (upd (a 3) P (nI z)) (a 4) (laX (g 3) (g 4) (a 2) (a 5)) (fun t => cix ((cutF (2 * M) (fun j => f (I + j)) (fun _ => 0)) t)) M) (a 22) (a 23) (a 24) rn)) 64) ∧ ∃ (T : LnS (Nat → Int32) × Int32 × Int32), u = ((upd (upd g 0 0) 18 T.2.2), (va_up (va_up (va_up (va_up (va_up a 12 ((T.1).1)) 13 ((T.1).2.1)) 14 ((T.1).2.2.1)) 15 ((T.1).2.2.2.1)) 16 ((T.1).2.2.2.2)))) (fun u t => gB dC dI ct A ex o q (ql, qs, md, qe, n) y u t) A) 8 3000 A := by
  refine cx_MetW (cc := cX0_asked) (maxL := 9) (ret := (some .int)) (hh := [((56 : Nat), (90 : Nat), (168 : Nat), (173 : Nat)), ((91 : Nat), (167 : Nat), (168 : Nat), (173 : Nat)), ((56 : Nat), (90 : Nat), (176 : Nat), (179 : Nat)), ((91 : Nat), (167 : Nat), (176 : Nat), (179 : Nat)), ((56 : Nat), (90 : Nat), (184 : Nat), (183 : Nat)), ((91 : Nat), (167 : Nat), (184 : Nat), (183 : Nat))]) (by decide) rfl ?_
  intro p e s m args below meth c s₁ B hml het hv
  obtain ⟨rfl, hP, hK, hD, hE, hE9, hA, hst, hI9⟩ := hv
  have hN9 := hE9.now
  have hx := B.exec
  have hb := B.bytes
  have hr := B.returns
  have hts := atoms_spec (ws := wsW_ yX0_asked cX0_asked 9 (some .int) [((56 : Nat), (90 : Nat), (168 : Nat), (173 : Nat)), ((91 : Nat), (167 : Nat), (168 : Nat), (173 : Nat)), ((56 : Nat), (90 : Nat), (176 : Nat), (179 : Nat)), ((91 : Nat), (167 : Nat), (176 : Nat), (179 : Nat)), ((56 : Nat), (90 : Nat), (184 : Nat), (183 : Nat)), ((91 : Nat), (167 : Nat), (184 : Nat), (183 : Nat))]) B.pre
  have hts : ∀ w ∈ lw_all, w.before _ s = true := fun w h => hts w (List.mem_cons_of_mem _ h)
  have hown : s.vm.findClass RX0 = some m.cls := findClass_of_methodNamed B.named
  have hlocks := B.notSynchronized
  have hS : va_S A s.heap s.heap [] := va_S.rf
  have hl := lv_entry ([.ref o, .int (nI P), .int (nI K), .int (nI lx), .int (nI I), .int (nI M), .int w, .int 0]) (n := 9) (Nat.le_of_ble_eq_true rfl)
  rw [lg_entry_eq]
  generalize (lg_sl ([.ref o, .int (nI P), .int (nI K), .int (nI lx), .int (nI I), .int (nI M), .int w, .int 0]) ++ List.replicate (9 - (lg_sl ([.ref o, .int (nI P), .int (nI K), .int (nI lx), .int (nI I), .int (nI M), .int w, .int 0])).length) Slot.unset).toArray = ls at hl ⊢
  have hl : lv_has ls 9 [(0, .ref o), (1, .int (nI P)), (2, .int (nI K)), (3, .int (nI lx)), (4, .int (nI I)), (5, .int (nI M)), (6, .int w), (7, .int 0)] := hl
  refine lv_aload_n hx hb dX0_asked_0 rfl (lv_at hl 0 rfl) ?_
  refine lv_iconst (v := 0) hx hb dX0_asked_1 (by decide) ?_
  refine g_put (v := 0) hx hb hts hown hK hP hD hS 0 0 (by decide) rfl q144 rfl rfl (by decide +kernel) dX0_asked_2 (fun H locs hP hD hS => ?_)
  refine lv_aload_n hx hb dX0_asked_5 rfl (lv_at hl 0 rfl) ?_
  refine lv_iload_n hx hb dX0_asked_6 rfl (lv_at hl 1 rfl) ?_
  refine vp_callSi ((va_runV (As := [.int (nI P)]) (rest := []) ⟨hx, hb, hml, hown, hts⟩ (metX0_isPerson l dC dI ct A (peW ct o qe n y a ++ ex) o q ql qs md qe n (upd g 0 0) a (nI P) hn6) (cwV 1 hts (lw_V q589 q591 qs13 q69 q592) rfl rfl rfl (by decide +kernel) ⟨Nat.le_of_ble_eq_true rfl, Nat.le_of_ble_eq_true rfl⟩) (xPV hK hP hD hE _) rfl rfl hl.1 rfl (lv_room (Nat.le_of_ble_eq_true rfl)) dX0_asked_7 ⟨Nat.le_of_ble_eq_true rfl, Nat.le_of_ble_eq_true rfl⟩)).run (fun r hw => ?_)
  have hw : r = (b2i (inP (nI P) n)) := hw
  subst hw
  refine bz_eq (tgt := 20) hx hb dX0_asked_10 (by decide) (fun c_1 => ?_) (fun c_1 => ?_)
  · skip
    exact False.elim (by rw [inPn hn6 hPn] at c_1; cases c_1)
  · skip
    refine lv_iload_n hx hb dX0_asked_13 rfl (lv_at hl 2 rfl) ?_
    refine vp_callSi ((va_runS (As := [.int (nI K)]) (rest := []) ⟨hx, hb, hml, hown, hts⟩ (metX0_isSheet l (nI K) ) (va_cwS 1 hts (lw_S q376 q377 q69 q378) rfl rfl rfl (by decide +kernel) ⟨Nat.le_of_ble_eq_true rfl, Nat.le_of_ble_eq_true rfl⟩) (pcS _) rfl rfl hl.1 rfl (lv_room (Nat.le_of_ble_eq_true rfl)) dX0_asked_14 ⟨Nat.le_of_ble_eq_true rfl, Nat.le_of_ble_eq_true rfl⟩)).run (fun r hw => ?_)
    have hw : r = (b2i (inP (nI K) 4)) := hw
    subst hw
    refine bz_ne (tgt := 22) hx hb dX0_asked_17 (by decide) (fun c_2 => ?_) (fun c_2 => ?_)
    · skip
      refine lv_iload_n hx hb dX0_asked_22 rfl (lv_at hl 3 rfl) ?_
      refine vp_callSi ((va_runS (As := [.int (nI lx)]) (rest := []) ⟨hx, hb, hml, hown, hts⟩ (metX0_isLane l (nI lx) ) (va_cwS 1 hts (lw_S q383 q384 q69 q385) rfl rfl rfl (by decide +kernel) ⟨Nat.le_of_ble_eq_true rfl, Nat.le_of_ble_eq_true rfl⟩) (pcS _) rfl rfl hl.1 rfl (lv_room (Nat.le_of_ble_eq_true rfl)) dX0_asked_23 ⟨Nat.le_of_ble_eq_true rfl, Nat.le_of_ble_eq_true rfl⟩)).run (fun r hw => ?_)
      have hw : r = (b2i (inP (nI lx) 3)) := hw
      subst hw
      refine bz_eq (tgt := 53) hx hb dX0_asked_26 (by decide) (fun c_3 => ?_) (fun c_3 => ?_)
      · skip
        exact False.elim (by rw [inL hlx] at c_3; cases c_3)
      · skip
        refine lv_iload hx hb dX0_asked_29 (lv_at hl 5 rfl) ?_
        refine lv_i2l (v := (Int32.toInt64 (nI M))) hx hb dX0_asked_31 rfl ?_
        refine lv_lconst (v := 0) hx hb dX0_asked_32 (by decide) ?_
        refine lv_ldc2 (v := 20) hx hb hown (hts _ q663) dX0_asked_33 ?_
        refine vp_callSi ((va_runS (As := [.long (Int32.toInt64 (nI M)), .long 0, .long 20]) (rest := []) ⟨hx, hb, hml, hown, hts⟩ (metX0_isIn l (Int32.toInt64 (nI M)) 0 20 ) (va_cwS 3 hts (lw_S q380 q381 q69 q382) rfl rfl rfl (by decide +kernel) ⟨Nat.le_of_ble_eq_true rfl, Nat.le_of_ble_eq_true rfl⟩) (pcS _) rfl rfl hl.1 rfl (lv_room (Nat.le_of_ble_eq_true rfl)) dX0_asked_36 ⟨Nat.le_of_ble_eq_true rfl, Nat.le_of_ble_eq_true rfl⟩)).run (fun r hw => ?_)
        have hw : r = (b2i (lin (Int32.toInt64 (nI M)) 0 20)) := hw
        subst hw
        refine bz_eq (tgt := 53) hx hb dX0_asked_39 (by decide) (fun c_4 => ?_) (fun c_4 => ?_)
        · skip
          exact False.elim (by rw [lin20 hM] at c_4; cases c_4)
        · skip
          refine lv_iload hx hb dX0_asked_42 (lv_at hl 6 rfl) ?_
          refine lv_i2l (v := (Int32.toInt64 w)) hx hb dX0_asked_44 rfl ?_
          refine lv_lconst (v := 0) hx hb dX0_asked_45 (by decide) ?_
          refine lv_lconst (v := 1) hx hb dX0_asked_46 (by decide) ?_
          refine vp_callSi ((va_runS (As := [.long (Int32.toInt64 w), .long 0, .long 1]) (rest := []) ⟨hx, hb, hml, hown, hts⟩ (metX0_isIn l (Int32.toInt64 w) 0 1 ) (va_cwS 3 hts (lw_S q380 q381 q69 q382) rfl rfl rfl (by decide +kernel) ⟨Nat.le_of_ble_eq_true rfl, Nat.le_of_ble_eq_true rfl⟩) (pcS _) rfl rfl hl.1 rfl (lv_room (Nat.le_of_ble_eq_true rfl)) dX0_asked_47 ⟨Nat.le_of_ble_eq_true rfl, Nat.le_of_ble_eq_true rfl⟩)).run (fun r hw => ?_)
          have hw : r = (b2i (lin (Int32.toInt64 w) 0 1)) := hw
          subst hw
          refine bz_ne (tgt := 56) hx hb dX0_asked_50 (by decide) (fun c_5 => ?_) (fun c_5 => ?_)
          · skip
            refine lv_aload_n hx hb dX0_asked_56 rfl (lv_at hl 0 rfl) ?_
            refine g_get (v := .ref qs) hx hb hts hown hK hP 25 (by decide) rfl q174 rfl dX0_asked_57 ?_
            refine lv_iload_n hx hb dX0_asked_60 rfl (lv_at hl 2 rfl) ?_
            refine s_pla hx hb hK hP (xps n + j0) ((xG_ex j0).trans hj0) K hK4 dX0_asked_61 ?_
            refine s_has hx hb hts hown hK hP hE (xps n + j1) ((xG_ex j1).trans hj1) dX0_asked_62 ?_
            refine lv_iload_n hx hb dX0_asked_65 rfl (lv_at hl 3 rfl) ?_
            refine va_csr ((va_runS (As := [.ref ad, .int (nI lx)]) (rest := []) ⟨hx, hb, hml, hown, hts⟩ (metX0_asLane l dC dI ct A (xG ct o q (ql, qs, md, qe, n) y (upd g 0 0) a ex) (xps n + j2) ad N f lx hlx ((xG_ex j2).trans hj2) (by omega)) (va_cwS 2 hts (lw_S q387 q388 q69 q389) rfl rfl rfl (by decide +kernel) ⟨Nat.le_of_ble_eq_true rfl, Nat.le_of_ble_eq_true rfl⟩) (aPS hK hP hE9 hS _) rfl rfl hl.1 rfl (lv_room (Nat.le_of_ble_eq_true rfl)) dX0_asked_66 ⟨Nat.le_of_ble_eq_true rfl, Nat.le_of_ble_eq_true rfl⟩)).run (fun _ _ => ?_)
            refine lv_iload hx hb dX0_asked_69 (lv_at hl 4 rfl) ?_
            refine lv_iconst (v := 2) hx hb dX0_asked_71 (by decide) ?_
            refine lv_iload hx hb dX0_asked_72 (lv_at hl 5 rfl) ?_
            refine lv_imul hx hb dX0_asked_74 ?_
            refine va_callr (va_runS (As := [.ref ad, .int (nI I), .int (2 * (nI M))]) (rest := []) ⟨hx, hb, hml, hown, hts⟩ (metX0_rowW l dC dI ct A (xG ct o q (ql, qs, md, qe, n) y (upd g 0 0) a ex) (xps n + j2) ad N f lx hlx ((xG_ex j2).trans hj2) hN (nI I) (2 * (nI M)) I (2 * M) rfl (nI_mul2 M) hIL) (va_cwS 3 hts (lw_S q393 q394 q69 q395) rfl rfl rfl (by decide +kernel) ⟨Nat.le_of_ble_eq_true rfl, Nat.le_of_ble_eq_true rfl⟩) (rPS hK hP hD hE9 hS hA _) rfl rfl hl.1 rfl (lv_room (Nat.le_of_ble_eq_true rfl)) dX0_asked_75 ⟨Nat.le_of_ble_eq_true rfl, Nat.le_of_ble_eq_true rfl⟩) hS (fun q _ h => h) (fun q h => h) (fun _ qr t H1 locs ht hvm hw hB hz1 hk1 hS => ?_)
            clear hw
            obtain ⟨hP, -, hD⟩ := hB
            rw [ht, ← xG_app] at hP
            rw [← xG_app] at hD
            generalize H1 = H at hP hS ⊢
            refine lv_astore (lv' := [(8, .ref qr), (0, .ref o), (1, .int (nI P)), (2, .int (nI K)), (3, .int (nI lx)), (4, .int (nI I)), (5, .int (nI M)), (6, .int w), (7, .int 0)]) hx hb dX0_asked_78 hl (by decide) rfl (fun ls hl => ?_)
            refine lv_aload_n hx hb dX0_asked_80 rfl (lv_at hl 1 rfl) ?_
            refine lv_aload hx hb dX0_asked_81 (lv_at hl 0 rfl) ?_
            refine vp_callSi ((va_runV (As := [.ref qr]) (rest := []) ⟨hx, hb, hml, hown, hts⟩ (metX0_areOthers l dC dI ct A (ex ++ [(qr, .inl (ct 0, 2 * M, .inl (cutF (2 * M) (fun j => f (I + j)) (fun _ => 0))))]) o q ql qs md qe n y (upd g 0 0) a  ex.length qr M (cutF (2 * M) (fun j => f (I + j)) (fun _ => 0)) ap_last (by omega) hn6) (cwV 1 hts (lw_V q689 q691 qs17 q69 q692) rfl rfl rfl (by decide +kernel) ⟨Nat.le_of_ble_eq_true rfl, Nat.le_of_ble_eq_true rfl⟩) (gPV hK hP hD hE _) rfl rfl hl.1 rfl (lv_room (Nat.le_of_ble_eq_true rfl)) dX0_asked_83 ⟨Nat.le_of_ble_eq_true rfl, Nat.le_of_ble_eq_true rfl⟩)).run (fun r hw => ?_)
            have hw : r = (b2i (!(allP n (cutF (2 * M) (fun j => f (I + j)) (fun _ => 0)) (2 * M)))) := hw
            subst hw
            refine bz_eq (tgt := 91) hx hb dX0_asked_86 (by decide) (fun c_6 => ?_) (fun c_6 => ?_)
            · skip
              refine lv_iload hx hb dX0_asked_91 (lv_at hl 8 rfl) ?_
              refine lv_if_ne (tgt := 120) hx hb dX0_asked_93 (by decide) (fun c_7 => ?_) (fun c_7 => ?_)
              · skip
                exact absurd c_7 (by decide)
              · skip
                refine lv_aload_n hx hb dX0_asked_96 rfl (lv_at hl 1 rfl) ?_
                refine lv_aload_n hx hb dX0_asked_97 rfl (lv_at hl 1 rfl) ?_
                refine g_get (v := .ref ql) hx hb hts hown hK hP 2 (by decide) rfl q146 rfl dX0_asked_98 ?_
                refine lv_iload_n hx hb dX0_asked_101 rfl (lv_at hl 2 rfl) ?_
                refine va_csFr (va_runF (As := [.int (nI P)]) (rest := [.ref o]) (jAt hK) ⟨hx, hb, hml, hown, hts⟩ (metJ2_get l dC dI ct (xG ct o q (ql, qs, md, qe, n) y (upd g 0 0) a (ex ++ [(qr, .inl (ct 0, 2 * M, .inl (cutF (2 * M) (fun j => f (I + j)) (fun _ => 0))))])) ql md qe n 14 rfl P 15 10 (y P) (edF y n) (xG_ed (Nat.lt_of_le_of_lt (Nat.zero_le _) hPn)) (Nat.lt_of_lt_of_le hPn (by omega)) (by omega) (if_pos hPn) hPn (by omega)) (va_cwF 1 hts (lw_F q607 q610 q612 q72 q614) rfl rfl rfl (xE_fw_get hE) (by decide +kernel) ⟨Nat.le_of_ble_eq_true rfl, Nat.le_of_ble_eq_true rfl⟩) (jPV (k := 14) (md := md) (qe := qe) (n := n) hK hP rfl _) rfl rfl hl.1 rfl (lv_room (Nat.le_of_ble_eq_true rfl)) dX0_asked_102 ⟨Nat.le_of_ble_eq_true rfl, Nat.le_of_ble_eq_true rfl⟩) (fun r hw => ?_)
                have hw : (y P) = r := Eq.symm hw
                subst hw
                refine c_cast hx hb hts hown hK hP hE hPn q451 dX0_asked_107 ?_
                refine lv_aload hx hb dX0_asked_110 (lv_at hl 0 rfl) ?_
                refine lv_iload hx hb dX0_asked_112 (lv_at hl 7 rfl) ?_
                have hall : allP n (cutF (2 * M) (fun j => f (I + j)) (fun _ => 0)) (2 * M) = true := by simpa using c_6
                have hpr : ∀ t, t < 2 * M → (cutF (2 * M) (fun j => f (I + j)) (fun _ => 0)) t = nI (cix ((cutF (2 * M) (fun j => f (I + j)) (fun _ => 0)) t)) ∧ cix ((cutF (2 * M) (fun j => f (I + j)) (fun _ => 0)) t) < n := fun t ht => inP_e (by omega) (allP_at hall t ht)
                refine va_calli (va_runV (As := [.ref (y P), .ref qr, .int w]) (rest := []) ⟨hx, hb, hml, hown, hts⟩ (metX0_scenesOf l dC dI ct A (ex ++ [(qr, .inl (ct 0, 2 * M, .inl (cutF (2 * M) (fun j => f (I + j)) (fun _ => 0))))]) o q ql qs md qe n y (upd g 0 0) a w P hPn ex.length qr M (cutF (2 * M) (fun j => f (I + j)) (fun _ => 0)) ap_last (by omega) hn6 hpr rn hr8 hrn hrw) (cwV 3 hts (lw_V q818 q820 qs34 q69 q821) rfl rfl rfl (by decide +kernel) ⟨Nat.le_of_ble_eq_true rfl, Nat.le_of_ble_eq_true rfl⟩) (gPV hK hP hD hE _) rfl rfl hl.1 rfl (lv_room (Nat.le_of_ble_eq_true rfl)) dX0_asked_114 ⟨Nat.le_of_ble_eq_true rfl, Nat.le_of_ble_eq_true rfl⟩) hS (fun q _ h => h) (fun q h => h) (fun r u t H1 locs ht hvm hw hB hz1 hk1 hS => ?_)
                obtain ⟨hw, T_8, hw2⟩ := hw
                have hw : r = (if w = 0 then cntB (fun z => (soV (cgo n (upd (a 3) P (nI z)) (a 4) (laX (g 3) (g 4) (a 2) (a 5)) (fun t => cix ((cutF (2 * M) (fun j => f (I + j)) (fun _ => 0)) t)) M) (a 22) (a 23) (a 24) rn)) 64 else leastB (fun z => (soV (cgo n (upd (a 3) P (nI z)) (a 4) (laX (g 3) (g 4) (a 2) (a 5)) (fun t => cix ((cutF (2 * M) (fun j => f (I + j)) (fun _ => 0)) t)) M) (a 22) (a 23) (a 24) rn)) 64) := hw
                subst hw
                subst hw2
                obtain ⟨hP, -, hD⟩ := hB
                rw [ht] at hP
                generalize H1 = H at hP hS ⊢
                have hP : va_P (dC, dI) clA (xG ct o q (ql, qs, md, qe, n) y (upd (upd g 0 0) 18 T_8.2.2) (va_up (va_up (va_up (va_up (va_up a 12 ((T_8.1).1)) 13 ((T_8.1).2.1)) 14 ((T_8.1).2.2.1)) 15 ((T_8.1).2.2.2.1)) 16 ((T_8.1).2.2.2.2)) (ex ++ [(qr, .inl (ct 0, 2 * M, .inl (cutF (2 * M) (fun j => f (I + j)) (fun _ => 0))))])) H := hP
                have hD : va_D A (xG ct o q (ql, qs, md, qe, n) y (upd (upd g 0 0) 18 T_8.2.2) (va_up (va_up (va_up (va_up (va_up a 12 ((T_8.1).1)) 13 ((T_8.1).2.1)) 14 ((T_8.1).2.2.1)) 15 ((T_8.1).2.2.2.1)) 16 ((T_8.1).2.2.2.2)) (ex ++ [(qr, .inl (ct 0, 2 * M, .inl (cutF (2 * M) (fun j => f (I + j)) (fun _ => 0))))])) := hD
                refine lv_goto (tgt := 167) hx hb dX0_asked_117 (by decide) ?_
                rw [xG_app] at hP hD
                have hP := hP.left
                have hD := hD.left
                refine W.widen (k := 8) (n := 3000) (Nat.le_of_ble_eq_true rfl) (Nat.le_of_ble_eq_true rfl) ?_
                exact W.iret (v := (if w = 0 then cntB (fun z => (soV (cgo n (upd (a 3) P (nI z)) (a 4) (laX (g 3) (g 4) (a 2) (a 5)) (fun t => cix ((cutF (2 * M) (fun j => f (I + j)) (fun _ => 0)) t)) M) (a 22) (a 23) (a 24) rn)) 64 else leastB (fun z => (soV (cgo n (upd (a 3) P (nI z)) (a 4) (laX (g 3) (g 4) (a 2) (a 5)) (fun t => cix ((cutF (2 * M) (fun j => f (I + j)) (fun _ => 0)) t)) M) (a 22) (a 23) (a 24) rn)) 64)) hx hb hr (fun t ht hW => ⟨⟨(if w = 0 then cntB (fun z => (soV (cgo n (upd (a 3) P (nI z)) (a 4) (laX (g 3) (g 4) (a 2) (a 5)) (fun t => cix ((cutF (2 * M) (fun j => f (I + j)) (fun _ => 0)) t)) M) (a 22) (a 23) (a 24) rn)) 64 else leastB (fun z => (soV (cgo n (upd (a 3) P (nI z)) (a 4) (laX (g 3) (g 4) (a 2) (a 5)) (fun t => cix ((cutF (2 * M) (fun j => f (I + j)) (fun _ => 0)) t)) M) (a 22) (a 23) (a 24) rn)) 64), ((upd (upd g 0 0) 18 T_8.2.2), (va_up (va_up (va_up (va_up (va_up a 12 ((T_8.1).1)) 13 ((T_8.1).2.1)) 14 ((T_8.1).2.2.1)) 15 ((T_8.1).2.2.2.1)) 16 ((T_8.1).2.2.2.2))), rfl, ⟨rfl, ⟨T_8, rfl⟩⟩, by rw [ht]; exact hP, va_K.moved hW.alike hK, hD⟩, hS.F ht⟩) hS.2.2 dX0_asked_167
            · skip
              exact False.elim (by rw [hall9] at c_6; cases c_6)
          · skip
            exact False.elim (by rw [hw2] at c_5; cases c_5)
    · skip
      exact False.elim (by rw [inK hK4] at c_2; cases c_2)
set_option maxHeartbeats 4000000 in
set_option maxRecDepth 100000 in
theorem metX0_asked_a1 (l : Launch) (dC : Nat → ClassId) (dI : Nat → Nat → Nat) (ct : Nat → ClassId) (A : Nat → Prop) (ex : va_W) (o : Nat) (q : Nat → Nat) (ql qs : Nat) (md : Int32) (qe n : Nat) (y : Nat → Nat) (g : Nat → Int32) (a : Nat → Nat → Int32) (htr : l.stackTraces = false) (P : Nat) (K : Nat) (lx : Nat) (I : Nat) (M : Nat) (w : Int32) (b1 : Int32) (j0 : Nat) (pl : Nat → Nat) (hj0 : ex[j0]? = some (qs, .inl (ct 5, 4, .inr (.inr (.inr (.inr (fun j => some (pl j)))))))) (j2 ad N : Nat) (f : Nat → Int32) (hlx : lx < 3) (hj2 : ex[j2]? = some (ad, .inl (ct (lty lx), N, .inl f))) (hN : N ≤ 60) (K : Nat) (hK4 : K < 4) (j1 : Nat) (hj1 : ex[j1]? = some (pl K, .inr (6, [.ref ad]))) (hM : M ≤ 20) (hn6 : n ≤ 6) (hPn : P < n) (hw2 : lin w.toInt64 0 1 = true) (hIL : I + 2 * M ≤ N) (rn : Nat) (hr8 : rn ≤ 8) (hrn : g 21 = nI rn) (hrw : ∀ k, k < rn → a 22 k = nI (cix (a 22 k)) ∧ cix (a 22 k) < n) (hall9 : allP n (cutF (2 * M) (fun j => f (I + j)) (fun _ => 0)) (2 * M) = true) : Met l yX0_asked (wsW_ yX0_asked cX0_asked 9 (some .int) [((56 : Nat), (90 : Nat), (168 : Nat), (173 : Nat)), ((91 : Nat), (167 : Nat), (168 : Nat), (173 : Nat)), ((56 : Nat), (90 : Nat), (176 : Nat), (179 : Nat)), ((91 : Nat), (167 : Nat), (176 : Nat), (179 : Nat)), ((56 : Nat), (90 : Nat), (184 : Nat), (183 : Nat)), ((91 : Nat), (167 : Nat), (184 : Nat), (183 : Nat))]) ({ frames := 16, cells := 8, slots := 3000, locals := 12000 }) (sPre dC dI ct A ex o q (ql, qs, md, qe, n) y g a [.ref o, .int (nI P), .int (nI K), .int (nI lx), .int (nI I), .int (nI M), .int w, .int 1]) (va_Qi (fun (r : Int32) (u : (Nat → Int32) × (Nat → Nat → Int32)) => r = (mset (fun z => (soV (cgo n (a 3) (a 4) (laX (nI P) (nI z) (a 2) (a 5)) (fun t => cix ((cutF (2 * M) (fun j => f (I + j)) (fun _ => 0)) t)) M) (a 22) (a 23) (a 24) rn)) 3) ∧ ∃ (T : LnS (Nat → Int32) × Int32 × Int32), u = ((upd (upd (upd (upd g 0 0) 3 (-9)) 4 3) 18 T.2.2), (va_up (va_up (va_up (va_up (va_up a 12 ((T.1).1)) 13 ((T.1).2.1)) 14 ((T.1).2.2.1)) 15 ((T.1).2.2.2.1)) 16 ((T.1).2.2.2.2)))) (fun u t => gB dC dI ct A ex o q (ql, qs, md, qe, n) y u t) A) 8 3000 A := by
  refine cx_MetW (cc := cX0_asked) (maxL := 9) (ret := (some .int)) (hh := [((56 : Nat), (90 : Nat), (168 : Nat), (173 : Nat)), ((91 : Nat), (167 : Nat), (168 : Nat), (173 : Nat)), ((56 : Nat), (90 : Nat), (176 : Nat), (179 : Nat)), ((91 : Nat), (167 : Nat), (176 : Nat), (179 : Nat)), ((56 : Nat), (90 : Nat), (184 : Nat), (183 : Nat)), ((91 : Nat), (167 : Nat), (184 : Nat), (183 : Nat))]) (by decide) rfl ?_
  intro p e s m args below meth c s₁ B hml het hv
  obtain ⟨rfl, hP, hK, hD, hE, hE9, hA, hst, hI9⟩ := hv
  have hN9 := hE9.now
  have hx := B.exec
  have hb := B.bytes
  have hr := B.returns
  have hts := atoms_spec (ws := wsW_ yX0_asked cX0_asked 9 (some .int) [((56 : Nat), (90 : Nat), (168 : Nat), (173 : Nat)), ((91 : Nat), (167 : Nat), (168 : Nat), (173 : Nat)), ((56 : Nat), (90 : Nat), (176 : Nat), (179 : Nat)), ((91 : Nat), (167 : Nat), (176 : Nat), (179 : Nat)), ((56 : Nat), (90 : Nat), (184 : Nat), (183 : Nat)), ((91 : Nat), (167 : Nat), (184 : Nat), (183 : Nat))]) B.pre
  have hts : ∀ w ∈ lw_all, w.before _ s = true := fun w h => hts w (List.mem_cons_of_mem _ h)
  have hown : s.vm.findClass RX0 = some m.cls := findClass_of_methodNamed B.named
  have hlocks := B.notSynchronized
  have hS : va_S A s.heap s.heap [] := va_S.rf
  have hl := lv_entry ([.ref o, .int (nI P), .int (nI K), .int (nI lx), .int (nI I), .int (nI M), .int w, .int 1]) (n := 9) (Nat.le_of_ble_eq_true rfl)
  rw [lg_entry_eq]
  generalize (lg_sl ([.ref o, .int (nI P), .int (nI K), .int (nI lx), .int (nI I), .int (nI M), .int w, .int 1]) ++ List.replicate (9 - (lg_sl ([.ref o, .int (nI P), .int (nI K), .int (nI lx), .int (nI I), .int (nI M), .int w, .int 1])).length) Slot.unset).toArray = ls at hl ⊢
  have hl : lv_has ls 9 [(0, .ref o), (1, .int (nI P)), (2, .int (nI K)), (3, .int (nI lx)), (4, .int (nI I)), (5, .int (nI M)), (6, .int w), (7, .int 1)] := hl
  refine lv_aload_n hx hb dX0_asked_0 rfl (lv_at hl 0 rfl) ?_
  refine lv_iconst (v := 0) hx hb dX0_asked_1 (by decide) ?_
  refine g_put (v := 0) hx hb hts hown hK hP hD hS 0 0 (by decide) rfl q144 rfl rfl (by decide +kernel) dX0_asked_2 (fun H locs hP hD hS => ?_)
  refine lv_aload_n hx hb dX0_asked_5 rfl (lv_at hl 0 rfl) ?_
  refine lv_iload_n hx hb dX0_asked_6 rfl (lv_at hl 1 rfl) ?_
  refine vp_callSi ((va_runV (As := [.int (nI P)]) (rest := []) ⟨hx, hb, hml, hown, hts⟩ (metX0_isPerson l dC dI ct A (peW ct o qe n y a ++ ex) o q ql qs md qe n (upd g 0 0) a (nI P) hn6) (cwV 1 hts (lw_V q589 q591 qs13 q69 q592) rfl rfl rfl (by decide +kernel) ⟨Nat.le_of_ble_eq_true rfl, Nat.le_of_ble_eq_true rfl⟩) (xPV hK hP hD hE _) rfl rfl hl.1 rfl (lv_room (Nat.le_of_ble_eq_true rfl)) dX0_asked_7 ⟨Nat.le_of_ble_eq_true rfl, Nat.le_of_ble_eq_true rfl⟩)).run (fun r hw => ?_)
  have hw : r = (b2i (inP (nI P) n)) := hw
  subst hw
  refine bz_eq (tgt := 20) hx hb dX0_asked_10 (by decide) (fun c_1 => ?_) (fun c_1 => ?_)
  · skip
    exact False.elim (by rw [inPn hn6 hPn] at c_1; cases c_1)
  · skip
    refine lv_iload_n hx hb dX0_asked_13 rfl (lv_at hl 2 rfl) ?_
    refine vp_callSi ((va_runS (As := [.int (nI K)]) (rest := []) ⟨hx, hb, hml, hown, hts⟩ (metX0_isSheet l (nI K) ) (va_cwS 1 hts (lw_S q376 q377 q69 q378) rfl rfl rfl (by decide +kernel) ⟨Nat.le_of_ble_eq_true rfl, Nat.le_of_ble_eq_true rfl⟩) (pcS _) rfl rfl hl.1 rfl (lv_room (Nat.le_of_ble_eq_true rfl)) dX0_asked_14 ⟨Nat.le_of_ble_eq_true rfl, Nat.le_of_ble_eq_true rfl⟩)).run (fun r hw => ?_)
    have hw : r = (b2i (inP (nI K) 4)) := hw
    subst hw
    refine bz_ne (tgt := 22) hx hb dX0_asked_17 (by decide) (fun c_2 => ?_) (fun c_2 => ?_)
    · skip
      refine lv_iload_n hx hb dX0_asked_22 rfl (lv_at hl 3 rfl) ?_
      refine vp_callSi ((va_runS (As := [.int (nI lx)]) (rest := []) ⟨hx, hb, hml, hown, hts⟩ (metX0_isLane l (nI lx) ) (va_cwS 1 hts (lw_S q383 q384 q69 q385) rfl rfl rfl (by decide +kernel) ⟨Nat.le_of_ble_eq_true rfl, Nat.le_of_ble_eq_true rfl⟩) (pcS _) rfl rfl hl.1 rfl (lv_room (Nat.le_of_ble_eq_true rfl)) dX0_asked_23 ⟨Nat.le_of_ble_eq_true rfl, Nat.le_of_ble_eq_true rfl⟩)).run (fun r hw => ?_)
      have hw : r = (b2i (inP (nI lx) 3)) := hw
      subst hw
      refine bz_eq (tgt := 53) hx hb dX0_asked_26 (by decide) (fun c_3 => ?_) (fun c_3 => ?_)
      · skip
        exact False.elim (by rw [inL hlx] at c_3; cases c_3)
      · skip
        refine lv_iload hx hb dX0_asked_29 (lv_at hl 5 rfl) ?_
        refine lv_i2l (v := (Int32.toInt64 (nI M))) hx hb dX0_asked_31 rfl ?_
        refine lv_lconst (v := 0) hx hb dX0_asked_32 (by decide) ?_
        refine lv_ldc2 (v := 20) hx hb hown (hts _ q663) dX0_asked_33 ?_
        refine vp_callSi ((va_runS (As := [.long (Int32.toInt64 (nI M)), .long 0, .long 20]) (rest := []) ⟨hx, hb, hml, hown, hts⟩ (metX0_isIn l (Int32.toInt64 (nI M)) 0 20 ) (va_cwS 3 hts (lw_S q380 q381 q69 q382) rfl rfl rfl (by decide +kernel) ⟨Nat.le_of_ble_eq_true rfl, Nat.le_of_ble_eq_true rfl⟩) (pcS _) rfl rfl hl.1 rfl (lv_room (Nat.le_of_ble_eq_true rfl)) dX0_asked_36 ⟨Nat.le_of_ble_eq_true rfl, Nat.le_of_ble_eq_true rfl⟩)).run (fun r hw => ?_)
        have hw : r = (b2i (lin (Int32.toInt64 (nI M)) 0 20)) := hw
        subst hw
        refine bz_eq (tgt := 53) hx hb dX0_asked_39 (by decide) (fun c_4 => ?_) (fun c_4 => ?_)
        · skip
          exact False.elim (by rw [lin20 hM] at c_4; cases c_4)
        · skip
          refine lv_iload hx hb dX0_asked_42 (lv_at hl 6 rfl) ?_
          refine lv_i2l (v := (Int32.toInt64 w)) hx hb dX0_asked_44 rfl ?_
          refine lv_lconst (v := 0) hx hb dX0_asked_45 (by decide) ?_
          refine lv_lconst (v := 1) hx hb dX0_asked_46 (by decide) ?_
          refine vp_callSi ((va_runS (As := [.long (Int32.toInt64 w), .long 0, .long 1]) (rest := []) ⟨hx, hb, hml, hown, hts⟩ (metX0_isIn l (Int32.toInt64 w) 0 1 ) (va_cwS 3 hts (lw_S q380 q381 q69 q382) rfl rfl rfl (by decide +kernel) ⟨Nat.le_of_ble_eq_true rfl, Nat.le_of_ble_eq_true rfl⟩) (pcS _) rfl rfl hl.1 rfl (lv_room (Nat.le_of_ble_eq_true rfl)) dX0_asked_47 ⟨Nat.le_of_ble_eq_true rfl, Nat.le_of_ble_eq_true rfl⟩)).run (fun r hw => ?_)
          have hw : r = (b2i (lin (Int32.toInt64 w) 0 1)) := hw
          subst hw
          refine bz_ne (tgt := 56) hx hb dX0_asked_50 (by decide) (fun c_5 => ?_) (fun c_5 => ?_)
          · skip
            refine lv_aload_n hx hb dX0_asked_56 rfl (lv_at hl 0 rfl) ?_
            refine g_get (v := .ref qs) hx hb hts hown hK hP 25 (by decide) rfl q174 rfl dX0_asked_57 ?_
            refine lv_iload_n hx hb dX0_asked_60 rfl (lv_at hl 2 rfl) ?_
            refine s_pla hx hb hK hP (xps n + j0) ((xG_ex j0).trans hj0) K hK4 dX0_asked_61 ?_
            refine s_has hx hb hts hown hK hP hE (xps n + j1) ((xG_ex j1).trans hj1) dX0_asked_62 ?_
            refine lv_iload_n hx hb dX0_asked_65 rfl (lv_at hl 3 rfl) ?_
            refine va_csr ((va_runS (As := [.ref ad, .int (nI lx)]) (rest := []) ⟨hx, hb, hml, hown, hts⟩ (metX0_asLane l dC dI ct A (xG ct o q (ql, qs, md, qe, n) y (upd g 0 0) a ex) (xps n + j2) ad N f lx hlx ((xG_ex j2).trans hj2) (by omega)) (va_cwS 2 hts (lw_S q387 q388 q69 q389) rfl rfl rfl (by decide +kernel) ⟨Nat.le_of_ble_eq_true rfl, Nat.le_of_ble_eq_true rfl⟩) (aPS hK hP hE9 hS _) rfl rfl hl.1 rfl (lv_room (Nat.le_of_ble_eq_true rfl)) dX0_asked_66 ⟨Nat.le_of_ble_eq_true rfl, Nat.le_of_ble_eq_true rfl⟩)).run (fun _ _ => ?_)
            refine lv_iload hx hb dX0_asked_69 (lv_at hl 4 rfl) ?_
            refine lv_iconst (v := 2) hx hb dX0_asked_71 (by decide) ?_
            refine lv_iload hx hb dX0_asked_72 (lv_at hl 5 rfl) ?_
            refine lv_imul hx hb dX0_asked_74 ?_
            refine va_callr (va_runS (As := [.ref ad, .int (nI I), .int (2 * (nI M))]) (rest := []) ⟨hx, hb, hml, hown, hts⟩ (metX0_rowW l dC dI ct A (xG ct o q (ql, qs, md, qe, n) y (upd g 0 0) a ex) (xps n + j2) ad N f lx hlx ((xG_ex j2).trans hj2) hN (nI I) (2 * (nI M)) I (2 * M) rfl (nI_mul2 M) hIL) (va_cwS 3 hts (lw_S q393 q394 q69 q395) rfl rfl rfl (by decide +kernel) ⟨Nat.le_of_ble_eq_true rfl, Nat.le_of_ble_eq_true rfl⟩) (rPS hK hP hD hE9 hS hA _) rfl rfl hl.1 rfl (lv_room (Nat.le_of_ble_eq_true rfl)) dX0_asked_75 ⟨Nat.le_of_ble_eq_true rfl, Nat.le_of_ble_eq_true rfl⟩) hS (fun q _ h => h) (fun q h => h) (fun _ qr t H1 locs ht hvm hw hB hz1 hk1 hS => ?_)
            clear hw
            obtain ⟨hP, -, hD⟩ := hB
            rw [ht, ← xG_app] at hP
            rw [← xG_app] at hD
            generalize H1 = H at hP hS ⊢
            refine lv_astore (lv' := [(8, .ref qr), (0, .ref o), (1, .int (nI P)), (2, .int (nI K)), (3, .int (nI lx)), (4, .int (nI I)), (5, .int (nI M)), (6, .int w), (7, .int 1)]) hx hb dX0_asked_78 hl (by decide) rfl (fun ls hl => ?_)
            refine lv_aload_n hx hb dX0_asked_80 rfl (lv_at hl 1 rfl) ?_
            refine lv_aload hx hb dX0_asked_81 (lv_at hl 0 rfl) ?_
            refine vp_callSi ((va_runV (As := [.ref qr]) (rest := []) ⟨hx, hb, hml, hown, hts⟩ (metX0_areOthers l dC dI ct A (ex ++ [(qr, .inl (ct 0, 2 * M, .inl (cutF (2 * M) (fun j => f (I + j)) (fun _ => 0))))]) o q ql qs md qe n y (upd g 0 0) a  ex.length qr M (cutF (2 * M) (fun j => f (I + j)) (fun _ => 0)) ap_last (by omega) hn6) (cwV 1 hts (lw_V q689 q691 qs17 q69 q692) rfl rfl rfl (by decide +kernel) ⟨Nat.le_of_ble_eq_true rfl, Nat.le_of_ble_eq_true rfl⟩) (gPV hK hP hD hE _) rfl rfl hl.1 rfl (lv_room (Nat.le_of_ble_eq_true rfl)) dX0_asked_83 ⟨Nat.le_of_ble_eq_true rfl, Nat.le_of_ble_eq_true rfl⟩)).run (fun r hw => ?_)
            have hw : r = (b2i (!(allP n (cutF (2 * M) (fun j => f (I + j)) (fun _ => 0)) (2 * M)))) := hw
            subst hw
            refine bz_eq (tgt := 91) hx hb dX0_asked_86 (by decide) (fun c_6 => ?_) (fun c_6 => ?_)
            · skip
              refine lv_iload hx hb dX0_asked_91 (lv_at hl 8 rfl) ?_
              refine lv_if_ne (tgt := 120) hx hb dX0_asked_93 (by decide) (fun c_7 => ?_) (fun c_7 => ?_)
              · skip
                refine lv_iload hx hb dX0_asked_120 (lv_at hl 8 rfl) ?_
                refine lv_iconst (v := 1) hx hb dX0_asked_122 (by decide) ?_
                refine lv_icmp_ne (tgt := 148) hx hb dX0_asked_123 (by decide) (fun c_8 => ?_) (fun c_8 => ?_)
                · skip
                  exact absurd c_8 (by decide)
                · skip
                  refine lv_aload_n hx hb dX0_asked_126 rfl (lv_at hl 1 rfl) ?_
                  refine lv_aload_n hx hb dX0_asked_127 rfl (lv_at hl 1 rfl) ?_
                  refine g_get (v := .ref ql) hx hb hts hown hK hP 2 (by decide) rfl q146 rfl dX0_asked_128 ?_
                  refine lv_iload_n hx hb dX0_asked_131 rfl (lv_at hl 2 rfl) ?_
                  refine va_csFr (va_runF (As := [.int (nI P)]) (rest := [.ref o]) (jAt hK) ⟨hx, hb, hml, hown, hts⟩ (metJ2_get l dC dI ct (xG ct o q (ql, qs, md, qe, n) y (upd g 0 0) a (ex ++ [(qr, .inl (ct 0, 2 * M, .inl (cutF (2 * M) (fun j => f (I + j)) (fun _ => 0))))])) ql md qe n 14 rfl P 15 10 (y P) (edF y n) (xG_ed (Nat.lt_of_le_of_lt (Nat.zero_le _) hPn)) (Nat.lt_of_lt_of_le hPn (by omega)) (by omega) (if_pos hPn) hPn (by omega)) (va_cwF 1 hts (lw_F q607 q610 q612 q72 q614) rfl rfl rfl (xE_fw_get hE) (by decide +kernel) ⟨Nat.le_of_ble_eq_true rfl, Nat.le_of_ble_eq_true rfl⟩) (jPV (k := 14) (md := md) (qe := qe) (n := n) hK hP rfl _) rfl rfl hl.1 rfl (lv_room (Nat.le_of_ble_eq_true rfl)) dX0_asked_132 ⟨Nat.le_of_ble_eq_true rfl, Nat.le_of_ble_eq_true rfl⟩) (fun r hw => ?_)
                  have hw : (y P) = r := Eq.symm hw
                  subst hw
                  refine c_cast hx hb hts hown hK hP hE hPn q451 dX0_asked_137 ?_
                  refine lv_aload hx hb dX0_asked_140 (lv_at hl 0 rfl) ?_
                  have hall : allP n (cutF (2 * M) (fun j => f (I + j)) (fun _ => 0)) (2 * M) = true := by simpa using c_6
                  have hpr : ∀ t, t < 2 * M → (cutF (2 * M) (fun j => f (I + j)) (fun _ => 0)) t = nI (cix ((cutF (2 * M) (fun j => f (I + j)) (fun _ => 0)) t)) ∧ cix ((cutF (2 * M) (fun j => f (I + j)) (fun _ => 0)) t) < n := fun t ht => inP_e (by omega) (allP_at hall t ht)
                  refine va_calli (va_runV (As := [.ref (y P), .ref qr]) (rest := []) ⟨hx, hb, hml, hown, hts⟩ (metX0_kindsOf l dC dI ct A (ex ++ [(qr, .inl (ct 0, 2 * M, .inl (cutF (2 * M) (fun j => f (I + j)) (fun _ => 0))))]) o q ql qs md qe n y (upd g 0 0) a  P hPn ex.length qr M (cutF (2 * M) (fun j => f (I + j)) (fun _ => 0)) ap_last (by omega) hn6 hpr rn hr8 hrn hrw) (cwV 2 hts (lw_V q826 q828 qs36 q69 q829) rfl rfl rfl (by decide +kernel) ⟨Nat.le_of_ble_eq_true rfl, Nat.le_of_ble_eq_true rfl⟩) (gPV hK hP hD hE _) rfl rfl hl.1 rfl (lv_room (Nat.le_of_ble_eq_true rfl)) dX0_asked_142 ⟨Nat.le_of_ble_eq_true rfl, Nat.le_of_ble_eq_true rfl⟩) hS (fun q _ h => h) (fun q h => h) (fun r u t H1 locs ht hvm hw hB hz1 hk1 hS => ?_)
                  obtain ⟨hw, T_9, hw2⟩ := hw
                  have hw : r = (mset (fun z => (soV (cgo n (a 3) (a 4) (laX (nI P) (nI z) (a 2) (a 5)) (fun t => cix ((cutF (2 * M) (fun j => f (I + j)) (fun _ => 0)) t)) M) (a 22) (a 23) (a 24) rn)) 3) := hw
                  subst hw
                  subst hw2
                  obtain ⟨hP, -, hD⟩ := hB
                  rw [ht] at hP
                  generalize H1 = H at hP hS ⊢
                  have hP : va_P (dC, dI) clA (xG ct o q (ql, qs, md, qe, n) y (upd (upd (upd (upd g 0 0) 3 (-9)) 4 3) 18 T_9.2.2) (va_up (va_up (va_up (va_up (va_up a 12 ((T_9.1).1)) 13 ((T_9.1).2.1)) 14 ((T_9.1).2.2.1)) 15 ((T_9.1).2.2.2.1)) 16 ((T_9.1).2.2.2.2)) (ex ++ [(qr, .inl (ct 0, 2 * M, .inl (cutF (2 * M) (fun j => f (I + j)) (fun _ => 0))))])) H := hP
                  have hD : va_D A (xG ct o q (ql, qs, md, qe, n) y (upd (upd (upd (upd g 0 0) 3 (-9)) 4 3) 18 T_9.2.2) (va_up (va_up (va_up (va_up (va_up a 12 ((T_9.1).1)) 13 ((T_9.1).2.1)) 14 ((T_9.1).2.2.1)) 15 ((T_9.1).2.2.2.1)) 16 ((T_9.1).2.2.2.2)) (ex ++ [(qr, .inl (ct 0, 2 * M, .inl (cutF (2 * M) (fun j => f (I + j)) (fun _ => 0))))])) := hD
                  refine lv_goto (tgt := 167) hx hb dX0_asked_145 (by decide) ?_
                  rw [xG_app] at hP hD
                  have hP := hP.left
                  have hD := hD.left
                  refine W.widen (k := 8) (n := 3000) (Nat.le_of_ble_eq_true rfl) (Nat.le_of_ble_eq_true rfl) ?_
                  exact W.iret (v := (mset (fun z => (soV (cgo n (a 3) (a 4) (laX (nI P) (nI z) (a 2) (a 5)) (fun t => cix ((cutF (2 * M) (fun j => f (I + j)) (fun _ => 0)) t)) M) (a 22) (a 23) (a 24) rn)) 3)) hx hb hr (fun t ht hW => ⟨⟨(mset (fun z => (soV (cgo n (a 3) (a 4) (laX (nI P) (nI z) (a 2) (a 5)) (fun t => cix ((cutF (2 * M) (fun j => f (I + j)) (fun _ => 0)) t)) M) (a 22) (a 23) (a 24) rn)) 3), ((upd (upd (upd (upd g 0 0) 3 (-9)) 4 3) 18 T_9.2.2), (va_up (va_up (va_up (va_up (va_up a 12 ((T_9.1).1)) 13 ((T_9.1).2.1)) 14 ((T_9.1).2.2.1)) 15 ((T_9.1).2.2.2.1)) 16 ((T_9.1).2.2.2.2))), rfl, ⟨rfl, ⟨T_9, rfl⟩⟩, by rw [ht]; exact hP, va_K.moved hW.alike hK, hD⟩, hS.F ht⟩) hS.2.2 dX0_asked_167
              · skip
                exact absurd c_7 (by decide)
            · skip
              exact False.elim (by rw [hall9] at c_6; cases c_6)
          · skip
            exact False.elim (by rw [hw2] at c_5; cases c_5)
    · skip
      exact False.elim (by rw [inK hK4] at c_2; cases c_2)
set_option maxHeartbeats 4000000 in
set_option maxRecDepth 100000 in
theorem metX0_asked_a2 (l : Launch) (dC : Nat → ClassId) (dI : Nat → Nat → Nat) (ct : Nat → ClassId) (A : Nat → Prop) (ex : va_W) (o : Nat) (q : Nat → Nat) (ql qs : Nat) (md : Int32) (qe n : Nat) (y : Nat → Nat) (g : Nat → Int32) (a : Nat → Nat → Int32) (htr : l.stackTraces = false) (P : Nat) (K : Nat) (lx : Nat) (I : Nat) (M : Nat) (w : Int32) (b2 : Int32) (j0 : Nat) (pl : Nat → Nat) (hj0 : ex[j0]? = some (qs, .inl (ct 5, 4, .inr (.inr (.inr (.inr (fun j => some (pl j)))))))) (j2 ad N : Nat) (f : Nat → Int32) (hlx : lx < 3) (hj2 : ex[j2]? = some (ad, .inl (ct (lty lx), N, .inl f))) (hN : N ≤ 60) (K : Nat) (hK4 : K < 4) (j1 : Nat) (hj1 : ex[j1]? = some (pl K, .inr (6, [.ref ad]))) (hM : M ≤ 20) (hn6 : n ≤ 6) (hPn : P < n) (hw2 : lin w.toInt64 0 1 = true) (hIL : I + 2 * M ≤ N) (rn : Nat) (hr8 : rn ≤ 8) (hrn : g 21 = nI rn) (hrw : ∀ k, k < rn → a 22 k = nI (cix (a 22 k)) ∧ cix (a 22 k) < n) (hall9 : allP n (cutF (2 * M) (fun j => f (I + j)) (fun _ => 0)) (2 * M) = true) : Met l yX0_asked (wsW_ yX0_asked cX0_asked 9 (some .int) [((56 : Nat), (90 : Nat), (168 : Nat), (173 : Nat)), ((91 : Nat), (167 : Nat), (168 : Nat), (173 : Nat)), ((56 : Nat), (90 : Nat), (176 : Nat), (179 : Nat)), ((91 : Nat), (167 : Nat), (176 : Nat), (179 : Nat)), ((56 : Nat), (90 : Nat), (184 : Nat), (183 : Nat)), ((91 : Nat), (167 : Nat), (184 : Nat), (183 : Nat))]) ({ frames := 16, cells := 8, slots := 3000, locals := 12000 }) (sPre dC dI ct A ex o q (ql, qs, md, qe, n) y g a [.ref o, .int (nI P), .int (nI K), .int (nI lx), .int (nI I), .int (nI M), .int w, .int 2]) (va_Qi (fun (r : Int32) (u : (Nat → Int32) × (Nat → Nat → Int32)) => r = (mset (fun z => decide (1 ≤ z) && (soV (cgo n (a 3) (a 4) (laX (g 3) (g 4) (a 2) (upd (a 5) P (nI z))) (fun t => cix ((cutF (2 * M) (fun j => f (I + j)) (fun _ => 0)) t)) M) (a 22) (a 23) (a 24) rn)) 10) ∧ ∃ (T : LnS (Nat → Int32) × Int32 × Int32), u = ((upd (upd g 0 0) 18 T.2.2), (va_up (va_up (va_up (va_up (va_up a 12 ((T.1).1)) 13 ((T.1).2.1)) 14 ((T.1).2.2.1)) 15 ((T.1).2.2.2.1)) 16 ((T.1).2.2.2.2)))) (fun u t => gB dC dI ct A ex o q (ql, qs, md, qe, n) y u t) A) 8 3000 A := by
  refine cx_MetW (cc := cX0_asked) (maxL := 9) (ret := (some .int)) (hh := [((56 : Nat), (90 : Nat), (168 : Nat), (173 : Nat)), ((91 : Nat), (167 : Nat), (168 : Nat), (173 : Nat)), ((56 : Nat), (90 : Nat), (176 : Nat), (179 : Nat)), ((91 : Nat), (167 : Nat), (176 : Nat), (179 : Nat)), ((56 : Nat), (90 : Nat), (184 : Nat), (183 : Nat)), ((91 : Nat), (167 : Nat), (184 : Nat), (183 : Nat))]) (by decide) rfl ?_
  intro p e s m args below meth c s₁ B hml het hv
  obtain ⟨rfl, hP, hK, hD, hE, hE9, hA, hst, hI9⟩ := hv
  have hN9 := hE9.now
  have hx := B.exec
  have hb := B.bytes
  have hr := B.returns
  have hts := atoms_spec (ws := wsW_ yX0_asked cX0_asked 9 (some .int) [((56 : Nat), (90 : Nat), (168 : Nat), (173 : Nat)), ((91 : Nat), (167 : Nat), (168 : Nat), (173 : Nat)), ((56 : Nat), (90 : Nat), (176 : Nat), (179 : Nat)), ((91 : Nat), (167 : Nat), (176 : Nat), (179 : Nat)), ((56 : Nat), (90 : Nat), (184 : Nat), (183 : Nat)), ((91 : Nat), (167 : Nat), (184 : Nat), (183 : Nat))]) B.pre
  have hts : ∀ w ∈ lw_all, w.before _ s = true := fun w h => hts w (List.mem_cons_of_mem _ h)
  have hown : s.vm.findClass RX0 = some m.cls := findClass_of_methodNamed B.named
  have hlocks := B.notSynchronized
  have hS : va_S A s.heap s.heap [] := va_S.rf
  have hl := lv_entry ([.ref o, .int (nI P), .int (nI K), .int (nI lx), .int (nI I), .int (nI M), .int w, .int 2]) (n := 9) (Nat.le_of_ble_eq_true rfl)
  rw [lg_entry_eq]
  generalize (lg_sl ([.ref o, .int (nI P), .int (nI K), .int (nI lx), .int (nI I), .int (nI M), .int w, .int 2]) ++ List.replicate (9 - (lg_sl ([.ref o, .int (nI P), .int (nI K), .int (nI lx), .int (nI I), .int (nI M), .int w, .int 2])).length) Slot.unset).toArray = ls at hl ⊢
  have hl : lv_has ls 9 [(0, .ref o), (1, .int (nI P)), (2, .int (nI K)), (3, .int (nI lx)), (4, .int (nI I)), (5, .int (nI M)), (6, .int w), (7, .int 2)] := hl
  refine lv_aload_n hx hb dX0_asked_0 rfl (lv_at hl 0 rfl) ?_
  refine lv_iconst (v := 0) hx hb dX0_asked_1 (by decide) ?_
  refine g_put (v := 0) hx hb hts hown hK hP hD hS 0 0 (by decide) rfl q144 rfl rfl (by decide +kernel) dX0_asked_2 (fun H locs hP hD hS => ?_)
  refine lv_aload_n hx hb dX0_asked_5 rfl (lv_at hl 0 rfl) ?_
  refine lv_iload_n hx hb dX0_asked_6 rfl (lv_at hl 1 rfl) ?_
  refine vp_callSi ((va_runV (As := [.int (nI P)]) (rest := []) ⟨hx, hb, hml, hown, hts⟩ (metX0_isPerson l dC dI ct A (peW ct o qe n y a ++ ex) o q ql qs md qe n (upd g 0 0) a (nI P) hn6) (cwV 1 hts (lw_V q589 q591 qs13 q69 q592) rfl rfl rfl (by decide +kernel) ⟨Nat.le_of_ble_eq_true rfl, Nat.le_of_ble_eq_true rfl⟩) (xPV hK hP hD hE _) rfl rfl hl.1 rfl (lv_room (Nat.le_of_ble_eq_true rfl)) dX0_asked_7 ⟨Nat.le_of_ble_eq_true rfl, Nat.le_of_ble_eq_true rfl⟩)).run (fun r hw => ?_)
  have hw : r = (b2i (inP (nI P) n)) := hw
  subst hw
  refine bz_eq (tgt := 20) hx hb dX0_asked_10 (by decide) (fun c_1 => ?_) (fun c_1 => ?_)
  · skip
    exact False.elim (by rw [inPn hn6 hPn] at c_1; cases c_1)
  · skip
    refine lv_iload_n hx hb dX0_asked_13 rfl (lv_at hl 2 rfl) ?_
    refine vp_callSi ((va_runS (As := [.int (nI K)]) (rest := []) ⟨hx, hb, hml, hown, hts⟩ (metX0_isSheet l (nI K) ) (va_cwS 1 hts (lw_S q376 q377 q69 q378) rfl rfl rfl (by decide +kernel) ⟨Nat.le_of_ble_eq_true rfl, Nat.le_of_ble_eq_true rfl⟩) (pcS _) rfl rfl hl.1 rfl (lv_room (Nat.le_of_ble_eq_true rfl)) dX0_asked_14 ⟨Nat.le_of_ble_eq_true rfl, Nat.le_of_ble_eq_true rfl⟩)).run (fun r hw => ?_)
    have hw : r = (b2i (inP (nI K) 4)) := hw
    subst hw
    refine bz_ne (tgt := 22) hx hb dX0_asked_17 (by decide) (fun c_2 => ?_) (fun c_2 => ?_)
    · skip
      refine lv_iload_n hx hb dX0_asked_22 rfl (lv_at hl 3 rfl) ?_
      refine vp_callSi ((va_runS (As := [.int (nI lx)]) (rest := []) ⟨hx, hb, hml, hown, hts⟩ (metX0_isLane l (nI lx) ) (va_cwS 1 hts (lw_S q383 q384 q69 q385) rfl rfl rfl (by decide +kernel) ⟨Nat.le_of_ble_eq_true rfl, Nat.le_of_ble_eq_true rfl⟩) (pcS _) rfl rfl hl.1 rfl (lv_room (Nat.le_of_ble_eq_true rfl)) dX0_asked_23 ⟨Nat.le_of_ble_eq_true rfl, Nat.le_of_ble_eq_true rfl⟩)).run (fun r hw => ?_)
      have hw : r = (b2i (inP (nI lx) 3)) := hw
      subst hw
      refine bz_eq (tgt := 53) hx hb dX0_asked_26 (by decide) (fun c_3 => ?_) (fun c_3 => ?_)
      · skip
        exact False.elim (by rw [inL hlx] at c_3; cases c_3)
      · skip
        refine lv_iload hx hb dX0_asked_29 (lv_at hl 5 rfl) ?_
        refine lv_i2l (v := (Int32.toInt64 (nI M))) hx hb dX0_asked_31 rfl ?_
        refine lv_lconst (v := 0) hx hb dX0_asked_32 (by decide) ?_
        refine lv_ldc2 (v := 20) hx hb hown (hts _ q663) dX0_asked_33 ?_
        refine vp_callSi ((va_runS (As := [.long (Int32.toInt64 (nI M)), .long 0, .long 20]) (rest := []) ⟨hx, hb, hml, hown, hts⟩ (metX0_isIn l (Int32.toInt64 (nI M)) 0 20 ) (va_cwS 3 hts (lw_S q380 q381 q69 q382) rfl rfl rfl (by decide +kernel) ⟨Nat.le_of_ble_eq_true rfl, Nat.le_of_ble_eq_true rfl⟩) (pcS _) rfl rfl hl.1 rfl (lv_room (Nat.le_of_ble_eq_true rfl)) dX0_asked_36 ⟨Nat.le_of_ble_eq_true rfl, Nat.le_of_ble_eq_true rfl⟩)).run (fun r hw => ?_)
        have hw : r = (b2i (lin (Int32.toInt64 (nI M)) 0 20)) := hw
        subst hw
        refine bz_eq (tgt := 53) hx hb dX0_asked_39 (by decide) (fun c_4 => ?_) (fun c_4 => ?_)
        · skip
          exact False.elim (by rw [lin20 hM] at c_4; cases c_4)
        · skip
          refine lv_iload hx hb dX0_asked_42 (lv_at hl 6 rfl) ?_
          refine lv_i2l (v := (Int32.toInt64 w)) hx hb dX0_asked_44 rfl ?_
          refine lv_lconst (v := 0) hx hb dX0_asked_45 (by decide) ?_
          refine lv_lconst (v := 1) hx hb dX0_asked_46 (by decide) ?_
          refine vp_callSi ((va_runS (As := [.long (Int32.toInt64 w), .long 0, .long 1]) (rest := []) ⟨hx, hb, hml, hown, hts⟩ (metX0_isIn l (Int32.toInt64 w) 0 1 ) (va_cwS 3 hts (lw_S q380 q381 q69 q382) rfl rfl rfl (by decide +kernel) ⟨Nat.le_of_ble_eq_true rfl, Nat.le_of_ble_eq_true rfl⟩) (pcS _) rfl rfl hl.1 rfl (lv_room (Nat.le_of_ble_eq_true rfl)) dX0_asked_47 ⟨Nat.le_of_ble_eq_true rfl, Nat.le_of_ble_eq_true rfl⟩)).run (fun r hw => ?_)
          have hw : r = (b2i (lin (Int32.toInt64 w) 0 1)) := hw
          subst hw
          refine bz_ne (tgt := 56) hx hb dX0_asked_50 (by decide) (fun c_5 => ?_) (fun c_5 => ?_)
          · skip
            refine lv_aload_n hx hb dX0_asked_56 rfl (lv_at hl 0 rfl) ?_
            refine g_get (v := .ref qs) hx hb hts hown hK hP 25 (by decide) rfl q174 rfl dX0_asked_57 ?_
            refine lv_iload_n hx hb dX0_asked_60 rfl (lv_at hl 2 rfl) ?_
            refine s_pla hx hb hK hP (xps n + j0) ((xG_ex j0).trans hj0) K hK4 dX0_asked_61 ?_
            refine s_has hx hb hts hown hK hP hE (xps n + j1) ((xG_ex j1).trans hj1) dX0_asked_62 ?_
            refine lv_iload_n hx hb dX0_asked_65 rfl (lv_at hl 3 rfl) ?_
            refine va_csr ((va_runS (As := [.ref ad, .int (nI lx)]) (rest := []) ⟨hx, hb, hml, hown, hts⟩ (metX0_asLane l dC dI ct A (xG ct o q (ql, qs, md, qe, n) y (upd g 0 0) a ex) (xps n + j2) ad N f lx hlx ((xG_ex j2).trans hj2) (by omega)) (va_cwS 2 hts (lw_S q387 q388 q69 q389) rfl rfl rfl (by decide +kernel) ⟨Nat.le_of_ble_eq_true rfl, Nat.le_of_ble_eq_true rfl⟩) (aPS hK hP hE9 hS _) rfl rfl hl.1 rfl (lv_room (Nat.le_of_ble_eq_true rfl)) dX0_asked_66 ⟨Nat.le_of_ble_eq_true rfl, Nat.le_of_ble_eq_true rfl⟩)).run (fun _ _ => ?_)
            refine lv_iload hx hb dX0_asked_69 (lv_at hl 4 rfl) ?_
            refine lv_iconst (v := 2) hx hb dX0_asked_71 (by decide) ?_
            refine lv_iload hx hb dX0_asked_72 (lv_at hl 5 rfl) ?_
            refine lv_imul hx hb dX0_asked_74 ?_
            refine va_callr (va_runS (As := [.ref ad, .int (nI I), .int (2 * (nI M))]) (rest := []) ⟨hx, hb, hml, hown, hts⟩ (metX0_rowW l dC dI ct A (xG ct o q (ql, qs, md, qe, n) y (upd g 0 0) a ex) (xps n + j2) ad N f lx hlx ((xG_ex j2).trans hj2) hN (nI I) (2 * (nI M)) I (2 * M) rfl (nI_mul2 M) hIL) (va_cwS 3 hts (lw_S q393 q394 q69 q395) rfl rfl rfl (by decide +kernel) ⟨Nat.le_of_ble_eq_true rfl, Nat.le_of_ble_eq_true rfl⟩) (rPS hK hP hD hE9 hS hA _) rfl rfl hl.1 rfl (lv_room (Nat.le_of_ble_eq_true rfl)) dX0_asked_75 ⟨Nat.le_of_ble_eq_true rfl, Nat.le_of_ble_eq_true rfl⟩) hS (fun q _ h => h) (fun q h => h) (fun _ qr t H1 locs ht hvm hw hB hz1 hk1 hS => ?_)
            clear hw
            obtain ⟨hP, -, hD⟩ := hB
            rw [ht, ← xG_app] at hP
            rw [← xG_app] at hD
            generalize H1 = H at hP hS ⊢
            refine lv_astore (lv' := [(8, .ref qr), (0, .ref o), (1, .int (nI P)), (2, .int (nI K)), (3, .int (nI lx)), (4, .int (nI I)), (5, .int (nI M)), (6, .int w), (7, .int 2)]) hx hb dX0_asked_78 hl (by decide) rfl (fun ls hl => ?_)
            refine lv_aload_n hx hb dX0_asked_80 rfl (lv_at hl 1 rfl) ?_
            refine lv_aload hx hb dX0_asked_81 (lv_at hl 0 rfl) ?_
            refine vp_callSi ((va_runV (As := [.ref qr]) (rest := []) ⟨hx, hb, hml, hown, hts⟩ (metX0_areOthers l dC dI ct A (ex ++ [(qr, .inl (ct 0, 2 * M, .inl (cutF (2 * M) (fun j => f (I + j)) (fun _ => 0))))]) o q ql qs md qe n y (upd g 0 0) a  ex.length qr M (cutF (2 * M) (fun j => f (I + j)) (fun _ => 0)) ap_last (by omega) hn6) (cwV 1 hts (lw_V q689 q691 qs17 q69 q692) rfl rfl rfl (by decide +kernel) ⟨Nat.le_of_ble_eq_true rfl, Nat.le_of_ble_eq_true rfl⟩) (gPV hK hP hD hE _) rfl rfl hl.1 rfl (lv_room (Nat.le_of_ble_eq_true rfl)) dX0_asked_83 ⟨Nat.le_of_ble_eq_true rfl, Nat.le_of_ble_eq_true rfl⟩)).run (fun r hw => ?_)
            have hw : r = (b2i (!(allP n (cutF (2 * M) (fun j => f (I + j)) (fun _ => 0)) (2 * M)))) := hw
            subst hw
            refine bz_eq (tgt := 91) hx hb dX0_asked_86 (by decide) (fun c_6 => ?_) (fun c_6 => ?_)
            · skip
              refine lv_iload hx hb dX0_asked_91 (lv_at hl 8 rfl) ?_
              refine lv_if_ne (tgt := 120) hx hb dX0_asked_93 (by decide) (fun c_7 => ?_) (fun c_7 => ?_)
              · skip
                refine lv_iload hx hb dX0_asked_120 (lv_at hl 8 rfl) ?_
                refine lv_iconst (v := 1) hx hb dX0_asked_122 (by decide) ?_
                refine lv_icmp_ne (tgt := 148) hx hb dX0_asked_123 (by decide) (fun c_8 => ?_) (fun c_8 => ?_)
                · skip
                  refine lv_aload_n hx hb dX0_asked_148 rfl (lv_at hl 1 rfl) ?_
                  refine lv_aload_n hx hb dX0_asked_149 rfl (lv_at hl 1 rfl) ?_
                  refine g_get (v := .ref ql) hx hb hts hown hK hP 2 (by decide) rfl q146 rfl dX0_asked_150 ?_
                  refine lv_iload_n hx hb dX0_asked_153 rfl (lv_at hl 2 rfl) ?_
                  refine va_csFr (va_runF (As := [.int (nI P)]) (rest := [.ref o]) (jAt hK) ⟨hx, hb, hml, hown, hts⟩ (metJ2_get l dC dI ct (xG ct o q (ql, qs, md, qe, n) y (upd g 0 0) a (ex ++ [(qr, .inl (ct 0, 2 * M, .inl (cutF (2 * M) (fun j => f (I + j)) (fun _ => 0))))])) ql md qe n 14 rfl P 15 10 (y P) (edF y n) (xG_ed (Nat.lt_of_le_of_lt (Nat.zero_le _) hPn)) (Nat.lt_of_lt_of_le hPn (by omega)) (by omega) (if_pos hPn) hPn (by omega)) (va_cwF 1 hts (lw_F q607 q610 q612 q72 q614) rfl rfl rfl (xE_fw_get hE) (by decide +kernel) ⟨Nat.le_of_ble_eq_true rfl, Nat.le_of_ble_eq_true rfl⟩) (jPV (k := 14) (md := md) (qe := qe) (n := n) hK hP rfl _) rfl rfl hl.1 rfl (lv_room (Nat.le_of_ble_eq_true rfl)) dX0_asked_154 ⟨Nat.le_of_ble_eq_true rfl, Nat.le_of_ble_eq_true rfl⟩) (fun r hw => ?_)
                  have hw : (y P) = r := Eq.symm hw
                  subst hw
                  refine c_cast hx hb hts hown hK hP hE hPn q451 dX0_asked_159 ?_
                  refine lv_aload hx hb dX0_asked_162 (lv_at hl 0 rfl) ?_
                  have hall : allP n (cutF (2 * M) (fun j => f (I + j)) (fun _ => 0)) (2 * M) = true := by simpa using c_6
                  have hpr : ∀ t, t < 2 * M → (cutF (2 * M) (fun j => f (I + j)) (fun _ => 0)) t = nI (cix ((cutF (2 * M) (fun j => f (I + j)) (fun _ => 0)) t)) ∧ cix ((cutF (2 * M) (fun j => f (I + j)) (fun _ => 0)) t) < n := fun t ht => inP_e (by omega) (allP_at hall t ht)
                  refine va_calli (va_runV (As := [.ref (y P), .ref qr]) (rest := []) ⟨hx, hb, hml, hown, hts⟩ (metX0_wearsOf l dC dI ct A (ex ++ [(qr, .inl (ct 0, 2 * M, .inl (cutF (2 * M) (fun j => f (I + j)) (fun _ => 0))))]) o q ql qs md qe n y (upd g 0 0) a  P hPn ex.length qr M (cutF (2 * M) (fun j => f (I + j)) (fun _ => 0)) ap_last (by omega) hn6 hpr rn hr8 hrn hrw) (cwV 2 hts (lw_V q830 q832 qs37 q69 q833) rfl rfl rfl (by decide +kernel) ⟨Nat.le_of_ble_eq_true rfl, Nat.le_of_ble_eq_true rfl⟩) (gPV hK hP hD hE _) rfl rfl hl.1 rfl (lv_room (Nat.le_of_ble_eq_true rfl)) dX0_asked_164 ⟨Nat.le_of_ble_eq_true rfl, Nat.le_of_ble_eq_true rfl⟩) hS (fun q _ h => h) (fun q h => h) (fun r u t H1 locs ht hvm hw hB hz1 hk1 hS => ?_)
                  obtain ⟨hw, T_9, hw2⟩ := hw
                  have hw : r = (mset (fun z => decide (1 ≤ z) && (soV (cgo n (a 3) (a 4) (laX (g 3) (g 4) (a 2) (upd (a 5) P (nI z))) (fun t => cix ((cutF (2 * M) (fun j => f (I + j)) (fun _ => 0)) t)) M) (a 22) (a 23) (a 24) rn)) 10) := hw
                  subst hw
                  subst hw2
                  obtain ⟨hP, -, hD⟩ := hB
                  rw [ht] at hP
                  generalize H1 = H at hP hS ⊢
                  have hP : va_P (dC, dI) clA (xG ct o q (ql, qs, md, qe, n) y (upd (upd g 0 0) 18 T_9.2.2) (va_up (va_up (va_up (va_up (va_up a 12 ((T_9.1).1)) 13 ((T_9.1).2.1)) 14 ((T_9.1).2.2.1)) 15 ((T_9.1).2.2.2.1)) 16 ((T_9.1).2.2.2.2)) (ex ++ [(qr, .inl (ct 0, 2 * M, .inl (cutF (2 * M) (fun j => f (I + j)) (fun _ => 0))))])) H := hP
                  have hD : va_D A (xG ct o q (ql, qs, md, qe, n) y (upd (upd g 0 0) 18 T_9.2.2) (va_up (va_up (va_up (va_up (va_up a 12 ((T_9.1).1)) 13 ((T_9.1).2.1)) 14 ((T_9.1).2.2.1)) 15 ((T_9.1).2.2.2.1)) 16 ((T_9.1).2.2.2.2)) (ex ++ [(qr, .inl (ct 0, 2 * M, .inl (cutF (2 * M) (fun j => f (I + j)) (fun _ => 0))))])) := hD
                  rw [xG_app] at hP hD
                  have hP := hP.left
                  have hD := hD.left
                  refine W.widen (k := 8) (n := 3000) (Nat.le_of_ble_eq_true rfl) (Nat.le_of_ble_eq_true rfl) ?_
                  exact W.iret (v := (mset (fun z => decide (1 ≤ z) && (soV (cgo n (a 3) (a 4) (laX (g 3) (g 4) (a 2) (upd (a 5) P (nI z))) (fun t => cix ((cutF (2 * M) (fun j => f (I + j)) (fun _ => 0)) t)) M) (a 22) (a 23) (a 24) rn)) 10)) hx hb hr (fun t ht hW => ⟨⟨(mset (fun z => decide (1 ≤ z) && (soV (cgo n (a 3) (a 4) (laX (g 3) (g 4) (a 2) (upd (a 5) P (nI z))) (fun t => cix ((cutF (2 * M) (fun j => f (I + j)) (fun _ => 0)) t)) M) (a 22) (a 23) (a 24) rn)) 10), ((upd (upd g 0 0) 18 T_9.2.2), (va_up (va_up (va_up (va_up (va_up a 12 ((T_9.1).1)) 13 ((T_9.1).2.1)) 14 ((T_9.1).2.2.1)) 15 ((T_9.1).2.2.2.1)) 16 ((T_9.1).2.2.2.2))), rfl, ⟨rfl, ⟨T_9, rfl⟩⟩, by rw [ht]; exact hP, va_K.moved hW.alike hK, hD⟩, hS.F ht⟩) hS.2.2 dX0_asked_167
                · skip
                  exact absurd c_8 (by decide)
              · skip
                exact absurd c_7 (by decide)
            · skip
              exact False.elim (by rw [hall9] at c_6; cases c_6)
          · skip
            exact False.elim (by rw [hw2] at c_5; cases c_5)
    · skip
      exact False.elim (by rw [inK hK4] at c_2; cases c_2)
set_option maxHeartbeats 4000000 in
set_option maxRecDepth 100000 in
theorem metX0_asked_o (l : Launch) (dC : Nat → ClassId) (dI : Nat → Nat → Nat) (ct : Nat → ClassId) (A : Nat → Prop) (ex : va_W) (o : Nat) (q : Nat → Nat) (ql qs : Nat) (md : Int32) (qe n : Nat) (y : Nat → Nat) (g : Nat → Int32) (a : Nat → Nat → Int32) (htr : l.stackTraces = false) (P : Nat) (K : Nat) (lx : Nat) (I : Nat) (M : Nat) (w : Int32) (by9 : Int32) (j0 : Nat) (pl : Nat → Nat) (hj0 : ex[j0]? = some (qs, .inl (ct 5, 4, .inr (.inr (.inr (.inr (fun j => some (pl j)))))))) (j2 ad N : Nat) (f : Nat → Int32) (hlx : lx < 3) (hj2 : ex[j2]? = some (ad, .inl (ct (lty lx), N, .inl f))) (hN : N ≤ 60) (K : Nat) (hK4 : K < 4) (j1 : Nat) (hj1 : ex[j1]? = some (pl K, .inr (6, [.ref ad]))) (hM : M ≤ 20) (hn6 : n ≤ 6) (hPn : P < n) (hw2 : lin w.toInt64 0 1 = true) (hIL : I + 2 * M ≤ N) (hall9 : allP n (cutF (2 * M) (fun j => f (I + j)) (fun _ => 0)) (2 * M) = false) : Met l yX0_asked (wsW_ yX0_asked cX0_asked 9 (some .int) [((56 : Nat), (90 : Nat), (168 : Nat), (173 : Nat)), ((91 : Nat), (167 : Nat), (168 : Nat), (173 : Nat)), ((56 : Nat), (90 : Nat), (176 : Nat), (179 : Nat)), ((91 : Nat), (167 : Nat), (176 : Nat), (179 : Nat)), ((56 : Nat), (90 : Nat), (184 : Nat), (183 : Nat)), ((91 : Nat), (167 : Nat), (184 : Nat), (183 : Nat))]) ({ frames := 16, cells := 8, slots := 3000, locals := 12000 }) (sPre dC dI ct A ex o q (ql, qs, md, qe, n) y g a [.ref o, .int (nI P), .int (nI K), .int (nI lx), .int (nI I), .int (nI M), .int w, .int by9]) (va_Qi (fun (r : Int32) (u : (Nat → Int32) × (Nat → Nat → Int32)) => r = (-1) ∧ u = ((upd g 0 0), a)) (fun u t => gB dC dI ct A ex o q (ql, qs, md, qe, n) y u t) A) 8 3000 A := by
  refine cx_MetW (cc := cX0_asked) (maxL := 9) (ret := (some .int)) (hh := [((56 : Nat), (90 : Nat), (168 : Nat), (173 : Nat)), ((91 : Nat), (167 : Nat), (168 : Nat), (173 : Nat)), ((56 : Nat), (90 : Nat), (176 : Nat), (179 : Nat)), ((91 : Nat), (167 : Nat), (176 : Nat), (179 : Nat)), ((56 : Nat), (90 : Nat), (184 : Nat), (183 : Nat)), ((91 : Nat), (167 : Nat), (184 : Nat), (183 : Nat))]) (by decide) rfl ?_
  intro p e s m args below meth c s₁ B hml het hv
  obtain ⟨rfl, hP, hK, hD, hE, hE9, hA, hst, hI9⟩ := hv
  have hN9 := hE9.now
  have hx := B.exec
  have hb := B.bytes
  have hr := B.returns
  have hts := atoms_spec (ws := wsW_ yX0_asked cX0_asked 9 (some .int) [((56 : Nat), (90 : Nat), (168 : Nat), (173 : Nat)), ((91 : Nat), (167 : Nat), (168 : Nat), (173 : Nat)), ((56 : Nat), (90 : Nat), (176 : Nat), (179 : Nat)), ((91 : Nat), (167 : Nat), (176 : Nat), (179 : Nat)), ((56 : Nat), (90 : Nat), (184 : Nat), (183 : Nat)), ((91 : Nat), (167 : Nat), (184 : Nat), (183 : Nat))]) B.pre
  have hts : ∀ w ∈ lw_all, w.before _ s = true := fun w h => hts w (List.mem_cons_of_mem _ h)
  have hown : s.vm.findClass RX0 = some m.cls := findClass_of_methodNamed B.named
  have hlocks := B.notSynchronized
  have hS : va_S A s.heap s.heap [] := va_S.rf
  have hl := lv_entry ([.ref o, .int (nI P), .int (nI K), .int (nI lx), .int (nI I), .int (nI M), .int w, .int by9]) (n := 9) (Nat.le_of_ble_eq_true rfl)
  rw [lg_entry_eq]
  generalize (lg_sl ([.ref o, .int (nI P), .int (nI K), .int (nI lx), .int (nI I), .int (nI M), .int w, .int by9]) ++ List.replicate (9 - (lg_sl ([.ref o, .int (nI P), .int (nI K), .int (nI lx), .int (nI I), .int (nI M), .int w, .int by9])).length) Slot.unset).toArray = ls at hl ⊢
  have hl : lv_has ls 9 [(0, .ref o), (1, .int (nI P)), (2, .int (nI K)), (3, .int (nI lx)), (4, .int (nI I)), (5, .int (nI M)), (6, .int w), (7, .int by9)] := hl
  refine lv_aload_n hx hb dX0_asked_0 rfl (lv_at hl 0 rfl) ?_
  refine lv_iconst (v := 0) hx hb dX0_asked_1 (by decide) ?_
  refine g_put (v := 0) hx hb hts hown hK hP hD hS 0 0 (by decide) rfl q144 rfl rfl (by decide +kernel) dX0_asked_2 (fun H locs hP hD hS => ?_)
  refine lv_aload_n hx hb dX0_asked_5 rfl (lv_at hl 0 rfl) ?_
  refine lv_iload_n hx hb dX0_asked_6 rfl (lv_at hl 1 rfl) ?_
  refine vp_callSi ((va_runV (As := [.int (nI P)]) (rest := []) ⟨hx, hb, hml, hown, hts⟩ (metX0_isPerson l dC dI ct A (peW ct o qe n y a ++ ex) o q ql qs md qe n (upd g 0 0) a (nI P) hn6) (cwV 1 hts (lw_V q589 q591 qs13 q69 q592) rfl rfl rfl (by decide +kernel) ⟨Nat.le_of_ble_eq_true rfl, Nat.le_of_ble_eq_true rfl⟩) (xPV hK hP hD hE _) rfl rfl hl.1 rfl (lv_room (Nat.le_of_ble_eq_true rfl)) dX0_asked_7 ⟨Nat.le_of_ble_eq_true rfl, Nat.le_of_ble_eq_true rfl⟩)).run (fun r hw => ?_)
  have hw : r = (b2i (inP (nI P) n)) := hw
  subst hw
  refine bz_eq (tgt := 20) hx hb dX0_asked_10 (by decide) (fun c_1 => ?_) (fun c_1 => ?_)
  · skip
    exact False.elim (by rw [inPn hn6 hPn] at c_1; cases c_1)
  · skip
    refine lv_iload_n hx hb dX0_asked_13 rfl (lv_at hl 2 rfl) ?_
    refine vp_callSi ((va_runS (As := [.int (nI K)]) (rest := []) ⟨hx, hb, hml, hown, hts⟩ (metX0_isSheet l (nI K) ) (va_cwS 1 hts (lw_S q376 q377 q69 q378) rfl rfl rfl (by decide +kernel) ⟨Nat.le_of_ble_eq_true rfl, Nat.le_of_ble_eq_true rfl⟩) (pcS _) rfl rfl hl.1 rfl (lv_room (Nat.le_of_ble_eq_true rfl)) dX0_asked_14 ⟨Nat.le_of_ble_eq_true rfl, Nat.le_of_ble_eq_true rfl⟩)).run (fun r hw => ?_)
    have hw : r = (b2i (inP (nI K) 4)) := hw
    subst hw
    refine bz_ne (tgt := 22) hx hb dX0_asked_17 (by decide) (fun c_2 => ?_) (fun c_2 => ?_)
    · skip
      refine lv_iload_n hx hb dX0_asked_22 rfl (lv_at hl 3 rfl) ?_
      refine vp_callSi ((va_runS (As := [.int (nI lx)]) (rest := []) ⟨hx, hb, hml, hown, hts⟩ (metX0_isLane l (nI lx) ) (va_cwS 1 hts (lw_S q383 q384 q69 q385) rfl rfl rfl (by decide +kernel) ⟨Nat.le_of_ble_eq_true rfl, Nat.le_of_ble_eq_true rfl⟩) (pcS _) rfl rfl hl.1 rfl (lv_room (Nat.le_of_ble_eq_true rfl)) dX0_asked_23 ⟨Nat.le_of_ble_eq_true rfl, Nat.le_of_ble_eq_true rfl⟩)).run (fun r hw => ?_)
      have hw : r = (b2i (inP (nI lx) 3)) := hw
      subst hw
      refine bz_eq (tgt := 53) hx hb dX0_asked_26 (by decide) (fun c_3 => ?_) (fun c_3 => ?_)
      · skip
        exact False.elim (by rw [inL hlx] at c_3; cases c_3)
      · skip
        refine lv_iload hx hb dX0_asked_29 (lv_at hl 5 rfl) ?_
        refine lv_i2l (v := (Int32.toInt64 (nI M))) hx hb dX0_asked_31 rfl ?_
        refine lv_lconst (v := 0) hx hb dX0_asked_32 (by decide) ?_
        refine lv_ldc2 (v := 20) hx hb hown (hts _ q663) dX0_asked_33 ?_
        refine vp_callSi ((va_runS (As := [.long (Int32.toInt64 (nI M)), .long 0, .long 20]) (rest := []) ⟨hx, hb, hml, hown, hts⟩ (metX0_isIn l (Int32.toInt64 (nI M)) 0 20 ) (va_cwS 3 hts (lw_S q380 q381 q69 q382) rfl rfl rfl (by decide +kernel) ⟨Nat.le_of_ble_eq_true rfl, Nat.le_of_ble_eq_true rfl⟩) (pcS _) rfl rfl hl.1 rfl (lv_room (Nat.le_of_ble_eq_true rfl)) dX0_asked_36 ⟨Nat.le_of_ble_eq_true rfl, Nat.le_of_ble_eq_true rfl⟩)).run (fun r hw => ?_)
        have hw : r = (b2i (lin (Int32.toInt64 (nI M)) 0 20)) := hw
        subst hw
        refine bz_eq (tgt := 53) hx hb dX0_asked_39 (by decide) (fun c_4 => ?_) (fun c_4 => ?_)
        · skip
          exact False.elim (by rw [lin20 hM] at c_4; cases c_4)
        · skip
          refine lv_iload hx hb dX0_asked_42 (lv_at hl 6 rfl) ?_
          refine lv_i2l (v := (Int32.toInt64 w)) hx hb dX0_asked_44 rfl ?_
          refine lv_lconst (v := 0) hx hb dX0_asked_45 (by decide) ?_
          refine lv_lconst (v := 1) hx hb dX0_asked_46 (by decide) ?_
          refine vp_callSi ((va_runS (As := [.long (Int32.toInt64 w), .long 0, .long 1]) (rest := []) ⟨hx, hb, hml, hown, hts⟩ (metX0_isIn l (Int32.toInt64 w) 0 1 ) (va_cwS 3 hts (lw_S q380 q381 q69 q382) rfl rfl rfl (by decide +kernel) ⟨Nat.le_of_ble_eq_true rfl, Nat.le_of_ble_eq_true rfl⟩) (pcS _) rfl rfl hl.1 rfl (lv_room (Nat.le_of_ble_eq_true rfl)) dX0_asked_47 ⟨Nat.le_of_ble_eq_true rfl, Nat.le_of_ble_eq_true rfl⟩)).run (fun r hw => ?_)
          have hw : r = (b2i (lin (Int32.toInt64 w) 0 1)) := hw
          subst hw
          refine bz_ne (tgt := 56) hx hb dX0_asked_50 (by decide) (fun c_5 => ?_) (fun c_5 => ?_)
          · skip
            refine lv_aload_n hx hb dX0_asked_56 rfl (lv_at hl 0 rfl) ?_
            refine g_get (v := .ref qs) hx hb hts hown hK hP 25 (by decide) rfl q174 rfl dX0_asked_57 ?_
            refine lv_iload_n hx hb dX0_asked_60 rfl (lv_at hl 2 rfl) ?_
            refine s_pla hx hb hK hP (xps n + j0) ((xG_ex j0).trans hj0) K hK4 dX0_asked_61 ?_
            refine s_has hx hb hts hown hK hP hE (xps n + j1) ((xG_ex j1).trans hj1) dX0_asked_62 ?_
            refine lv_iload_n hx hb dX0_asked_65 rfl (lv_at hl 3 rfl) ?_
            refine va_csr ((va_runS (As := [.ref ad, .int (nI lx)]) (rest := []) ⟨hx, hb, hml, hown, hts⟩ (metX0_asLane l dC dI ct A (xG ct o q (ql, qs, md, qe, n) y (upd g 0 0) a ex) (xps n + j2) ad N f lx hlx ((xG_ex j2).trans hj2) (by omega)) (va_cwS 2 hts (lw_S q387 q388 q69 q389) rfl rfl rfl (by decide +kernel) ⟨Nat.le_of_ble_eq_true rfl, Nat.le_of_ble_eq_true rfl⟩) (aPS hK hP hE9 hS _) rfl rfl hl.1 rfl (lv_room (Nat.le_of_ble_eq_true rfl)) dX0_asked_66 ⟨Nat.le_of_ble_eq_true rfl, Nat.le_of_ble_eq_true rfl⟩)).run (fun _ _ => ?_)
            refine lv_iload hx hb dX0_asked_69 (lv_at hl 4 rfl) ?_
            refine lv_iconst (v := 2) hx hb dX0_asked_71 (by decide) ?_
            refine lv_iload hx hb dX0_asked_72 (lv_at hl 5 rfl) ?_
            refine lv_imul hx hb dX0_asked_74 ?_
            refine va_callr (va_runS (As := [.ref ad, .int (nI I), .int (2 * (nI M))]) (rest := []) ⟨hx, hb, hml, hown, hts⟩ (metX0_rowW l dC dI ct A (xG ct o q (ql, qs, md, qe, n) y (upd g 0 0) a ex) (xps n + j2) ad N f lx hlx ((xG_ex j2).trans hj2) hN (nI I) (2 * (nI M)) I (2 * M) rfl (nI_mul2 M) hIL) (va_cwS 3 hts (lw_S q393 q394 q69 q395) rfl rfl rfl (by decide +kernel) ⟨Nat.le_of_ble_eq_true rfl, Nat.le_of_ble_eq_true rfl⟩) (rPS hK hP hD hE9 hS hA _) rfl rfl hl.1 rfl (lv_room (Nat.le_of_ble_eq_true rfl)) dX0_asked_75 ⟨Nat.le_of_ble_eq_true rfl, Nat.le_of_ble_eq_true rfl⟩) hS (fun q _ h => h) (fun q h => h) (fun _ qr t H1 locs ht hvm hw hB hz1 hk1 hS => ?_)
            clear hw
            obtain ⟨hP, -, hD⟩ := hB
            rw [ht, ← xG_app] at hP
            rw [← xG_app] at hD
            generalize H1 = H at hP hS ⊢
            refine lv_astore (lv' := [(8, .ref qr), (0, .ref o), (1, .int (nI P)), (2, .int (nI K)), (3, .int (nI lx)), (4, .int (nI I)), (5, .int (nI M)), (6, .int w), (7, .int by9)]) hx hb dX0_asked_78 hl (by decide) rfl (fun ls hl => ?_)
            refine lv_aload_n hx hb dX0_asked_80 rfl (lv_at hl 1 rfl) ?_
            refine lv_aload hx hb dX0_asked_81 (lv_at hl 0 rfl) ?_
            refine vp_callSi ((va_runV (As := [.ref qr]) (rest := []) ⟨hx, hb, hml, hown, hts⟩ (metX0_areOthers l dC dI ct A (ex ++ [(qr, .inl (ct 0, 2 * M, .inl (cutF (2 * M) (fun j => f (I + j)) (fun _ => 0))))]) o q ql qs md qe n y (upd g 0 0) a  ex.length qr M (cutF (2 * M) (fun j => f (I + j)) (fun _ => 0)) ap_last (by omega) hn6) (cwV 1 hts (lw_V q689 q691 qs17 q69 q692) rfl rfl rfl (by decide +kernel) ⟨Nat.le_of_ble_eq_true rfl, Nat.le_of_ble_eq_true rfl⟩) (gPV hK hP hD hE _) rfl rfl hl.1 rfl (lv_room (Nat.le_of_ble_eq_true rfl)) dX0_asked_83 ⟨Nat.le_of_ble_eq_true rfl, Nat.le_of_ble_eq_true rfl⟩)).run (fun r hw => ?_)
            have hw : r = (b2i (!(allP n (cutF (2 * M) (fun j => f (I + j)) (fun _ => 0)) (2 * M)))) := hw
            subst hw
            refine bz_eq (tgt := 91) hx hb dX0_asked_86 (by decide) (fun c_6 => ?_) (fun c_6 => ?_)
            · skip
              exact False.elim (by rw [hall9] at c_6; cases c_6)
            · skip
              refine lv_iconst (v := (-1)) hx hb dX0_asked_89 (by decide) ?_
              rw [xG_app] at hP hD
              have hP := hP.left
              have hD := hD.left
              refine W.widen (k := 8) (n := 3000) (Nat.le_of_ble_eq_true rfl) (Nat.le_of_ble_eq_true rfl) ?_
              exact W.iret (v := (-1)) hx hb hr (fun t ht hW => ⟨⟨(-1), ((upd g 0 0), a), rfl, ⟨(by first | rfl | (simp [c_1, c_2, c_3, c_4, c_5, c_6]; done)), rfl⟩, by rw [ht]; exact hP, va_K.moved hW.alike hK, hD⟩, hS.F ht⟩) hS.2.2 dX0_asked_90
          · skip
            exact False.elim (by rw [hw2] at c_5; cases c_5)
    · skip
      exact False.elim (by rw [inK hK4] at c_2; cases c_2)
