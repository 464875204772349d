/-! THE MODEL: reading a person -/
set_option maxHeartbeats 4000000 in
set_option maxRecDepth 100000 in
theorem metX2_codeAt (l : Launch) (dC : Nat → ClassId) (dI : Nat → Nat → Nat) (ct : Nat → ClassId) (A : Nat → Prop) (ex : va_W) (o : Nat) (q : Nat → Nat) (g : Nat → Int32) (a : Nat → Nat → Int32) (x : Int32) (y : Int32) (F L at0 : Nat) (ex0 : x = nI F) (ey : y = nI L) (hL : L ≤ 60) (hF : F + L ≤ 240) (hat : at0 ≤ 100) (hg : g 6 = nI at0) : Met l yX2_codeAt (ws_ yX2_codeAt cX2_codeAt 3 (some .int)) ({ frames := 0, cells := 0, slots := 0, locals := 0 }) (mPre dC dI ct A ex o q g a [.ref o, .int x, .int y]) (vp_Si (fun r => r = (pcode (fun t => (a 27) (F + t)) L at0))) 0 0 (fun _ => False) := by
  refine Met.ofW (cc := cX2_codeAt) (maxL := 3) (ret := (some .int)) (by decide) rfl ?_
  intro p e s m args below meth c s₁ B hml hv
  obtain ⟨rfl, hP, hK, hD⟩ := hv
  have hx := B.exec
  have hb := B.bytes
  have hr := B.returns
  have hts := atoms_spec (ws := ws_ yX2_codeAt cX2_codeAt 3 (some .int)) B.pre
  have hts : ∀ w ∈ lw_all, w.before _ s = true := fun w h => hts w (List.mem_cons_of_mem _ h)
  have hown : s.vm.findClass RX2 = some m.cls := findClass_of_methodNamed B.named
  have hlocks := B.notSynchronized
  have hS : va_S A s.heap s.heap [] := va_S.rf
  have hl := lv_entry ([.ref o, .int x, .int y]) (n := 3) (Nat.le_of_ble_eq_true rfl)
  rw [lg_entry_eq]
  generalize (lg_sl ([.ref o, .int x, .int y]) ++ List.replicate (3 - (lg_sl ([.ref o, .int x, .int y])).length) Slot.unset).toArray = ls at hl ⊢
  have hl : lv_has ls 3 [(0, .ref o), (1, .int x), (2, .int y)] := hl
  subst ex0
  subst ey
  refine lv_aload_n hx hb dX2_codeAt_0 rfl (lv_at hl 0 rfl) ?_
  refine m_get (v := .int (g 6)) hx hb hts hown hK hP 6 (by decide) rfl q990 rfl dX2_codeAt_1 ?_
  refine lv_iload_n hx hb dX2_codeAt_4 rfl (lv_at hl 2 rfl) ?_
  refine lv_icmp_ge (tgt := 22) hx hb dX2_codeAt_5 (by decide) (fun c_1 => ?_) (fun c_1 => ?_)
  · skip
    rw [hg] at c_1
    have hge : ¬ at0 < L := Nat.not_lt.mpr ((nI_leI (by omega) (by omega)).mp c_1)
    refine lv_bipush (v := (-9)) hx hb dX2_codeAt_22 (by decide) ?_
    exact W.iret (v := (-9)) hx hb hr (fun t ht hW => ⟨(-9), rfl, (by rw [pcode, if_neg hge]), ht⟩) (fun q h => by cases h) dX2_codeAt_24
  · skip
    rw [hg] at c_1
    have hlt : at0 < L := Nat.lt_of_not_le (fun z => c_1 ((nI_leI (by omega) (by omega)).mpr z))
    refine lv_aload_n hx hb dX2_codeAt_8 rfl (lv_at hl 0 rfl) ?_
    refine m_get (v := .ref (q 27)) hx hb hts hown hK hP 27 (by decide) rfl q1011 rfl dX2_codeAt_9 ?_
    refine lv_iload_n hx hb dX2_codeAt_12 rfl (lv_at hl 1 rfl) ?_
    refine lv_aload_n hx hb dX2_codeAt_13 rfl (lv_at hl 0 rfl) ?_
    refine m_get (v := .int (g 6)) hx hb hts hown hK hP 6 (by decide) rfl q990 rfl dX2_codeAt_14 ?_
    refine lv_iadd hx hb dX2_codeAt_17 ?_
    refine m_ild hx hb hK hP (mWa27 _ _ _ _ _ _) (a 27) rfl (F + at0) (by rw [hg, nI_add]) (by omega) (by decide) dX2_codeAt_18 ?_
    refine lv_goto (tgt := 24) hx hb dX2_codeAt_19 (by decide) ?_
    exact W.iret (v := ((a 27) (F + at0))) hx hb hr (fun t ht hW => ⟨((a 27) (F + at0)), rfl, (by rw [pcode, if_pos hlt]), ht⟩) (fun q h => by cases h) dX2_codeAt_24
set_option maxHeartbeats 4000000 in
set_option maxRecDepth 100000 in
theorem metX2_figure (l : Launch) (dC : Nat → ClassId) (dI : Nat → Nat → Nat) (ct : Nat → ClassId) (A : Nat → Prop) (ex : va_W) (o : Nat) (q : Nat → Nat) (g : Nat → Int32) (a : Nat → Nat → Int32) (x : Int32) (y : Int32) (lo : Int32) (hi : Int32) (F L at0 : Nat) (ex0 : x = nI F) (ey : y = nI L) (hL : L ≤ 60) (hF : F + L ≤ 240) (hat : at0 ≤ 100) (hg : g 6 = nI at0) : Met l yX2_figure (ws_ yX2_figure cX2_figure 7 (some .int)) ({ frames := 1, cells := 0, slots := 0, locals := 25 }) (mPre dC dI ct A ex o q g a [.ref o, .int x, .int y, .int lo, .int hi]) (va_Qi (fun (r : Int32) (u : (Nat → Int32) × (Nat → Nat → Int32)) => r = (dgv (pcode (fun t => (a 27) (F + t)) L at0) lo hi) ∧ u = ((upd g 6 (nI (at0 + dgn (pcode (fun t => (a 27) (F + t)) L at0) lo hi))), a)) (mB dC dI ct A ex o q) A) 0 0 A := by
  refine Met.ofW (cc := cX2_figure) (maxL := 7) (ret := (some .int)) (by decide) rfl ?_
  intro p e s m args below meth c s₁ B hml hv
  obtain ⟨rfl, hP, hK, hD⟩ := hv
  have hx := B.exec
  have hb := B.bytes
  have hr := B.returns
  have hts := atoms_spec (ws := ws_ yX2_figure cX2_figure 7 (some .int)) B.pre
  have hts : ∀ w ∈ lw_all, w.before _ s = true := fun w h => hts w (List.mem_cons_of_mem _ h)
  have hown : s.vm.findClass RX2 = some m.cls := findClass_of_methodNamed B.named
  have hlocks := B.notSynchronized
  have hS : va_S A s.heap s.heap [] := va_S.rf
  have hl := lv_entry ([.ref o, .int x, .int y, .int lo, .int hi]) (n := 7) (Nat.le_of_ble_eq_true rfl)
  rw [lg_entry_eq]
  generalize (lg_sl ([.ref o, .int x, .int y, .int lo, .int hi]) ++ List.replicate (7 - (lg_sl ([.ref o, .int x, .int y, .int lo, .int hi])).length) Slot.unset).toArray = ls at hl ⊢
  have hl : lv_has ls 7 [(0, .ref o), (1, .int x), (2, .int y), (3, .int lo), (4, .int hi)] := hl
  subst ex0
  subst ey
  refine lv_aload_n hx hb dX2_figure_0 rfl (lv_at hl 0 rfl) ?_
  refine lv_iload_n hx hb dX2_figure_1 rfl (lv_at hl 1 rfl) ?_
  refine lv_iload_n hx hb dX2_figure_2 rfl (lv_at hl 2 rfl) ?_
  refine vp_callSi ((va_runV (As := [.int (nI F), .int (nI L)]) (rest := []) ⟨hx, hb, hml, hown, hts⟩ (metX2_codeAt l dC dI ct A ex o q g a (nI F) (nI L) F L at0 rfl rfl hL hF hat hg) (cwV 2 hts (lw_V q1106 q1108 qs45 q74 q1109) rfl rfl rfl (by decide +kernel) ⟨Nat.le_of_ble_eq_true rfl, Nat.le_of_ble_eq_true rfl⟩) (mPV hK hP hD _) rfl rfl hl.1 rfl (lv_room (Nat.le_of_ble_eq_true rfl)) dX2_figure_3 ⟨Nat.zero_le _, Nat.zero_le _⟩)).run (fun r hw => ?_)
  have hw : r = (pcode (fun t => (a 27) (F + t)) L at0) := hw
  subst hw
  refine lv_bipush (v := 48) hx hb dX2_figure_6 (by decide) ?_
  refine lv_isub hx hb dX2_figure_8 ?_
  refine lv_istore (lv' := [(5, .int ((pcode (fun t => (a 27) (F + t)) L at0) - 48)), (0, .ref o), (1, .int (nI F)), (2, .int (nI L)), (3, .int lo), (4, .int hi)]) hx hb dX2_figure_9 hl (by decide) rfl (fun ls hl => ?_)
  refine lv_iload hx hb dX2_figure_11 (lv_at hl 0 rfl) ?_
  refine lv_i2l (v := (Int32.toInt64 ((pcode (fun t => (a 27) (F + t)) L at0) - 48))) hx hb dX2_figure_13 rfl ?_
  refine lv_iload_n hx hb dX2_figure_14 rfl (lv_at hl 4 rfl) ?_
  refine lv_i2l (v := (Int32.toInt64 lo)) hx hb dX2_figure_15 rfl ?_
  refine lv_iload hx hb dX2_figure_16 (lv_at hl 5 rfl) ?_
  refine lv_i2l (v := (Int32.toInt64 hi)) hx hb dX2_figure_18 rfl ?_
  refine vp_callSi ((va_runS (As := [.long (Int32.toInt64 ((pcode (fun t => (a 27) (F + t)) L at0) - 48)), .long (Int32.toInt64 lo), .long (Int32.toInt64 hi)]) (rest := []) ⟨hx, hb, hml, hown, hts⟩ (metX2_in l (Int32.toInt64 ((pcode (fun t => (a 27) (F + t)) L at0) - 48)) (Int32.toInt64 lo) (Int32.toInt64 hi) ) (va_cwS 3 hts (lw_S q1083 q1084 q74 q1085) rfl rfl rfl (by decide +kernel) ⟨Nat.le_of_ble_eq_true rfl, Nat.le_of_ble_eq_true rfl⟩) (pcS _) rfl rfl hl.1 rfl (lv_room (Nat.le_of_ble_eq_true rfl)) dX2_figure_19 ⟨Nat.zero_le _, Nat.zero_le _⟩)).run (fun r hw => ?_)
  have hw : r = (b2i (lin (Int32.toInt64 ((pcode (fun t => (a 27) (F + t)) L at0) - 48)) (Int32.toInt64 lo) (Int32.toInt64 hi))) := hw
  subst hw
  refine lv_istore (lv' := [(6, .int (b2i (lin (Int32.toInt64 ((pcode (fun t => (a 27) (F + t)) L at0) - 48)) (Int32.toInt64 lo) (Int32.toInt64 hi)))), (5, .int ((pcode (fun t => (a 27) (F + t)) L at0) - 48)), (0, .ref o), (1, .int (nI F)), (2, .int (nI L)), (3, .int lo), (4, .int hi)]) hx hb dX2_figure_22 hl (by decide) rfl (fun ls hl => ?_)
  refine lv_aload_n hx hb dX2_figure_24 rfl (lv_at hl 2 rfl) ?_
  refine lv_dup hx hb dX2_figure_25 rfl ?_
  refine m_get (v := .int (g 6)) hx hb hts hown hK hP 6 (by decide) rfl q990 rfl dX2_figure_26 ?_
  refine lv_iload hx hb dX2_figure_29 (lv_at hl 0 rfl) ?_
  refine bz_eq (tgt := 38) hx hb dX2_figure_31 (by decide) (fun c_1 => ?_) (fun c_1 => ?_)
  · skip
    have c1 : dgok (pcode (fun t => a 27 (F + t)) L at0) lo hi = false := c_1
    refine lv_iconst (v := 0) hx hb dX2_figure_38 (by decide) ?_
    refine lv_iadd hx hb dX2_figure_39 ?_
    refine m_put (v := ((g 6) + 0)) hx hb hts hown hK hP hD hS 6 (by decide) rfl q990 rfl rfl (by decide +kernel) dX2_figure_40 (fun H locs hP hD hS => ?_)
    refine lv_iload hx hb dX2_figure_43 (lv_at hl 0 rfl) ?_
    refine bz_eq (tgt := 53) hx hb dX2_figure_45 (by decide) (fun c_2 => ?_) (fun c_2 => ?_)
    · skip
      refine lv_bipush (v := (-9)) hx hb dX2_figure_53 (by decide) ?_
      exact W.iret (v := (-9)) hx hb hr (fun t ht hW => ⟨⟨(-9), ((upd g 6 ((g 6) + 0)), a), rfl, ⟨(by rw [dgv, if_neg (by rw [c1]; decide)]), (by rw [dgn, if_neg (by rw [c1]; decide)]; exact congrArg (fun z => (upd g 6 z, a)) (by rw [hg]; exact nI_add at0 0))⟩, by rw [ht]; exact hP, va_K.moved hW.alike hK, hD⟩, hS.F ht⟩) hS.2.2 dX2_figure_55
    · skip
      exact False.elim (by have z : dgok (pcode (fun t => a 27 (F + t)) L at0) lo hi = true := c_2; rw [c1] at z; cases z)
  · skip
    have c1 : dgok (pcode (fun t => a 27 (F + t)) L at0) lo hi = true := c_1
    refine lv_iconst (v := 1) hx hb dX2_figure_34 (by decide) ?_
    refine lv_goto (tgt := 39) hx hb dX2_figure_35 (by decide) ?_
    refine lv_iadd hx hb dX2_figure_39 ?_
    refine m_put (v := ((g 6) + 1)) hx hb hts hown hK hP hD hS 6 (by decide) rfl q990 rfl rfl (by decide +kernel) dX2_figure_40 (fun H locs hP hD hS => ?_)
    refine lv_iload hx hb dX2_figure_43 (lv_at hl 0 rfl) ?_
    refine bz_eq (tgt := 53) hx hb dX2_figure_45 (by decide) (fun c_3 => ?_) (fun c_3 => ?_)
    · skip
      exact False.elim (by have z : dgok (pcode (fun t => a 27 (F + t)) L at0) lo hi = false := c_3; rw [c1] at z; cases z)
    · skip
      refine lv_iload hx hb dX2_figure_48 (lv_at hl 1 rfl) ?_
      refine lv_goto (tgt := 55) hx hb dX2_figure_50 (by decide) ?_
      exact W.iret (v := ((pcode (fun t => (a 27) (F + t)) L at0) - 48)) hx hb hr (fun t ht hW => ⟨⟨((pcode (fun t => (a 27) (F + t)) L at0) - 48), ((upd g 6 ((g 6) + 1)), a), rfl, ⟨(by rw [dgv, if_pos c1]), (by rw [dgn, if_pos c1]; exact congrArg (fun z => (upd g 6 z, a)) (by rw [hg]; exact nI_1 at0))⟩, by rw [ht]; exact hP, va_K.moved hW.alike hK, hD⟩, hS.F ht⟩) hS.2.2 dX2_figure_55
set_option maxHeartbeats 4000000 in
set_option maxRecDepth 100000 in
theorem metX2_readsPerson (l : Launch) (dC : Nat → ClassId) (dI : Nat → Nat → Nat) (ct : Nat → ClassId) (A : Nat → Prop) (ex : va_W) (o : Nat) (q : Nat → Nat) (g : Nat → Int32) (a : Nat → Nat → Int32) (x : Int32) (y : Int32) (F L at0 mm : Nat) (ex0 : x = nI F) (ey : y = nI L) (hL : L ≤ 60) (hF : F + L ≤ 240) (hat : at0 ≤ 60) (hg : g 6 = nI at0) (hm6 : mm ≤ 6) (hgm : g 7 = nI mm) : Met l yX2_readsPerson (ws_ yX2_readsPerson cX2_readsPerson 8 (some .boolean)) ({ frames := 2, cells := 0, slots := 0, locals := 51 }) (mPre dC dI ct A ex o q g a [.ref o, .int x, .int y]) (va_Qi (fun (r : Int32) (u : (Nat → Int32) × (Nat → Nat → Int32)) => r = (b2i (pStep (fun t => (a 27) (F + t)) L (at0, mm, (a 8), (a 9), (a 10), (a 11))).1) ∧ u = ((upd (upd g 6 (nI (pStep (fun t => (a 27) (F + t)) L (at0, mm, (a 8), (a 9), (a 10), (a 11))).2.1)) 7 (nI (pStep (fun t => (a 27) (F + t)) L (at0, mm, (a 8), (a 9), (a 10), (a 11))).2.2.1)), (va_up (va_up (va_up (va_up a 8 ((pStep (fun t => (a 27) (F + t)) L (at0, mm, (a 8), (a 9), (a 10), (a 11))).2.2.2.1)) 9 ((pStep (fun t => (a 27) (F + t)) L (at0, mm, (a 8), (a 9), (a 10), (a 11))).2.2.2.2.1)) 10 ((pStep (fun t => (a 27) (F + t)) L (at0, mm, (a 8), (a 9), (a 10), (a 11))).2.2.2.2.2.1)) 11 ((pStep (fun t => (a 27) (F + t)) L (at0, mm, (a 8), (a 9), (a 10), (a 11))).2.2.2.2.2.2)))) (mB dC dI ct A ex o q) A) 0 0 A := by
  refine Met.ofW (cc := cX2_readsPerson) (maxL := 8) (ret := (some .boolean)) (by decide) rfl ?_
  intro p e s m args below meth c s₁ B hml hv
  obtain ⟨rfl, hP, hK, hD⟩ := hv
  have hx := B.exec
  have hb := B.bytes
  have hr := B.returns
  have hts := atoms_spec (ws := ws_ yX2_readsPerson cX2_readsPerson 8 (some .boolean)) B.pre
  have hts : ∀ w ∈ lw_all, w.before _ s = true := fun w h => hts w (List.mem_cons_of_mem _ h)
  have hown : s.vm.findClass RX2 = some m.cls := findClass_of_methodNamed B.named
  have hlocks := B.notSynchronized
  have hS : va_S A s.heap s.heap [] := va_S.rf
  have hl := lv_entry ([.ref o, .int x, .int y]) (n := 8) (Nat.le_of_ble_eq_true rfl)
  rw [lg_entry_eq]
  generalize (lg_sl ([.ref o, .int x, .int y]) ++ List.replicate (8 - (lg_sl ([.ref o, .int x, .int y])).length) Slot.unset).toArray = ls at hl ⊢
  have hl : lv_has ls 8 [(0, .ref o), (1, .int x), (2, .int y)] := hl
  subst ex0
  subst ey
  have g7 : ∀ v, upd (upd g 6 v) 7 (nI mm) = upd g 6 v := fun v => (congrArg (upd (upd g 6 v) 7) hgm.symm).trans (upd_id (upd g 6 v) 7)
  have g6 : upd g 6 (nI at0) = g := (congrArg (upd g 6) hg.symm).trans (upd_id g 6)
  have aE : va_up (va_up (va_up (va_up a 8 (a 8)) 9 (a 9)) 10 (a 10)) 11 (a 11) = a := by simp only [va_up_id]
  refine lv_aload_n hx hb dX2_readsPerson_0 rfl (lv_at hl 0 rfl) ?_
  refine m_get (v := .int (g 7)) hx hb hts hown hK hP 7 (by decide) rfl q991 rfl dX2_readsPerson_1 ?_
  refine lv_bipush (v := 6) hx hb dX2_readsPerson_4 (by decide) ?_
  refine lv_icmp_eq (tgt := 20) hx hb dX2_readsPerson_6 (by decide) (fun c_1 => ?_) (fun c_1 => ?_)
  · skip
    have hm : mm = 6 := by rw [hgm] at c_1; exact (nI_eq (by omega) (by decide)).mp c_1
    refine lv_iconst (v := 0) hx hb dX2_readsPerson_20 (by decide) ?_
    have eS : pStep (fun t => a 27 (F + t)) L (at0, mm, (a 8), (a 9), (a 10), (a 11)) = (false, at0, mm, a 8, a 9, a 10, a 11) := pS_6 hm
    have eB : 0 = b2i (pStep (fun t => a 27 (F + t)) L (at0, mm, (a 8), (a 9), (a 10), (a 11))).1 := by rw [eS]; rfl
    exact W.zret (v := 0) hx hb hr rfl (fun t ht hW => ⟨⟨0, (g, a), rfl, ⟨eB, (by rw [eS]; exact (congr (congrArg Prod.mk ((g7 _).trans g6)) aE).symm)⟩, by rw [ht]; exact hP, va_K.moved hW.alike hK, hD⟩, hS.F ht⟩) hS.2.2 dX2_readsPerson_21
  · skip
    have hm : ¬ mm = 6 := fun z => c_1 (by rw [hgm, z]; rfl)
    refine lv_aload_n hx hb dX2_readsPerson_9 rfl (lv_at hl 0 rfl) ?_
    refine lv_iload_n hx hb dX2_readsPerson_10 rfl (lv_at hl 1 rfl) ?_
    refine lv_iload_n hx hb dX2_readsPerson_11 rfl (lv_at hl 2 rfl) ?_
    refine vp_callSi ((va_runV (As := [.int (nI F), .int (nI L)]) (rest := []) ⟨hx, hb, hml, hown, hts⟩ (metX2_codeAt l dC dI ct A ex o q g a (nI F) (nI L) F L at0 rfl rfl hL hF (by omega) hg) (cwV 2 hts (lw_V q1106 q1108 qs45 q74 q1109) rfl rfl rfl (by decide +kernel) ⟨Nat.le_of_ble_eq_true rfl, Nat.le_of_ble_eq_true rfl⟩) (mPV hK hP hD _) rfl rfl hl.1 rfl (lv_room (Nat.le_of_ble_eq_true rfl)) dX2_readsPerson_12 ⟨Nat.zero_le _, Nat.zero_le _⟩)).run (fun r hw => ?_)
    have hw : r = (pcode (fun t => (a 27) (F + t)) L at0) := hw
    subst hw
    refine lv_bipush (v := 59) hx hb dX2_readsPerson_15 (by decide) ?_
    refine lv_icmp_eq (tgt := 22) hx hb dX2_readsPerson_17 (by decide) (fun c_2 => ?_) (fun c_2 => ?_)
    · skip
      refine lv_aload_n hx hb dX2_readsPerson_22 rfl (lv_at hl 0 rfl) ?_
      refine lv_dup hx hb dX2_readsPerson_23 rfl ?_
      refine m_get (v := .int (g 6)) hx hb hts hown hK hP 6 (by decide) rfl q990 rfl dX2_readsPerson_24 ?_
      refine lv_iconst (v := 1) hx hb dX2_readsPerson_27 (by decide) ?_
      refine lv_iadd hx hb dX2_readsPerson_28 ?_
      refine m_put (v := ((g 6) + 1)) hx hb hts hown hK hP hD hS 6 (by decide) rfl q990 rfl rfl (by decide +kernel) dX2_readsPerson_29 (fun H locs hP hD hS => ?_)
      have eg_3 : ((g 6) + 1) = nI (at0 + 1) := (by rw [hg]; exact nI_1 _)
      rw [eg_3] at hP hD
      refine lv_aload_n hx hb dX2_readsPerson_32 rfl (lv_at hl 0 rfl) ?_
      refine lv_iload_n hx hb dX2_readsPerson_33 rfl (lv_at hl 1 rfl) ?_
      refine lv_iload_n hx hb dX2_readsPerson_34 rfl (lv_at hl 2 rfl) ?_
      refine vp_callSi ((va_runV (As := [.int (nI F), .int (nI L)]) (rest := []) ⟨hx, hb, hml, hown, hts⟩ (metX2_codeAt l dC dI ct A ex o q (upd g 6 (nI (at0 + 1))) a (nI F) (nI L) F L (at0 + 1) rfl rfl hL hF (by omega) rfl) (cwV 2 hts (lw_V q1106 q1108 qs45 q74 q1109) rfl rfl rfl (by decide +kernel) ⟨Nat.le_of_ble_eq_true rfl, Nat.le_of_ble_eq_true rfl⟩) (mPV hK hP hD _) rfl rfl hl.1 rfl (lv_room (Nat.le_of_ble_eq_true rfl)) dX2_readsPerson_35 ⟨Nat.zero_le _, Nat.zero_le _⟩)).run (fun r hw => ?_)
      have hw : r = (pcode (fun t => (a 27) (F + t)) L (at0 + 1)) := hw
      subst hw
      refine lv_istore_n (lv' := [(3, .int (pcode (fun t => (a 27) (F + t)) L (at0 + 1))), (0, .ref o), (1, .int (nI F)), (2, .int (nI L))]) hx hb dX2_readsPerson_38 rfl hl (by decide) rfl (fun ls hl => ?_)
      have join1 : ((pcode (fun t => a 27 (F + t)) L (at0 + 1)) = 99 ∨ (pcode (fun t => a 27 (F + t)) L (at0 + 1)) = 115 ∨ (pcode (fun t => a 27 (F + t)) L (at0 + 1)) = 116) → ∀ (H : Heap) (locs : List Loc), va_P (dC, dI) clA (mW ct o q (upd g 6 (nI (at0 + 1))) a ++ ex) H → va_D A (mW ct o q (upd g 6 (nI (at0 + 1))) a ++ ex) → va_S A s.heap H locs → ∀ (ls : Array Slot), lv_has ls 8 [(3, .int (pcode (fun t => (a 27) (F + t)) L (at0 + 1))), (0, .ref o), (1, .int (nI F)), (2, .int (nI L))] → W p l e (headSpec (ws_ yX2_readsPerson cX2_readsPerson 8 (some .boolean)) ({ frames := 2, cells := 0, slots := 0, locals := 51 })).room s m ([.ref o, .int (nI F), .int (nI L)] : List Value).toArray below meth c H locs 0 0 (MQ below (va_Qi (fun (r : Int32) (u : (Nat → Int32) × (Nat → Nat → Int32)) => r = (b2i (pStep (fun t => (a 27) (F + t)) L (at0, mm, (a 8), (a 9), (a 10), (a 11))).1) ∧ u = ((upd (upd g 6 (nI (pStep (fun t => (a 27) (F + t)) L (at0, mm, (a 8), (a 9), (a 10), (a 11))).2.1)) 7 (nI (pStep (fun t => (a 27) (F + t)) L (at0, mm, (a 8), (a 9), (a 10), (a 11))).2.2.1)), (va_up (va_up (va_up (va_up a 8 ((pStep (fun t => (a 27) (F + t)) L (at0, mm, (a 8), (a 9), (a 10), (a 11))).2.2.2.1)) 9 ((pStep (fun t => (a 27) (F + t)) L (at0, mm, (a 8), (a 9), (a 10), (a 11))).2.2.2.2.1)) 10 ((pStep (fun t => (a 27) (F + t)) L (at0, mm, (a 8), (a 9), (a 10), (a 11))).2.2.2.2.2.1)) 11 ((pStep (fun t => (a 27) (F + t)) L (at0, mm, (a 8), (a 9), (a 10), (a 11))).2.2.2.2.2.2)))) (mB dC dI ct A ex o q) A) ([.ref o, .int (nI F), .int (nI L)] : List Value).toArray s 0 0 A) (F0 m 59 ls []) := by
        intro  hlett H locs hP hD hS ls hl
        refine lv_aload_n hx hb dX2_readsPerson_59 rfl (lv_at hl 1 rfl) ?_
        refine lv_dup hx hb dX2_readsPerson_60 rfl ?_
        refine m_get (v := .int (nI (at0 + 1))) hx hb hts hown hK hP 6 (by decide) rfl q990 rfl dX2_readsPerson_61 ?_
        refine lv_iconst (v := 1) hx hb dX2_readsPerson_64 (by decide) ?_
        refine lv_iadd hx hb dX2_readsPerson_65 ?_
        refine m_put (v := ((nI (at0 + 1)) + 1)) hx hb hts hown hK hP hD hS 6 (by decide) rfl q990 rfl rfl (by decide +kernel) dX2_readsPerson_66 (fun H locs hP hD hS => ?_)
        have eW_4 : ∀ (zg6 : Int32)  (zn : Int32), mW ct o q (upd (upd g 6 zg6) 6 zn) a ++ ex = mW ct o q (upd g 6 zn) a ++ ex := fun _ _ => rfl
        have hP : va_P (dC, dI) clA (mW ct o q (upd g 6 ((nI (at0 + 1)) + 1)) a ++ ex) H := Eq.mp (congrArg (fun w => va_P (dC, dI) clA w H) (eW_4 (nI (at0 + 1)) ((nI (at0 + 1)) + 1))) hP
        have hD : va_D A (mW ct o q (upd g 6 ((nI (at0 + 1)) + 1)) a ++ ex) := Eq.mp (congrArg (fun w => va_D A w) (eW_4 (nI (at0 + 1)) ((nI (at0 + 1)) + 1))) hD
        have eg_5 : ((nI (at0 + 1)) + 1) = nI (at0 + 2) := (nI_1 _)
        rw [eg_5] at hP hD
        refine lv_aload_n hx hb dX2_readsPerson_69 rfl (lv_at hl 1 rfl) ?_
        refine lv_iload_n hx hb dX2_readsPerson_70 rfl (lv_at hl 2 rfl) ?_
        refine lv_iload_n hx hb dX2_readsPerson_71 rfl (lv_at hl 3 rfl) ?_
        refine lv_iconst (v := 0) hx hb dX2_readsPerson_72 (by decide) ?_
        refine lv_bipush (v := 6) hx hb dX2_readsPerson_73 (by decide) ?_
        refine va_calli (va_runV (As := [.int (nI F), .int (nI L), .int 0, .int 6]) (rest := []) ⟨hx, hb, hml, hown, hts⟩ (metX2_figure l dC dI ct A ex o q (upd g 6 (nI (at0 + 2))) a (nI F) (nI L) 0 6 F L (at0 + 2) rfl rfl hL hF (by omega) rfl) (cwV 4 hts (lw_V q1114 q1116 qs47 q74 q1117) rfl rfl rfl (by decide +kernel) ⟨Nat.le_of_ble_eq_true rfl, Nat.le_of_ble_eq_true rfl⟩) (mPV hK hP hD _) rfl rfl hl.1 rfl (lv_room (Nat.le_of_ble_eq_true rfl)) dX2_readsPerson_75 ⟨Nat.zero_le _, Nat.zero_le _⟩) hS (fun q _ h => h) (fun q h => h) (fun r u t H1 locs ht hvm hw hB hz1 hk1 hS => ?_)
        obtain ⟨hw, hw2⟩ := hw
        have hw : r = (dgv (pcode (fun t => (a 27) (F + t)) L (at0 + 2)) 0 6) := hw
        subst hw
        subst hw2
        obtain ⟨hP, -, hD⟩ := hB
        rw [ht] at hP
        generalize H1 = H at hP hS ⊢
        have hP : va_P (dC, dI) clA (mW ct o q (upd g 6 (nI (at0 + 2 + dgn (pcode (fun t => (a 27) (F + t)) L (at0 + 2)) 0 6))) a ++ ex) H := hP
        have hD : va_D A (mW ct o q (upd g 6 (nI (at0 + 2 + dgn (pcode (fun t => (a 27) (F + t)) L (at0 + 2)) 0 6))) a ++ ex) := hD
        refine lv_istore (lv' := [(4, .int (dgv (pcode (fun t => (a 27) (F + t)) L (at0 + 2)) 0 6)), (3, .int (pcode (fun t => (a 27) (F + t)) L (at0 + 1))), (0, .ref o), (1, .int (nI F)), (2, .int (nI L))]) hx hb dX2_readsPerson_78 hl (by decide) rfl (fun ls hl => ?_)
        refine lv_iload hx hb dX2_readsPerson_80 (lv_at hl 0 rfl) ?_
        refine lv_if_ge (tgt := 90) hx hb dX2_readsPerson_82 (by decide) (fun c_6 => ?_) (fun c_6 => ?_)
        · skip
          have o2 : dgok (pcode (fun t => a 27 (F + t)) L (at0 + 2)) 0 6 = true := dg_pos c_6
          have eg2 : at0 + 2 + dgn (pcode (fun t => a 27 (F + t)) L (at0 + 2)) 0 6 = at0 + 3 := by rw [dgn, if_pos o2]
          rw [eg2] at hP hD
          refine lv_aload_n hx hb dX2_readsPerson_90 rfl (lv_at hl 2 rfl) ?_
          refine lv_iload_n hx hb dX2_readsPerson_91 rfl (lv_at hl 3 rfl) ?_
          refine lv_iload_n hx hb dX2_readsPerson_92 rfl (lv_at hl 4 rfl) ?_
          refine lv_iconst (v := 0) hx hb dX2_readsPerson_93 (by decide) ?_
          have join2 : ∀ (hv : Int32), hv = (if dgv (pcode (fun t => a 27 (F + t)) L (at0 + 2)) 0 6 = 6 then 3 else 9) → ∀ (H : Heap) (locs : List Loc), va_P (dC, dI) clA (mW ct o q (upd g 6 (nI (at0 + 3))) a ++ ex) H → va_D A (mW ct o q (upd g 6 (nI (at0 + 3))) a ++ ex) → va_S A s.heap H locs → ∀ (ls : Array Slot), lv_has ls 8 [(4, .int (dgv (pcode (fun t => (a 27) (F + t)) L (at0 + 2)) 0 6)), (3, .int (pcode (fun t => (a 27) (F + t)) L (at0 + 1))), (0, .ref o), (1, .int (nI F)), (2, .int (nI L))] → W p l e (headSpec (ws_ yX2_readsPerson cX2_readsPerson 8 (some .boolean)) ({ frames := 2, cells := 0, slots := 0, locals := 51 })).room s m ([.ref o, .int (nI F), .int (nI L)] : List Value).toArray below meth c H locs 0 0 (MQ below (va_Qi (fun (r : Int32) (u : (Nat → Int32) × (Nat → Nat → Int32)) => r = (b2i (pStep (fun t => (a 27) (F + t)) L (at0, mm, (a 8), (a 9), (a 10), (a 11))).1) ∧ u = ((upd (upd g 6 (nI (pStep (fun t => (a 27) (F + t)) L (at0, mm, (a 8), (a 9), (a 10), (a 11))).2.1)) 7 (nI (pStep (fun t => (a 27) (F + t)) L (at0, mm, (a 8), (a 9), (a 10), (a 11))).2.2.1)), (va_up (va_up (va_up (va_up a 8 ((pStep (fun t => (a 27) (F + t)) L (at0, mm, (a 8), (a 9), (a 10), (a 11))).2.2.2.1)) 9 ((pStep (fun t => (a 27) (F + t)) L (at0, mm, (a 8), (a 9), (a 10), (a 11))).2.2.2.2.1)) 10 ((pStep (fun t => (a 27) (F + t)) L (at0, mm, (a 8), (a 9), (a 10), (a 11))).2.2.2.2.2.1)) 11 ((pStep (fun t => (a 27) (F + t)) L (at0, mm, (a 8), (a 9), (a 10), (a 11))).2.2.2.2.2.2)))) (mB dC dI ct A ex o q) A) ([.ref o, .int (nI F), .int (nI L)] : List Value).toArray s 0 0 A) (F0 m 107 ls [.int hv, .int 0, .int (nI L), .int (nI F), .ref o]) := by
            intro hv ehv H locs hP hD hS ls hl
            subst ehv
            refine va_calli (va_runV (As := [.int (nI F), .int (nI L), .int 0, .int (if dgv (pcode (fun t => a 27 (F + t)) L (at0 + 2)) 0 6 = 6 then 3 else 9)]) (rest := []) ⟨hx, hb, hml, hown, hts⟩ (metX2_figure l dC dI ct A ex o q (upd g 6 (nI (at0 + 3))) a (nI F) (nI L) 0 (if dgv (pcode (fun t => a 27 (F + t)) L (at0 + 2)) 0 6 = 6 then 3 else 9) F L (at0 + 3) rfl rfl hL hF (by omega) rfl) (cwV 4 hts (lw_V q1114 q1116 qs47 q74 q1117) rfl rfl rfl (by decide +kernel) ⟨Nat.le_of_ble_eq_true rfl, Nat.le_of_ble_eq_true rfl⟩) (mPV hK hP hD _) rfl rfl hl.1 rfl (lv_room (Nat.le_of_ble_eq_true rfl)) dX2_readsPerson_107 ⟨Nat.zero_le _, Nat.zero_le _⟩) hS (fun q _ h => h) (fun q h => h) (fun r u t H1 locs ht hvm hw hB hz1 hk1 hS => ?_)
            obtain ⟨hw, hw2⟩ := hw
            have hw : r = (dgv (pcode (fun t => (a 27) (F + t)) L (at0 + 3)) 0 (if dgv (pcode (fun t => a 27 (F + t)) L (at0 + 2)) 0 6 = 6 then 3 else 9)) := hw
            subst hw
            subst hw2
            obtain ⟨hP, -, hD⟩ := hB
            rw [ht] at hP
            generalize H1 = H at hP hS ⊢
            have hP : va_P (dC, dI) clA (mW ct o q (upd g 6 (nI (at0 + 3 + dgn (pcode (fun t => (a 27) (F + t)) L (at0 + 3)) 0 (if dgv (pcode (fun t => a 27 (F + t)) L (at0 + 2)) 0 6 = 6 then 3 else 9)))) a ++ ex) H := hP
            have hD : va_D A (mW ct o q (upd g 6 (nI (at0 + 3 + dgn (pcode (fun t => (a 27) (F + t)) L (at0 + 3)) 0 (if dgv (pcode (fun t => a 27 (F + t)) L (at0 + 2)) 0 6 = 6 then 3 else 9)))) a ++ ex) := hD
            refine lv_istore (lv' := [(5, .int (dgv (pcode (fun t => (a 27) (F + t)) L (at0 + 3)) 0 (if dgv (pcode (fun t => a 27 (F + t)) L (at0 + 2)) 0 6 = 6 then 3 else 9))), (4, .int (dgv (pcode (fun t => (a 27) (F + t)) L (at0 + 2)) 0 6)), (3, .int (pcode (fun t => (a 27) (F + t)) L (at0 + 1))), (0, .ref o), (1, .int (nI F)), (2, .int (nI L))]) hx hb dX2_readsPerson_110 hl (by decide) rfl (fun ls hl => ?_)
            refine lv_iload hx hb dX2_readsPerson_112 (lv_at hl 0 rfl) ?_
            refine lv_if_ge (tgt := 122) hx hb dX2_readsPerson_114 (by decide) (fun c_7 => ?_) (fun c_7 => ?_)
            · skip
              have o3 : dgok (pcode (fun t => a 27 (F + t)) L (at0 + 3)) 0 (if dgv (pcode (fun t => a 27 (F + t)) L (at0 + 2)) 0 6 = 6 then 3 else 9) = true := dg_pos c_7
              have eg3 : at0 + 3 + dgn (pcode (fun t => a 27 (F + t)) L (at0 + 3)) 0 (if dgv (pcode (fun t => a 27 (F + t)) L (at0 + 2)) 0 6 = 6 then 3 else 9) = at0 + 4 := by rw [dgn, if_pos o3]
              rw [eg3] at hP hD
              refine lv_aload_n hx hb dX2_readsPerson_122 rfl (lv_at hl 3 rfl) ?_
              refine lv_iload_n hx hb dX2_readsPerson_123 rfl (lv_at hl 4 rfl) ?_
              refine lv_iload_n hx hb dX2_readsPerson_124 rfl (lv_at hl 5 rfl) ?_
              refine lv_iconst (v := 0) hx hb dX2_readsPerson_125 (by decide) ?_
              refine lv_bipush (v := 6) hx hb dX2_readsPerson_126 (by decide) ?_
              refine va_calli (va_runV (As := [.int (nI F), .int (nI L), .int 0, .int 6]) (rest := []) ⟨hx, hb, hml, hown, hts⟩ (metX2_figure l dC dI ct A ex o q (upd g 6 (nI (at0 + 4))) a (nI F) (nI L) 0 6 F L (at0 + 4) rfl rfl hL hF (by omega) rfl) (cwV 4 hts (lw_V q1114 q1116 qs47 q74 q1117) rfl rfl rfl (by decide +kernel) ⟨Nat.le_of_ble_eq_true rfl, Nat.le_of_ble_eq_true rfl⟩) (mPV hK hP hD _) rfl rfl hl.1 rfl (lv_room (Nat.le_of_ble_eq_true rfl)) dX2_readsPerson_128 ⟨Nat.zero_le _, Nat.zero_le _⟩) hS (fun q _ h => h) (fun q h => h) (fun r u t H1 locs ht hvm hw hB hz1 hk1 hS => ?_)
              obtain ⟨hw, hw2⟩ := hw
              have hw : r = (dgv (pcode (fun t => (a 27) (F + t)) L (at0 + 4)) 0 6) := hw
              subst hw
              subst hw2
              obtain ⟨hP, -, hD⟩ := hB
              rw [ht] at hP
              generalize H1 = H at hP hS ⊢
              have hP : va_P (dC, dI) clA (mW ct o q (upd g 6 (nI (at0 + 4 + dgn (pcode (fun t => (a 27) (F + t)) L (at0 + 4)) 0 6))) a ++ ex) H := hP
              have hD : va_D A (mW ct o q (upd g 6 (nI (at0 + 4 + dgn (pcode (fun t => (a 27) (F + t)) L (at0 + 4)) 0 6))) a ++ ex) := hD
              refine lv_istore (lv' := [(6, .int (dgv (pcode (fun t => (a 27) (F + t)) L (at0 + 4)) 0 6)), (5, .int (dgv (pcode (fun t => (a 27) (F + t)) L (at0 + 3)) 0 (if dgv (pcode (fun t => a 27 (F + t)) L (at0 + 2)) 0 6 = 6 then 3 else 9))), (4, .int (dgv (pcode (fun t => (a 27) (F + t)) L (at0 + 2)) 0 6)), (3, .int (pcode (fun t => (a 27) (F + t)) L (at0 + 1))), (0, .ref o), (1, .int (nI F)), (2, .int (nI L))]) hx hb dX2_readsPerson_131 hl (by decide) rfl (fun ls hl => ?_)
              refine lv_iload hx hb dX2_readsPerson_133 (lv_at hl 0 rfl) ?_
              refine lv_if_ge (tgt := 143) hx hb dX2_readsPerson_135 (by decide) (fun c_8 => ?_) (fun c_8 => ?_)
              · skip
                have o4 : dgok (pcode (fun t => a 27 (F + t)) L (at0 + 4)) 0 6 = true := dg_pos c_8
                have eg4 : at0 + 4 + dgn (pcode (fun t => a 27 (F + t)) L (at0 + 4)) 0 6 = at0 + 5 := by rw [dgn, if_pos o4]
                rw [eg4] at hP hD
                refine lv_aload_n hx hb dX2_readsPerson_143 rfl (lv_at hl 4 rfl) ?_
                refine lv_iload_n hx hb dX2_readsPerson_144 rfl (lv_at hl 5 rfl) ?_
                refine lv_iload_n hx hb dX2_readsPerson_145 rfl (lv_at hl 6 rfl) ?_
                refine lv_iconst (v := 1) hx hb dX2_readsPerson_146 (by decide) ?_
                refine lv_bipush (v := 9) hx hb dX2_readsPerson_147 (by decide) ?_
                refine va_calli (va_runV (As := [.int (nI F), .int (nI L), .int 1, .int 9]) (rest := []) ⟨hx, hb, hml, hown, hts⟩ (metX2_figure l dC dI ct A ex o q (upd g 6 (nI (at0 + 5))) a (nI F) (nI L) 1 9 F L (at0 + 5) rfl rfl hL hF (by omega) rfl) (cwV 4 hts (lw_V q1114 q1116 qs47 q74 q1117) rfl rfl rfl (by decide +kernel) ⟨Nat.le_of_ble_eq_true rfl, Nat.le_of_ble_eq_true rfl⟩) (mPV hK hP hD _) rfl rfl hl.1 rfl (lv_room (Nat.le_of_ble_eq_true rfl)) dX2_readsPerson_149 ⟨Nat.zero_le _, Nat.zero_le _⟩) hS (fun q _ h => h) (fun q h => h) (fun r u t H1 locs ht hvm hw hB hz1 hk1 hS => ?_)
                obtain ⟨hw, hw2⟩ := hw
                have hw : r = (dgv (pcode (fun t => (a 27) (F + t)) L (at0 + 5)) 1 9) := hw
                subst hw
                subst hw2
                obtain ⟨hP, -, hD⟩ := hB
                rw [ht] at hP
                generalize H1 = H at hP hS ⊢
                have hP : va_P (dC, dI) clA (mW ct o q (upd g 6 (nI (at0 + 5 + dgn (pcode (fun t => (a 27) (F + t)) L (at0 + 5)) 1 9))) a ++ ex) H := hP
                have hD : va_D A (mW ct o q (upd g 6 (nI (at0 + 5 + dgn (pcode (fun t => (a 27) (F + t)) L (at0 + 5)) 1 9))) a ++ ex) := hD
                refine lv_istore (lv' := [(7, .int (dgv (pcode (fun t => (a 27) (F + t)) L (at0 + 5)) 1 9)), (6, .int (dgv (pcode (fun t => (a 27) (F + t)) L (at0 + 4)) 0 6)), (5, .int (dgv (pcode (fun t => (a 27) (F + t)) L (at0 + 3)) 0 (if dgv (pcode (fun t => a 27 (F + t)) L (at0 + 2)) 0 6 = 6 then 3 else 9))), (4, .int (dgv (pcode (fun t => (a 27) (F + t)) L (at0 + 2)) 0 6)), (3, .int (pcode (fun t => (a 27) (F + t)) L (at0 + 1))), (0, .ref o), (1, .int (nI F)), (2, .int (nI L))]) hx hb dX2_readsPerson_152 hl (by decide) rfl (fun ls hl => ?_)
                refine lv_iload hx hb dX2_readsPerson_154 (lv_at hl 0 rfl) ?_
                refine lv_if_ge (tgt := 161) hx hb dX2_readsPerson_156 (by decide) (fun c_9 => ?_) (fun c_9 => ?_)
                · skip
                  have o5 : dgok (pcode (fun t => a 27 (F + t)) L (at0 + 5)) 1 9 = true := dg_pos c_9
                  have eg5 : at0 + 5 + dgn (pcode (fun t => a 27 (F + t)) L (at0 + 5)) 1 9 = at0 + 6 := by rw [dgn, if_pos o5]
                  rw [eg5] at hP hD
                  refine lv_aload_n hx hb dX2_readsPerson_161 rfl (lv_at hl 5 rfl) ?_
                  refine m_get (v := .ref (q 8)) hx hb hts hown hK hP 8 (by decide) rfl q992 rfl dX2_readsPerson_162 ?_
                  refine lv_aload_n hx hb dX2_readsPerson_165 rfl (lv_at hl 5 rfl) ?_
                  refine m_get (v := .int (g 7)) hx hb hts hown hK hP 7 (by decide) rfl q991 rfl dX2_readsPerson_166 ?_
                  refine lv_iload_n hx hb dX2_readsPerson_169 rfl (lv_at hl 4 rfl) ?_
                  refine lv_bipush (v := 99) hx hb dX2_readsPerson_170 (by decide) ?_
                  refine lv_icmp_ne (tgt := 179) hx hb dX2_readsPerson_172 (by decide) (fun c_10 => ?_) (fun c_10 => ?_)
                  · skip
                    refine lv_iload_n hx hb dX2_readsPerson_179 rfl (lv_at hl 4 rfl) ?_
                    refine lv_bipush (v := 115) hx hb dX2_readsPerson_180 (by decide) ?_
                    refine lv_icmp_ne (tgt := 189) hx hb dX2_readsPerson_182 (by decide) (fun c_11 => ?_) (fun c_11 => ?_)
                    · skip
                      refine lv_iconst (v := 2) hx hb dX2_readsPerson_189 (by decide) ?_
                      refine m_ist (x := 2) hx hb hK hP hD hS (mWa8 _ _ _ _ _ _) (mWs8 _ _ _ _ _ _) (a 8) rfl mm hgm (by omega) (by decide) dX2_readsPerson_190 (fun H locs hP hD hS => ?_)
                      refine lv_aload_n hx hb dX2_readsPerson_191 rfl (lv_at hl 5 rfl) ?_
                      refine m_get (v := .ref (q 9)) hx hb hts hown hK hP 9 (by decide) rfl q993 rfl dX2_readsPerson_192 ?_
                      refine lv_aload_n hx hb dX2_readsPerson_195 rfl (lv_at hl 5 rfl) ?_
                      refine m_get (v := .int (g 7)) hx hb hts hown hK hP 7 (by decide) rfl q991 rfl dX2_readsPerson_196 ?_
                      refine lv_bipush (v := 10) hx hb dX2_readsPerson_199 (by decide) ?_
                      refine lv_iload hx hb dX2_readsPerson_201 (lv_at hl 3 rfl) ?_
                      refine lv_imul hx hb dX2_readsPerson_203 ?_
                      refine lv_iload hx hb dX2_readsPerson_204 (lv_at hl 2 rfl) ?_
                      refine lv_iadd hx hb dX2_readsPerson_206 ?_
                      refine m_ist (x := ((10 * (dgv (pcode (fun t => (a 27) (F + t)) L (at0 + 2)) 0 6)) + (dgv (pcode (fun t => (a 27) (F + t)) L (at0 + 3)) 0 (if dgv (pcode (fun t => a 27 (F + t)) L (at0 + 2)) 0 6 = 6 then 3 else 9)))) hx hb hK hP hD hS (mWa9 _ _ _ _ _ _) (mWs9 _ _ _ _ _ _) (a 9) rfl mm hgm (by omega) (by decide) dX2_readsPerson_207 (fun H locs hP hD hS => ?_)
                      refine lv_aload_n hx hb dX2_readsPerson_208 rfl (lv_at hl 5 rfl) ?_
                      refine m_get (v := .ref (q 10)) hx hb hts hown hK hP 10 (by decide) rfl q994 rfl dX2_readsPerson_209 ?_
                      refine lv_aload_n hx hb dX2_readsPerson_212 rfl (lv_at hl 5 rfl) ?_
                      refine m_get (v := .int (g 7)) hx hb hts hown hK hP 7 (by decide) rfl q991 rfl dX2_readsPerson_213 ?_
                      refine lv_iload hx hb dX2_readsPerson_216 (lv_at hl 1 rfl) ?_
                      refine m_ist (x := (dgv (pcode (fun t => (a 27) (F + t)) L (at0 + 4)) 0 6)) hx hb hK hP hD hS (mWa10 _ _ _ _ _ _) (mWs10 _ _ _ _ _ _) (a 10) rfl mm hgm (by omega) (by decide) dX2_readsPerson_218 (fun H locs hP hD hS => ?_)
                      refine lv_aload_n hx hb dX2_readsPerson_219 rfl (lv_at hl 5 rfl) ?_
                      refine m_get (v := .ref (q 11)) hx hb hts hown hK hP 11 (by decide) rfl q995 rfl dX2_readsPerson_220 ?_
                      refine lv_aload_n hx hb dX2_readsPerson_223 rfl (lv_at hl 5 rfl) ?_
                      refine m_get (v := .int (g 7)) hx hb hts hown hK hP 7 (by decide) rfl q991 rfl dX2_readsPerson_224 ?_
                      refine lv_iload hx hb dX2_readsPerson_227 (lv_at hl 0 rfl) ?_
                      refine m_ist (x := (dgv (pcode (fun t => (a 27) (F + t)) L (at0 + 5)) 1 9)) hx hb hK hP hD hS (mWa11 _ _ _ _ _ _) (mWs11 _ _ _ _ _ _) (a 11) rfl mm hgm (by omega) (by decide) dX2_readsPerson_229 (fun H locs hP hD hS => ?_)
                      refine lv_aload_n hx hb dX2_readsPerson_230 rfl (lv_at hl 5 rfl) ?_
                      refine lv_dup hx hb dX2_readsPerson_231 rfl ?_
                      refine m_get (v := .int (g 7)) hx hb hts hown hK hP 7 (by decide) rfl q991 rfl dX2_readsPerson_232 ?_
                      refine lv_iconst (v := 1) hx hb dX2_readsPerson_235 (by decide) ?_
                      refine lv_iadd hx hb dX2_readsPerson_236 ?_
                      refine m_put (v := ((g 7) + 1)) hx hb hts hown hK hP hD hS 7 (by decide) rfl q991 rfl rfl (by decide +kernel) dX2_readsPerson_237 (fun H locs hP hD hS => ?_)
                      refine lv_iconst (v := 1) hx hb dX2_readsPerson_240 (by decide) ?_
                      have eS : pStep (fun t => a 27 (F + t)) L (at0, mm, (a 8), (a 9), (a 10), (a 11)) = (true, at0 + 1 + 5, mm + 1, _, _, _, _) := pS_t hm c_2 (pP_5 hlett o2 o3 o4 o5 (k := 2) ((if_neg c_10).trans (if_neg c_11)))
                      have eB : 1 = b2i (pStep (fun t => a 27 (F + t)) L (at0, mm, (a 8), (a 9), (a 10), (a 11))).1 := by rw [eS]; rfl
                      exact W.zret (v := 1) hx hb hr rfl (fun t ht hW => ⟨⟨1, ((upd (upd g 6 (nI (at0 + 6))) 7 ((g 7) + 1)), (va_up (va_up (va_up (va_up a 8 (upd (a 8) mm 2)) 9 (upd (a 9) mm ((10 * (dgv (pcode (fun t => (a 27) (F + t)) L (at0 + 2)) 0 6)) + (dgv (pcode (fun t => (a 27) (F + t)) L (at0 + 3)) 0 (if dgv (pcode (fun t => a 27 (F + t)) L (at0 + 2)) 0 6 = 6 then 3 else 9))))) 10 (upd (a 10) mm (dgv (pcode (fun t => (a 27) (F + t)) L (at0 + 4)) 0 6))) 11 (upd (a 11) mm (dgv (pcode (fun t => (a 27) (F + t)) L (at0 + 5)) 1 9)))), rfl, ⟨eB, (by rw [eS]; exact congrArg (fun z => (upd (upd g 6 (nI (at0 + 6))) 7 z, _)) (by rw [hgm]; exact nI_1 mm))⟩, by rw [ht]; exact hP, va_K.moved hW.alike hK, hD⟩, hS.F ht⟩) hS.2.2 dX2_readsPerson_241
                    · skip
                      refine lv_iconst (v := 1) hx hb dX2_readsPerson_185 (by decide) ?_
                      refine lv_goto (tgt := 190) hx hb dX2_readsPerson_186 (by decide) ?_
                      refine m_ist (x := 1) hx hb hK hP hD hS (mWa8 _ _ _ _ _ _) (mWs8 _ _ _ _ _ _) (a 8) rfl mm hgm (by omega) (by decide) dX2_readsPerson_190 (fun H locs hP hD hS => ?_)
                      refine lv_aload_n hx hb dX2_readsPerson_191 rfl (lv_at hl 5 rfl) ?_
                      refine m_get (v := .ref (q 9)) hx hb hts hown hK hP 9 (by decide) rfl q993 rfl dX2_readsPerson_192 ?_
                      refine lv_aload_n hx hb dX2_readsPerson_195 rfl (lv_at hl 5 rfl) ?_
                      refine m_get (v := .int (g 7)) hx hb hts hown hK hP 7 (by decide) rfl q991 rfl dX2_readsPerson_196 ?_
                      refine lv_bipush (v := 10) hx hb dX2_readsPerson_199 (by decide) ?_
                      refine lv_iload hx hb dX2_readsPerson_201 (lv_at hl 3 rfl) ?_
                      refine lv_imul hx hb dX2_readsPerson_203 ?_
                      refine lv_iload hx hb dX2_readsPerson_204 (lv_at hl 2 rfl) ?_
                      refine lv_iadd hx hb dX2_readsPerson_206 ?_
                      refine m_ist (x := ((10 * (dgv (pcode (fun t => (a 27) (F + t)) L (at0 + 2)) 0 6)) + (dgv (pcode (fun t => (a 27) (F + t)) L (at0 + 3)) 0 (if dgv (pcode (fun t => a 27 (F + t)) L (at0 + 2)) 0 6 = 6 then 3 else 9)))) hx hb hK hP hD hS (mWa9 _ _ _ _ _ _) (mWs9 _ _ _ _ _ _) (a 9) rfl mm hgm (by omega) (by decide) dX2_readsPerson_207 (fun H locs hP hD hS => ?_)
                      refine lv_aload_n hx hb dX2_readsPerson_208 rfl (lv_at hl 5 rfl) ?_
                      refine m_get (v := .ref (q 10)) hx hb hts hown hK hP 10 (by decide) rfl q994 rfl dX2_readsPerson_209 ?_
                      refine lv_aload_n hx hb dX2_readsPerson_212 rfl (lv_at hl 5 rfl) ?_
                      refine m_get (v := .int (g 7)) hx hb hts hown hK hP 7 (by decide) rfl q991 rfl dX2_readsPerson_213 ?_
                      refine lv_iload hx hb dX2_readsPerson_216 (lv_at hl 1 rfl) ?_
                      refine m_ist (x := (dgv (pcode (fun t => (a 27) (F + t)) L (at0 + 4)) 0 6)) hx hb hK hP hD hS (mWa10 _ _ _ _ _ _) (mWs10 _ _ _ _ _ _) (a 10) rfl mm hgm (by omega) (by decide) dX2_readsPerson_218 (fun H locs hP hD hS => ?_)
                      refine lv_aload_n hx hb dX2_readsPerson_219 rfl (lv_at hl 5 rfl) ?_
                      refine m_get (v := .ref (q 11)) hx hb hts hown hK hP 11 (by decide) rfl q995 rfl dX2_readsPerson_220 ?_
                      refine lv_aload_n hx hb dX2_readsPerson_223 rfl (lv_at hl 5 rfl) ?_
                      refine m_get (v := .int (g 7)) hx hb hts hown hK hP 7 (by decide) rfl q991 rfl dX2_readsPerson_224 ?_
                      refine lv_iload hx hb dX2_readsPerson_227 (lv_at hl 0 rfl) ?_
                      refine m_ist (x := (dgv (pcode (fun t => (a 27) (F + t)) L (at0 + 5)) 1 9)) hx hb hK hP hD hS (mWa11 _ _ _ _ _ _) (mWs11 _ _ _ _ _ _) (a 11) rfl mm hgm (by omega) (by decide) dX2_readsPerson_229 (fun H locs hP hD hS => ?_)
                      refine lv_aload_n hx hb dX2_readsPerson_230 rfl (lv_at hl 5 rfl) ?_
                      refine lv_dup hx hb dX2_readsPerson_231 rfl ?_
                      refine m_get (v := .int (g 7)) hx hb hts hown hK hP 7 (by decide) rfl q991 rfl dX2_readsPerson_232 ?_
                      refine lv_iconst (v := 1) hx hb dX2_readsPerson_235 (by decide) ?_
                      refine lv_iadd hx hb dX2_readsPerson_236 ?_
                      refine m_put (v := ((g 7) + 1)) hx hb hts hown hK hP hD hS 7 (by decide) rfl q991 rfl rfl (by decide +kernel) dX2_readsPerson_237 (fun H locs hP hD hS => ?_)
                      refine lv_iconst (v := 1) hx hb dX2_readsPerson_240 (by decide) ?_
                      have eS : pStep (fun t => a 27 (F + t)) L (at0, mm, (a 8), (a 9), (a 10), (a 11)) = (true, at0 + 1 + 5, mm + 1, _, _, _, _) := pS_t hm c_2 (pP_5 hlett o2 o3 o4 o5 (k := 1) ((if_neg c_10).trans (if_pos c_11)))
                      have eB : 1 = b2i (pStep (fun t => a 27 (F + t)) L (at0, mm, (a 8), (a 9), (a 10), (a 11))).1 := by rw [eS]; rfl
                      exact W.zret (v := 1) hx hb hr rfl (fun t ht hW => ⟨⟨1, ((upd (upd g 6 (nI (at0 + 6))) 7 ((g 7) + 1)), (va_up (va_up (va_up (va_up a 8 (upd (a 8) mm 1)) 9 (upd (a 9) mm ((10 * (dgv (pcode (fun t => (a 27) (F + t)) L (at0 + 2)) 0 6)) + (dgv (pcode (fun t => (a 27) (F + t)) L (at0 + 3)) 0 (if dgv (pcode (fun t => a 27 (F + t)) L (at0 + 2)) 0 6 = 6 then 3 else 9))))) 10 (upd (a 10) mm (dgv (pcode (fun t => (a 27) (F + t)) L (at0 + 4)) 0 6))) 11 (upd (a 11) mm (dgv (pcode (fun t => (a 27) (F + t)) L (at0 + 5)) 1 9)))), rfl, ⟨eB, (by rw [eS]; exact congrArg (fun z => (upd (upd g 6 (nI (at0 + 6))) 7 z, _)) (by rw [hgm]; exact nI_1 mm))⟩, by rw [ht]; exact hP, va_K.moved hW.alike hK, hD⟩, hS.F ht⟩) hS.2.2 dX2_readsPerson_241
                  · skip
                    refine lv_iconst (v := 0) hx hb dX2_readsPerson_175 (by decide) ?_
                    refine lv_goto (tgt := 190) hx hb dX2_readsPerson_176 (by decide) ?_
                    refine m_ist (x := 0) hx hb hK hP hD hS (mWa8 _ _ _ _ _ _) (mWs8 _ _ _ _ _ _) (a 8) rfl mm hgm (by omega) (by decide) dX2_readsPerson_190 (fun H locs hP hD hS => ?_)
                    refine lv_aload_n hx hb dX2_readsPerson_191 rfl (lv_at hl 5 rfl) ?_
                    refine m_get (v := .ref (q 9)) hx hb hts hown hK hP 9 (by decide) rfl q993 rfl dX2_readsPerson_192 ?_
                    refine lv_aload_n hx hb dX2_readsPerson_195 rfl (lv_at hl 5 rfl) ?_
                    refine m_get (v := .int (g 7)) hx hb hts hown hK hP 7 (by decide) rfl q991 rfl dX2_readsPerson_196 ?_
                    refine lv_bipush (v := 10) hx hb dX2_readsPerson_199 (by decide) ?_
                    refine lv_iload hx hb dX2_readsPerson_201 (lv_at hl 3 rfl) ?_
                    refine lv_imul hx hb dX2_readsPerson_203 ?_
                    refine lv_iload hx hb dX2_readsPerson_204 (lv_at hl 2 rfl) ?_
                    refine lv_iadd hx hb dX2_readsPerson_206 ?_
                    refine m_ist (x := ((10 * (dgv (pcode (fun t => (a 27) (F + t)) L (at0 + 2)) 0 6)) + (dgv (pcode (fun t => (a 27) (F + t)) L (at0 + 3)) 0 (if dgv (pcode (fun t => a 27 (F + t)) L (at0 + 2)) 0 6 = 6 then 3 else 9)))) hx hb hK hP hD hS (mWa9 _ _ _ _ _ _) (mWs9 _ _ _ _ _ _) (a 9) rfl mm hgm (by omega) (by decide) dX2_readsPerson_207 (fun H locs hP hD hS => ?_)
                    refine lv_aload_n hx hb dX2_readsPerson_208 rfl (lv_at hl 5 rfl) ?_
                    refine m_get (v := .ref (q 10)) hx hb hts hown hK hP 10 (by decide) rfl q994 rfl dX2_readsPerson_209 ?_
                    refine lv_aload_n hx hb dX2_readsPerson_212 rfl (lv_at hl 5 rfl) ?_
                    refine m_get (v := .int (g 7)) hx hb hts hown hK hP 7 (by decide) rfl q991 rfl dX2_readsPerson_213 ?_
                    refine lv_iload hx hb dX2_readsPerson_216 (lv_at hl 1 rfl) ?_
                    refine m_ist (x := (dgv (pcode (fun t => (a 27) (F + t)) L (at0 + 4)) 0 6)) hx hb hK hP hD hS (mWa10 _ _ _ _ _ _) (mWs10 _ _ _ _ _ _) (a 10) rfl mm hgm (by omega) (by decide) dX2_readsPerson_218 (fun H locs hP hD hS => ?_)
                    refine lv_aload_n hx hb dX2_readsPerson_219 rfl (lv_at hl 5 rfl) ?_
                    refine m_get (v := .ref (q 11)) hx hb hts hown hK hP 11 (by decide) rfl q995 rfl dX2_readsPerson_220 ?_
                    refine lv_aload_n hx hb dX2_readsPerson_223 rfl (lv_at hl 5 rfl) ?_
                    refine m_get (v := .int (g 7)) hx hb hts hown hK hP 7 (by decide) rfl q991 rfl dX2_readsPerson_224 ?_
                    refine lv_iload hx hb dX2_readsPerson_227 (lv_at hl 0 rfl) ?_
                    refine m_ist (x := (dgv (pcode (fun t => (a 27) (F + t)) L (at0 + 5)) 1 9)) hx hb hK hP hD hS (mWa11 _ _ _ _ _ _) (mWs11 _ _ _ _ _ _) (a 11) rfl mm hgm (by omega) (by decide) dX2_readsPerson_229 (fun H locs hP hD hS => ?_)
                    refine lv_aload_n hx hb dX2_readsPerson_230 rfl (lv_at hl 5 rfl) ?_
                    refine lv_dup hx hb dX2_readsPerson_231 rfl ?_
                    refine m_get (v := .int (g 7)) hx hb hts hown hK hP 7 (by decide) rfl q991 rfl dX2_readsPerson_232 ?_
                    refine lv_iconst (v := 1) hx hb dX2_readsPerson_235 (by decide) ?_
                    refine lv_iadd hx hb dX2_readsPerson_236 ?_
                    refine m_put (v := ((g 7) + 1)) hx hb hts hown hK hP hD hS 7 (by decide) rfl q991 rfl rfl (by decide +kernel) dX2_readsPerson_237 (fun H locs hP hD hS => ?_)
                    refine lv_iconst (v := 1) hx hb dX2_readsPerson_240 (by decide) ?_
                    have eS : pStep (fun t => a 27 (F + t)) L (at0, mm, (a 8), (a 9), (a 10), (a 11)) = (true, at0 + 1 + 5, mm + 1, _, _, _, _) := pS_t hm c_2 (pP_5 hlett o2 o3 o4 o5 (k := 0) (if_pos c_10))
                    have eB : 1 = b2i (pStep (fun t => a 27 (F + t)) L (at0, mm, (a 8), (a 9), (a 10), (a 11))).1 := by rw [eS]; rfl
                    exact W.zret (v := 1) hx hb hr rfl (fun t ht hW => ⟨⟨1, ((upd (upd g 6 (nI (at0 + 6))) 7 ((g 7) + 1)), (va_up (va_up (va_up (va_up a 8 (upd (a 8) mm 0)) 9 (upd (a 9) mm ((10 * (dgv (pcode (fun t => (a 27) (F + t)) L (at0 + 2)) 0 6)) + (dgv (pcode (fun t => (a 27) (F + t)) L (at0 + 3)) 0 (if dgv (pcode (fun t => a 27 (F + t)) L (at0 + 2)) 0 6 = 6 then 3 else 9))))) 10 (upd (a 10) mm (dgv (pcode (fun t => (a 27) (F + t)) L (at0 + 4)) 0 6))) 11 (upd (a 11) mm (dgv (pcode (fun t => (a 27) (F + t)) L (at0 + 5)) 1 9)))), rfl, ⟨eB, (by rw [eS]; exact congrArg (fun z => (upd (upd g 6 (nI (at0 + 6))) 7 z, _)) (by rw [hgm]; exact nI_1 mm))⟩, by rw [ht]; exact hP, va_K.moved hW.alike hK, hD⟩, hS.F ht⟩) hS.2.2 dX2_readsPerson_241
                · skip
                  have o5 : dgok (pcode (fun t => a 27 (F + t)) L (at0 + 5)) 1 9 = false := dg_neg (by decide) c_9
                  have eg5 : at0 + 5 + dgn (pcode (fun t => a 27 (F + t)) L (at0 + 5)) 1 9 = at0 + 5 := by rw [dgn, if_neg (by rw [o5]; decide)]
                  rw [eg5] at hP hD
                  refine lv_iconst (v := 0) hx hb dX2_readsPerson_159 (by decide) ?_
                  have eS : pStep (fun t => a 27 (F + t)) L (at0, mm, (a 8), (a 9), (a 10), (a 11)) = (false, at0 + 1 + 4, mm, a 8, a 9, a 10, a 11) := pS_f hm c_2 (pP_4 hlett o2 o3 o4 o5)
                  have eB : 0 = b2i (pStep (fun t => a 27 (F + t)) L (at0, mm, (a 8), (a 9), (a 10), (a 11))).1 := by rw [eS]; rfl
                  exact W.zret (v := 0) hx hb hr rfl (fun t ht hW => ⟨⟨0, ((upd g 6 (nI (at0 + 5))), a), rfl, ⟨eB, (by rw [eS]; exact (congr (congrArg Prod.mk (g7 _)) aE).symm)⟩, by rw [ht]; exact hP, va_K.moved hW.alike hK, hD⟩, hS.F ht⟩) hS.2.2 dX2_readsPerson_160
              · skip
                have o4 : dgok (pcode (fun t => a 27 (F + t)) L (at0 + 4)) 0 6 = false := dg_neg (by decide) c_8
                have eg4 : at0 + 4 + dgn (pcode (fun t => a 27 (F + t)) L (at0 + 4)) 0 6 = at0 + 4 := by rw [dgn, if_neg (by rw [o4]; decide)]
                rw [eg4] at hP hD
                refine lv_bipush (v := (-9)) hx hb dX2_readsPerson_138 (by decide) ?_
                refine lv_goto (tgt := 152) hx hb dX2_readsPerson_140 (by decide) ?_
                refine lv_istore (lv' := [(7, .int (-9)), (6, .int (dgv (pcode (fun t => (a 27) (F + t)) L (at0 + 4)) 0 6)), (5, .int (dgv (pcode (fun t => (a 27) (F + t)) L (at0 + 3)) 0 (if dgv (pcode (fun t => a 27 (F + t)) L (at0 + 2)) 0 6 = 6 then 3 else 9))), (4, .int (dgv (pcode (fun t => (a 27) (F + t)) L (at0 + 2)) 0 6)), (3, .int (pcode (fun t => (a 27) (F + t)) L (at0 + 1))), (0, .ref o), (1, .int (nI F)), (2, .int (nI L))]) hx hb dX2_readsPerson_152 hl (by decide) rfl (fun ls hl => ?_)
                refine lv_iload hx hb dX2_readsPerson_154 (lv_at hl 0 rfl) ?_
                refine lv_if_ge (tgt := 161) hx hb dX2_readsPerson_156 (by decide) (fun c_12 => ?_) (fun c_12 => ?_)
                · skip
                  exact absurd c_12 (by decide)
                · skip
                  refine lv_iconst (v := 0) hx hb dX2_readsPerson_159 (by decide) ?_
                  have eS : pStep (fun t => a 27 (F + t)) L (at0, mm, (a 8), (a 9), (a 10), (a 11)) = (false, at0 + 1 + 3, mm, a 8, a 9, a 10, a 11) := pS_f hm c_2 (pP_3 hlett o2 o3 o4)
                  have eB : 0 = b2i (pStep (fun t => a 27 (F + t)) L (at0, mm, (a 8), (a 9), (a 10), (a 11))).1 := by rw [eS]; rfl
                  exact W.zret (v := 0) hx hb hr rfl (fun t ht hW => ⟨⟨0, ((upd g 6 (nI (at0 + 4))), a), rfl, ⟨eB, (by rw [eS]; exact (congr (congrArg Prod.mk (g7 _)) aE).symm)⟩, by rw [ht]; exact hP, va_K.moved hW.alike hK, hD⟩, hS.F ht⟩) hS.2.2 dX2_readsPerson_160
            · skip
              have o3 : dgok (pcode (fun t => a 27 (F + t)) L (at0 + 3)) 0 (if dgv (pcode (fun t => a 27 (F + t)) L (at0 + 2)) 0 6 = 6 then 3 else 9) = false := dg_neg (by decide) c_7
              have eg3 : at0 + 3 + dgn (pcode (fun t => a 27 (F + t)) L (at0 + 3)) 0 (if dgv (pcode (fun t => a 27 (F + t)) L (at0 + 2)) 0 6 = 6 then 3 else 9) = at0 + 3 := by rw [dgn, if_neg (by rw [o3]; decide)]
              rw [eg3] at hP hD
              refine lv_bipush (v := (-9)) hx hb dX2_readsPerson_117 (by decide) ?_
              refine lv_goto (tgt := 131) hx hb dX2_readsPerson_119 (by decide) ?_
              refine lv_istore (lv' := [(6, .int (-9)), (5, .int (dgv (pcode (fun t => (a 27) (F + t)) L (at0 + 3)) 0 (if dgv (pcode (fun t => a 27 (F + t)) L (at0 + 2)) 0 6 = 6 then 3 else 9))), (4, .int (dgv (pcode (fun t => (a 27) (F + t)) L (at0 + 2)) 0 6)), (3, .int (pcode (fun t => (a 27) (F + t)) L (at0 + 1))), (0, .ref o), (1, .int (nI F)), (2, .int (nI L))]) hx hb dX2_readsPerson_131 hl (by decide) rfl (fun ls hl => ?_)
              refine lv_iload hx hb dX2_readsPerson_133 (lv_at hl 0 rfl) ?_
              refine lv_if_ge (tgt := 143) hx hb dX2_readsPerson_135 (by decide) (fun c_13 => ?_) (fun c_13 => ?_)
              · skip
                exact absurd c_13 (by decide)
              · skip
                refine lv_bipush (v := (-9)) hx hb dX2_readsPerson_138 (by decide) ?_
                refine lv_goto (tgt := 152) hx hb dX2_readsPerson_140 (by decide) ?_
                refine lv_istore (lv' := [(7, .int (-9)), (6, .int (-9)), (5, .int (dgv (pcode (fun t => (a 27) (F + t)) L (at0 + 3)) 0 (if dgv (pcode (fun t => a 27 (F + t)) L (at0 + 2)) 0 6 = 6 then 3 else 9))), (4, .int (dgv (pcode (fun t => (a 27) (F + t)) L (at0 + 2)) 0 6)), (3, .int (pcode (fun t => (a 27) (F + t)) L (at0 + 1))), (0, .ref o), (1, .int (nI F)), (2, .int (nI L))]) hx hb dX2_readsPerson_152 hl (by decide) rfl (fun ls hl => ?_)
                refine lv_iload hx hb dX2_readsPerson_154 (lv_at hl 0 rfl) ?_
                refine lv_if_ge (tgt := 161) hx hb dX2_readsPerson_156 (by decide) (fun c_14 => ?_) (fun c_14 => ?_)
                · skip
                  exact absurd c_14 (by decide)
                · skip
                  refine lv_iconst (v := 0) hx hb dX2_readsPerson_159 (by decide) ?_
                  have eS : pStep (fun t => a 27 (F + t)) L (at0, mm, (a 8), (a 9), (a 10), (a 11)) = (false, at0 + 1 + 2, mm, a 8, a 9, a 10, a 11) := pS_f hm c_2 (pP_2 hlett o2 o3)
                  have eB : 0 = b2i (pStep (fun t => a 27 (F + t)) L (at0, mm, (a 8), (a 9), (a 10), (a 11))).1 := by rw [eS]; rfl
                  exact W.zret (v := 0) hx hb hr rfl (fun t ht hW => ⟨⟨0, ((upd g 6 (nI (at0 + 3))), a), rfl, ⟨eB, (by rw [eS]; exact (congr (congrArg Prod.mk (g7 _)) aE).symm)⟩, by rw [ht]; exact hP, va_K.moved hW.alike hK, hD⟩, hS.F ht⟩) hS.2.2 dX2_readsPerson_160
          refine lv_iload hx hb dX2_readsPerson_94 (lv_at hl 0 rfl) ?_
          refine lv_bipush (v := 6) hx hb dX2_readsPerson_96 (by decide) ?_
          refine lv_icmp_ne (tgt := 105) hx hb dX2_readsPerson_98 (by decide) (fun c_15 => ?_) (fun c_15 => ?_)
          · skip
            refine lv_bipush (v := 9) hx hb dX2_readsPerson_105 (by decide) ?_
            exact join2 9 (by simp [c_15]) _ _ hP hD hS _ (lv_sub hl [0, 1, 2, 3, 4] rfl)
          · skip
            refine lv_iconst (v := 3) hx hb dX2_readsPerson_101 (by decide) ?_
            refine lv_goto (tgt := 107) hx hb dX2_readsPerson_102 (by decide) ?_
            exact join2 3 (by simp [c_15]) _ _ hP hD hS _ (lv_sub hl [0, 1, 2, 3, 4] rfl)
        · skip
          have o2 : dgok (pcode (fun t => a 27 (F + t)) L (at0 + 2)) 0 6 = false := dg_neg (by decide) c_6
          have eg2 : at0 + 2 + dgn (pcode (fun t => a 27 (F + t)) L (at0 + 2)) 0 6 = at0 + 2 := by rw [dgn, if_neg (by rw [o2]; decide)]
          rw [eg2] at hP hD
          refine lv_bipush (v := (-9)) hx hb dX2_readsPerson_85 (by decide) ?_
          refine lv_goto (tgt := 110) hx hb dX2_readsPerson_87 (by decide) ?_
          refine lv_istore (lv' := [(5, .int (-9)), (4, .int (dgv (pcode (fun t => (a 27) (F + t)) L (at0 + 2)) 0 6)), (3, .int (pcode (fun t => (a 27) (F + t)) L (at0 + 1))), (0, .ref o), (1, .int (nI F)), (2, .int (nI L))]) hx hb dX2_readsPerson_110 hl (by decide) rfl (fun ls hl => ?_)
          refine lv_iload hx hb dX2_readsPerson_112 (lv_at hl 0 rfl) ?_
          refine lv_if_ge (tgt := 122) hx hb dX2_readsPerson_114 (by decide) (fun c_16 => ?_) (fun c_16 => ?_)
          · skip
            exact absurd c_16 (by decide)
          · skip
            refine lv_bipush (v := (-9)) hx hb dX2_readsPerson_117 (by decide) ?_
            refine lv_goto (tgt := 131) hx hb dX2_readsPerson_119 (by decide) ?_
            refine lv_istore (lv' := [(6, .int (-9)), (5, .int (-9)), (4, .int (dgv (pcode (fun t => (a 27) (F + t)) L (at0 + 2)) 0 6)), (3, .int (pcode (fun t => (a 27) (F + t)) L (at0 + 1))), (0, .ref o), (1, .int (nI F)), (2, .int (nI L))]) hx hb dX2_readsPerson_131 hl (by decide) rfl (fun ls hl => ?_)
            refine lv_iload hx hb dX2_readsPerson_133 (lv_at hl 0 rfl) ?_
            refine lv_if_ge (tgt := 143) hx hb dX2_readsPerson_135 (by decide) (fun c_17 => ?_) (fun c_17 => ?_)
            · skip
              exact absurd c_17 (by decide)
            · skip
              refine lv_bipush (v := (-9)) hx hb dX2_readsPerson_138 (by decide) ?_
              refine lv_goto (tgt := 152) hx hb dX2_readsPerson_140 (by decide) ?_
              refine lv_istore (lv' := [(7, .int (-9)), (6, .int (-9)), (5, .int (-9)), (4, .int (dgv (pcode (fun t => (a 27) (F + t)) L (at0 + 2)) 0 6)), (3, .int (pcode (fun t => (a 27) (F + t)) L (at0 + 1))), (0, .ref o), (1, .int (nI F)), (2, .int (nI L))]) hx hb dX2_readsPerson_152 hl (by decide) rfl (fun ls hl => ?_)
              refine lv_iload hx hb dX2_readsPerson_154 (lv_at hl 0 rfl) ?_
              refine lv_if_ge (tgt := 161) hx hb dX2_readsPerson_156 (by decide) (fun c_18 => ?_) (fun c_18 => ?_)
              · skip
                exact absurd c_18 (by decide)
              · skip
                refine lv_iconst (v := 0) hx hb dX2_readsPerson_159 (by decide) ?_
                have eS : pStep (fun t => a 27 (F + t)) L (at0, mm, (a 8), (a 9), (a 10), (a 11)) = (false, at0 + 1 + 1, mm, a 8, a 9, a 10, a 11) := pS_f hm c_2 (pP_1 hlett o2)
                have eB : 0 = b2i (pStep (fun t => a 27 (F + t)) L (at0, mm, (a 8), (a 9), (a 10), (a 11))).1 := by rw [eS]; rfl
                exact W.zret (v := 0) hx hb hr rfl (fun t ht hW => ⟨⟨0, ((upd g 6 (nI (at0 + 2))), a), rfl, ⟨eB, (by rw [eS]; exact (congr (congrArg Prod.mk (g7 _)) aE).symm)⟩, by rw [ht]; exact hP, va_K.moved hW.alike hK, hD⟩, hS.F ht⟩) hS.2.2 dX2_readsPerson_160
      refine lv_iload_n hx hb dX2_readsPerson_39 rfl (lv_at hl 0 rfl) ?_
      refine lv_bipush (v := 99) hx hb dX2_readsPerson_40 (by decide) ?_
      refine lv_icmp_eq (tgt := 59) hx hb dX2_readsPerson_42 (by decide) (fun c_19 => ?_) (fun c_19 => ?_)
      · skip
        exact join1  (by simp [c_19]) _ _ hP hD hS _ (lv_sub hl [0, 1, 2, 3] rfl)
      · skip
        refine lv_iload_n hx hb dX2_readsPerson_45 rfl (lv_at hl 0 rfl) ?_
        refine lv_bipush (v := 115) hx hb dX2_readsPerson_46 (by decide) ?_
        refine lv_icmp_eq (tgt := 59) hx hb dX2_readsPerson_48 (by decide) (fun c_20 => ?_) (fun c_20 => ?_)
        · skip
          exact join1  (by simp [c_20]) _ _ hP hD hS _ (lv_sub hl [0, 1, 2, 3] rfl)
        · skip
          refine lv_iload_n hx hb dX2_readsPerson_51 rfl (lv_at hl 0 rfl) ?_
          refine lv_bipush (v := 116) hx hb dX2_readsPerson_52 (by decide) ?_
          refine lv_icmp_eq (tgt := 59) hx hb dX2_readsPerson_54 (by decide) (fun c_21 => ?_) (fun c_21 => ?_)
          · skip
            exact join1  (by simp [c_21]) _ _ hP hD hS _ (lv_sub hl [0, 1, 2, 3] rfl)
          · skip
            refine lv_iconst (v := 0) hx hb dX2_readsPerson_57 (by decide) ?_
            have eS : pStep (fun t => a 27 (F + t)) L (at0, mm, (a 8), (a 9), (a 10), (a 11)) = (false, at0 + 1 + 0, mm, a 8, a 9, a 10, a 11) := pS_f hm c_2 (pP_0 (fun z => by rcases z with z | z | z; exact c_19 z; exact c_20 z; exact c_21 z))
            have eB : 0 = b2i (pStep (fun t => a 27 (F + t)) L (at0, mm, (a 8), (a 9), (a 10), (a 11))).1 := by rw [eS]; rfl
            exact W.zret (v := 0) hx hb hr rfl (fun t ht hW => ⟨⟨0, ((upd g 6 (nI (at0 + 1))), a), rfl, ⟨eB, (by rw [eS]; exact (congr (congrArg Prod.mk (g7 _)) aE).symm)⟩, by rw [ht]; exact hP, va_K.moved hW.alike hK, hD⟩, hS.F ht⟩) hS.2.2 dX2_readsPerson_58
    · skip
      refine lv_iconst (v := 0) hx hb dX2_readsPerson_20 (by decide) ?_
      have eS : pStep (fun t => a 27 (F + t)) L (at0, mm, (a 8), (a 9), (a 10), (a 11)) = (false, at0, mm, a 8, a 9, a 10, a 11) := pS_n hm c_2
      have eB : 0 = b2i (pStep (fun t => a 27 (F + t)) L (at0, mm, (a 8), (a 9), (a 10), (a 11))).1 := by rw [eS]; rfl
      exact W.zret (v := 0) hx hb hr rfl (fun t ht hW => ⟨⟨0, (g, a), rfl, ⟨eB, (by rw [eS]; exact (congr (congrArg Prod.mk ((g7 _).trans g6)) aE).symm)⟩, by rw [ht]; exact hP, va_K.moved hW.alike hK, hD⟩, hS.F ht⟩) hS.2.2 dX2_readsPerson_21
