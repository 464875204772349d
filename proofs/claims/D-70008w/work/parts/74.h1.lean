/-! LENT YOUTHS: hand, as -/
def handR (k x : Int32) : Int32 := if kdN k = 2 then 40 else x
def handT (k t : Int32) : Int32 := 31 * t + (if kdN k = 2 then 5 else 4)
theorem metX0_handed (l : Launch) (dC : Nat → ClassId) (dI : Nat → Nat → Nat) (ct : Nat → ClassId) (A : Nat → Prop) (ex : va_W) (o : Nat) (q : Nat → Nat) (ql qs : Nat) (md : Int32) (qe n : Nat) (y : Nat → Nat) (g : Nat → Int32) (a : Nat → Nat → Int32) (x : Nat) (hxn : x < n) : Met l yX0_handed (ws_ yX0_handed cX0_handed 1 (some .int)) ({ frames := 4, cells := 0, slots := 0, locals := 100 }) (hPre dC dI ct A ex o q (ql, qs, md, qe, n) y g a [.ref (y x)]) (va_Qi (fun (r : Int32) (u : MS) => r = handR (a 2 x) (nI x) ∧ u = ((upd g 29 (handT (a 2 x) (g 29))), a)) (gB dC dI ct A ex o q (ql, qs, md, qe, n) y) A) 0 0 A := by
  refine Met.ofW (cc := cX0_handed) (maxL := 1) (ret := (some .int)) (by decide) rfl ?_
  intro p e s m args below meth c s₁ B hml hv
  obtain ⟨rfl, hP, hK, hD, hE, hd1, hd2⟩ := hv
  have hx := B.exec
  have hb := B.bytes
  have hr := B.returns
  have hts := atoms_spec (ws := ws_ yX0_handed cX0_handed 1 (some .int)) B.pre
  have hts : ∀ w ∈ lw_all, w.before _ s = true := fun w h => hts w (List.mem_cons_of_mem _ h)
  have hown : s.vm.findClass RX0 = some m.cls := findClass_of_methodNamed B.named
  have hlocks := B.notSynchronized
  have hS : va_S A s.heap s.heap [] := va_S.rf
  have hl := lv_entry ([.ref (y x)]) (n := 1) (Nat.le_of_ble_eq_true rfl)
  rw [lg_entry_eq]
  generalize (lg_sl ([.ref (y x)]) ++ List.replicate (1 - (lg_sl ([.ref (y x)])).length) Slot.unset).toArray = ls at hl ⊢
  have hl : lv_has ls 1 [(0, .ref (y x))] := hl
  refine lv_aload_n hx hb dX0_handed_0 rfl (lv_at hl 0 rfl) ?_
  refine va_callFi (post := fun (r : Int32) (u : MS) => r = handR (a 2 x) (nI x) ∧ u = ((upd g 29 (handT (a 2 x) (g 29))), a)) (B := gB dC dI ct A ex o q (ql, qs, md, qe, n) y) (A1 := A) (mc := 0) (ms := 0) (free := A) (a := [Value.ref (y x)].toArray) (rest := []) ?_ hS (fun q _ h => h) (fun q h => h) (fun r u t H1 locs ht hvm hw hB hz1 hk1 hS => ?_)
  · unfold handR handT
    rcases kdN_cases (a 2 x) with hk | hk | hk
    · rw [if_neg (by rw [hk]; decide), if_neg (by rw [hk]; decide)]
      exact d_hand hxn (Or.inl hk) (cAt0 hK) ⟨hx, hb, hml, hown, hts⟩ q930 (xE_fw_handC hE) hd1 (va_recv hK hP (ci := 3) (q0 := 16 + x) rfl (xG_c0 hxn hk)) hK hP hD hE ⟨Nat.le_of_ble_eq_true rfl, Nat.le_of_ble_eq_true rfl⟩ rfl hl.1 rfl (lv_room (Nat.le_of_ble_eq_true rfl)) dX0_handed_1 ⟨Nat.zero_le _, Nat.zero_le _⟩
    · rw [if_neg (by rw [hk]; decide), if_neg (by rw [hk]; decide)]
      exact d_hand hxn (Or.inr hk) (cAt1 hK) ⟨hx, hb, hml, hown, hts⟩ q930 (xE_fw_handS hE) hd2 (va_recv hK hP (ci := 4) (q0 := 16 + x) rfl (xG_c1 hxn hk)) hK hP hD hE ⟨Nat.le_of_ble_eq_true rfl, Nat.le_of_ble_eq_true rfl⟩ rfl hl.1 rfl (lv_room (Nat.le_of_ble_eq_true rfl)) dX0_handed_1 ⟨Nat.zero_le _, Nat.zero_le _⟩
    · rw [if_pos hk, if_pos hk]
      exact va_runF (As := []) (rest := []) (cAt2 hK) ⟨hx, hb, hml, hown, hts⟩ (metX5_hand l dC dI ct A ex o q ql qs md qe n y g a x hxn hk) (va_cwF 0 hts (lw_F q930 q954 q956 q87 q958) rfl rfl rfl (xE_fw_handT hE) (by decide +kernel) ⟨Nat.le_of_ble_eq_true rfl, Nat.le_of_ble_eq_true rfl⟩) (cPV2 hxn hk hK hP hD hE _) rfl rfl hl.1 rfl (lv_room (Nat.le_of_ble_eq_true rfl)) dX0_handed_1 ⟨Nat.zero_le _, Nat.zero_le _⟩
  · obtain ⟨hw, hw2⟩ := hw
    obtain ⟨hP, -, hD⟩ := hB
    rw [ht] at hP
    exact W.iret (v := r) hx hb hr (fun t ht hW => ⟨⟨r, u, rfl, ⟨hw, hw2⟩, by rw [ht]; exact hP, va_K.moved hW.alike hK, hD⟩, hS.F ht⟩) hS.2.2 dX0_handed_6
set_option maxHeartbeats 4000000 in
set_option maxRecDepth 100000 in
theorem metX0_hand_a (l : Launch) (dC : Nat → ClassId) (dI : Nat → Nat → Nat) (ct : Nat → ClassId) (A : Nat → Prop) (ex : va_W) (o : Nat) (q : Nat → Nat) (ql qs : Nat) (md : Int32) (qe n : Nat) (y : Nat → Nat) (g : Nat → Int32) (a : Nat → Nat → Int32) (P : Nat) (hn6 : n ≤ 6) (hPn : P < n) : Met l yX0_hand (ws_ yX0_hand cX0_hand 2 (some .int)) ({ frames := 6, cells := 0, slots := 0, locals := 200 }) (hPre dC dI ct A ex o q (ql, qs, md, qe, n) y g a [.ref o, .int (nI P)]) (va_Qi (fun (r : Int32) (u : (Nat → Int32) × (Nat → Nat → Int32)) => r = (handR (a 2 P) (nI P)) ∧ u = ((upd g 29 (handT (a 2 P) (g 29))), a)) (gB dC dI ct A ex o q (ql, qs, md, qe, n) y) A) 0 0 A := by
  refine Met.ofW (cc := cX0_hand) (maxL := 2) (ret := (some .int)) (by decide) rfl ?_
  intro p e s m args below meth c s₁ B hml hv
  obtain ⟨rfl, hP, hK, hD, hE, hd1, hd2⟩ := hv
  have hx := B.exec
  have hb := B.bytes
  have hr := B.returns
  have hts := atoms_spec (ws := ws_ yX0_hand cX0_hand 2 (some .int)) B.pre
  have hts : ∀ w ∈ lw_all, w.before _ s = true := fun w h => hts w (List.mem_cons_of_mem _ h)
  have hown : s.vm.findClass RX0 = some m.cls := findClass_of_methodNamed B.named
  have hlocks := B.notSynchronized
  have hS : va_S A s.heap s.heap [] := va_S.rf
  have hl := lv_entry ([.ref o, .int (nI P)]) (n := 2) (Nat.le_of_ble_eq_true rfl)
  rw [lg_entry_eq]
  generalize (lg_sl ([.ref o, .int (nI P)]) ++ List.replicate (2 - (lg_sl ([.ref o, .int (nI P)])).length) Slot.unset).toArray = ls at hl ⊢
  have hl : lv_has ls 2 [(0, .ref o), (1, .int (nI P))] := hl
  refine lv_aload_n hx hb dX0_hand_0 rfl (lv_at hl 0 rfl) ?_
  refine lv_iload_n hx hb dX0_hand_1 rfl (lv_at hl 1 rfl) ?_
  refine vp_callSi ((va_runV (As := [.int (nI P)]) (rest := []) ⟨hx, hb, hml, hown, hts⟩ (metX0_isPerson l dC dI ct A (peW ct o qe n y a ++ ex) o q ql qs md qe n g a (nI P) hn6) (cwV 1 hts (lw_V q589 q591 qs13 q69 q592) rfl rfl rfl (by decide +kernel) ⟨Nat.le_of_ble_eq_true rfl, Nat.le_of_ble_eq_true rfl⟩) (xPV hK hP hD hE _) rfl rfl hl.1 rfl (lv_room (Nat.le_of_ble_eq_true rfl)) dX0_hand_2 ⟨Nat.zero_le _, Nat.zero_le _⟩)).run (fun r hw => ?_)
  have hw : r = (b2i (inP (nI P) n)) := hw
  subst hw
  refine bz_eq (tgt := 27) hx hb dX0_hand_5 (by decide) (fun c_1 => ?_) (fun c_1 => ?_)
  · skip
    exact False.elim (by rw [inPn hn6 hPn] at c_1; cases c_1)
  · skip
    refine lv_aload_n hx hb dX0_hand_8 rfl (lv_at hl 0 rfl) ?_
    refine g_get (v := .ref ql) hx hb hts hown hK hP 2 (by decide) rfl q146 rfl dX0_hand_9 ?_
    refine lv_iload_n hx hb dX0_hand_12 rfl (lv_at hl 1 rfl) ?_
    refine va_csFr (va_runF (As := [.int (nI P)]) (rest := []) (jAt hK) ⟨hx, hb, hml, hown, hts⟩ (metJ2_get l dC dI ct (xG ct o q (ql, qs, md, qe, n) y g a ex) ql md qe n 14 rfl P 15 10 (y P) (edF y n) (xG_ed (Nat.lt_of_le_of_lt (Nat.zero_le _) hPn)) (Nat.lt_of_lt_of_le hPn (by omega)) (by omega) (if_pos hPn) hPn (by omega)) (va_cwF 1 hts (lw_F q607 q610 q612 q72 q614) rfl rfl rfl (xE_fw_get hE) (by decide +kernel) ⟨Nat.le_of_ble_eq_true rfl, Nat.le_of_ble_eq_true rfl⟩) (jPV (k := 14) (md := md) (qe := qe) (n := n) hK hP rfl _) rfl rfl hl.1 rfl (lv_room (Nat.le_of_ble_eq_true rfl)) dX0_hand_13 ⟨Nat.zero_le _, Nat.zero_le _⟩) (fun r hw => ?_)
    have hw : (y P) = r := Eq.symm hw
    subst hw
    refine c_castH hx hb hown hts hK hP hE hPn dX0_hand_18 ?_
    refine va_calli (va_runS (As := [.ref (y P)]) (rest := []) ⟨hx, hb, hml, hown, hts⟩ (metX0_handed l dC dI ct A ex o q ql qs md qe n y g a P hPn) (va_cwS 1 hts (lw_S q926 q927 q69 q928) rfl rfl rfl (by decide +kernel) ⟨Nat.le_of_ble_eq_true rfl, Nat.le_of_ble_eq_true rfl⟩) (hPS hK hP hD hE hd1 hd2 _) rfl rfl hl.1 rfl (lv_room (Nat.le_of_ble_eq_true rfl)) dX0_hand_21 ⟨Nat.zero_le _, Nat.zero_le _⟩) hS (fun q _ h => h) (fun q h => h) (fun r u t H1 locs ht hvm hw hB hz1 hk1 hS => ?_)
    obtain ⟨hw, hw2⟩ := hw
    have hw : r = (handR (a 2 P) (nI P)) := hw
    subst hw
    subst hw2
    obtain ⟨hP, -, hD⟩ := hB
    rw [ht] at hP
    generalize H1 = H at hP hS ⊢
    have hP : va_P (dC, dI) clA (xG ct o q (ql, qs, md, qe, n) y (upd g 29 (handT (a 2 P) (g 29))) a ex) H := hP
    have hD : va_D A (xG ct o q (ql, qs, md, qe, n) y (upd g 29 (handT (a 2 P) (g 29))) a ex) := hD
    refine lv_goto (tgt := 28) hx hb dX0_hand_24 (by decide) ?_
    exact W.iret (v := (handR (a 2 P) (nI P))) hx hb hr (fun t ht hW => ⟨⟨(handR (a 2 P) (nI P)), ((upd g 29 (handT (a 2 P) (g 29))), a), rfl, ⟨(by first | rfl | (simp [c_1]; done)), rfl⟩, by rw [ht]; exact hP, va_K.moved hW.alike hK, hD⟩, hS.F ht⟩) hS.2.2 dX0_hand_28
set_option maxHeartbeats 4000000 in
set_option maxRecDepth 100000 in
theorem metX0_hand_bad (l : Launch) (dC : Nat → ClassId) (dI : Nat → Nat → Nat) (ct : Nat → ClassId) (A : Nat → Prop) (ex : va_W) (o : Nat) (q : Nat → Nat) (ql qs : Nat) (md : Int32) (qe n : Nat) (y : Nat → Nat) (g : Nat → Int32) (a : Nat → Nat → Int32) (pp : Int32) (hn6 : n ≤ 6) (hp : inP pp n = false) : Met l yX0_hand (ws_ yX0_hand cX0_hand 2 (some .int)) ({ frames := 6, cells := 0, slots := 0, locals := 200 }) (hPre dC dI ct A ex o q (ql, qs, md, qe, n) y g a [.ref o, .int pp]) (vp_Si (fun r => r = (-1))) 0 0 (fun _ => False) := by
  refine Met.ofW (cc := cX0_hand) (maxL := 2) (ret := (some .int)) (by decide) rfl ?_
  intro p e s m args below meth c s₁ B hml hv
  obtain ⟨rfl, hP, hK, hD, hE, hd1, hd2⟩ := hv
  have hx := B.exec
  have hb := B.bytes
  have hr := B.returns
  have hts := atoms_spec (ws := ws_ yX0_hand cX0_hand 2 (some .int)) B.pre
  have hts : ∀ w ∈ lw_all, w.before _ s = true := fun w h => hts w (List.mem_cons_of_mem _ h)
  have hown : s.vm.findClass RX0 = some m.cls := findClass_of_methodNamed B.named
  have hlocks := B.notSynchronized
  have hS : va_S A s.heap s.heap [] := va_S.rf
  have hl := lv_entry ([.ref o, .int pp]) (n := 2) (Nat.le_of_ble_eq_true rfl)
  rw [lg_entry_eq]
  generalize (lg_sl ([.ref o, .int pp]) ++ List.replicate (2 - (lg_sl ([.ref o, .int pp])).length) Slot.unset).toArray = ls at hl ⊢
  have hl : lv_has ls 2 [(0, .ref o), (1, .int pp)] := hl
  refine lv_aload_n hx hb dX0_hand_0 rfl (lv_at hl 0 rfl) ?_
  refine lv_iload_n hx hb dX0_hand_1 rfl (lv_at hl 1 rfl) ?_
  refine vp_callSi ((va_runV (As := [.int pp]) (rest := []) ⟨hx, hb, hml, hown, hts⟩ (metX0_isPerson l dC dI ct A (peW ct o qe n y a ++ ex) o q ql qs md qe n g a pp hn6) (cwV 1 hts (lw_V q589 q591 qs13 q69 q592) rfl rfl rfl (by decide +kernel) ⟨Nat.le_of_ble_eq_true rfl, Nat.le_of_ble_eq_true rfl⟩) (xPV hK hP hD hE _) rfl rfl hl.1 rfl (lv_room (Nat.le_of_ble_eq_true rfl)) dX0_hand_2 ⟨Nat.zero_le _, Nat.zero_le _⟩)).run (fun r hw => ?_)
  have hw : r = (b2i (inP pp n)) := hw
  subst hw
  refine bz_eq (tgt := 27) hx hb dX0_hand_5 (by decide) (fun c_1 => ?_) (fun c_1 => ?_)
  · skip
    refine lv_iconst (v := (-1)) hx hb dX0_hand_27 (by decide) ?_
    exact W.iret (v := (-1)) hx hb hr (fun t ht hW => ⟨(-1), rfl, (by first | rfl | (simp [c_1]; done)), ht⟩) (fun q h => by cases h) dX0_hand_28
  · skip
    exact False.elim (by rw [hp] at c_1; cases c_1)
set_option maxHeartbeats 4000000 in
set_option maxRecDepth 100000 in
theorem metX0_of_0 (l : Launch) (dC : Nat → ClassId) (dI : Nat → Nat → Nat) (ct : Nat → ClassId) (A : Nat → Prop) (ex : va_W) (o : Nat) (q : Nat → Nat) (ql qs : Nat) (md : Int32) (qe n : Nat) (y : Nat → Nat) (g : Nat → Int32) (a : Nat → Nat → Int32) (P : Nat) (kk : Int32) (hPn : P < n) : Met l yX0_of (ws_ yX0_of cX0_of 2 (some (.object "LentYouths$Childhood"))) ({ frames := 0, cells := 0, slots := 0, locals := 0 }) (gPre dC dI ct A ex o q (ql, qs, md, qe, n) y g a [.ref (y P), .int 0]) (va_Sr (fun r => r = (y P)) (fun r => .ref r)) 0 0 (fun _ => False) := by
  refine Met.ofW (cc := cX0_of) (maxL := 2) (ret := (some (.object "LentYouths$Childhood"))) (by decide) rfl ?_
  intro p e s m args below meth c s₁ B hml hv
  obtain ⟨rfl, hP, hK, hD, hE⟩ := hv
  have hx := B.exec
  have hb := B.bytes
  have hr := B.returns
  have hts := atoms_spec (ws := ws_ yX0_of cX0_of 2 (some (.object "LentYouths$Childhood"))) B.pre
  have hts : ∀ w ∈ lw_all, w.before _ s = true := fun w h => hts w (List.mem_cons_of_mem _ h)
  have hown : s.vm.findClass RX0 = some m.cls := findClass_of_methodNamed B.named
  have hlocks := B.notSynchronized
  have hS : va_S A s.heap s.heap [] := va_S.rf
  have hl := lv_entry ([.ref (y P), .int 0]) (n := 2) (Nat.le_of_ble_eq_true rfl)
  rw [lg_entry_eq]
  generalize (lg_sl ([.ref (y P), .int 0]) ++ List.replicate (2 - (lg_sl ([.ref (y P), .int 0])).length) Slot.unset).toArray = ls at hl ⊢
  have hl : lv_has ls 2 [(0, .ref (y P)), (1, .int 0)] := hl
  refine lv_iload_n hx hb dX0_of_0 rfl (lv_at hl 1 rfl) ?_
  refine lv_if_ne (tgt := 8) hx hb dX0_of_1 (by decide) (fun c_1 => ?_) (fun c_1 => ?_)
  · skip
    exact absurd c_1 (by decide)
  · skip
    refine lv_aload_n hx hb dX0_of_4 rfl (lv_at hl 0 rfl) ?_
    refine lv_goto (tgt := 24) hx hb dX0_of_5 (by decide) ?_
    exact W.aret (v := .ref (y P)) hx hb hr (Or.inl ⟨_, rfl⟩) (Or.inr ⟨_, rfl⟩) (fun t ht hW => ⟨(y P), rfl, (by first | rfl | (simp [c_1]; done)), ht⟩) (fun q h => by cases h) dX0_of_24
set_option maxHeartbeats 4000000 in
set_option maxRecDepth 100000 in
theorem metX0_of_1 (l : Launch) (dC : Nat → ClassId) (dI : Nat → Nat → Nat) (ct : Nat → ClassId) (A : Nat → Prop) (ex : va_W) (o : Nat) (q : Nat → Nat) (ql qs : Nat) (md : Int32) (qe n : Nat) (y : Nat → Nat) (g : Nat → Int32) (a : Nat → Nat → Int32) (P : Nat) (kk : Int32) (hPn : P < n) (hk : kdN (a 2 P) = 1 ∨ kdN (a 2 P) = 2) : Met l yX0_of (ws_ yX0_of cX0_of 2 (some (.object "LentYouths$Childhood"))) ({ frames := 0, cells := 0, slots := 0, locals := 0 }) (gPre dC dI ct A ex o q (ql, qs, md, qe, n) y g a [.ref (y P), .int 1]) (va_Sr (fun r => r = (y P)) (fun r => .ref r)) 0 0 (fun _ => False) := by
  refine Met.ofW (cc := cX0_of) (maxL := 2) (ret := (some (.object "LentYouths$Childhood"))) (by decide) rfl ?_
  intro p e s m args below meth c s₁ B hml hv
  obtain ⟨rfl, hP, hK, hD, hE⟩ := hv
  have hx := B.exec
  have hb := B.bytes
  have hr := B.returns
  have hts := atoms_spec (ws := ws_ yX0_of cX0_of 2 (some (.object "LentYouths$Childhood"))) B.pre
  have hts : ∀ w ∈ lw_all, w.before _ s = true := fun w h => hts w (List.mem_cons_of_mem _ h)
  have hown : s.vm.findClass RX0 = some m.cls := findClass_of_methodNamed B.named
  have hlocks := B.notSynchronized
  have hS : va_S A s.heap s.heap [] := va_S.rf
  have hl := lv_entry ([.ref (y P), .int 1]) (n := 2) (Nat.le_of_ble_eq_true rfl)
  rw [lg_entry_eq]
  generalize (lg_sl ([.ref (y P), .int 1]) ++ List.replicate (2 - (lg_sl ([.ref (y P), .int 1])).length) Slot.unset).toArray = ls at hl ⊢
  have hl : lv_has ls 2 [(0, .ref (y P)), (1, .int 1)] := hl
  refine lv_iload_n hx hb dX0_of_0 rfl (lv_at hl 1 rfl) ?_
  refine lv_if_ne (tgt := 8) hx hb dX0_of_1 (by decide) (fun c_1 => ?_) (fun c_1 => ?_)
  · skip
    refine lv_iload_n hx hb dX0_of_8 rfl (lv_at hl 1 rfl) ?_
    refine lv_iconst (v := 1) hx hb dX0_of_9 (by decide) ?_
    refine lv_icmp_ne (tgt := 20) hx hb dX0_of_10 (by decide) (fun c_2 => ?_) (fun c_2 => ?_)
    · skip
      exact absurd c_2 (by decide)
    · skip
      refine lv_aload_n hx hb dX0_of_13 rfl (lv_at hl 0 rfl) ?_
      refine c_castSd hx hb hown hts hK hP hE hPn hk q484 dX0_of_14 ?_
      refine lv_goto (tgt := 24) hx hb dX0_of_17 (by decide) ?_
      exact W.aret (v := .ref (y P)) hx hb hr (Or.inl ⟨_, rfl⟩) (Or.inr ⟨_, rfl⟩) (fun t ht hW => ⟨(y P), rfl, (by first | rfl | (simp [c_1, c_2]; done)), ht⟩) (fun q h => by cases h) dX0_of_24
  · skip
    exact absurd c_1 (by decide)
set_option maxHeartbeats 4000000 in
set_option maxRecDepth 100000 in
theorem metX0_of_2 (l : Launch) (dC : Nat → ClassId) (dI : Nat → Nat → Nat) (ct : Nat → ClassId) (A : Nat → Prop) (ex : va_W) (o : Nat) (q : Nat → Nat) (ql qs : Nat) (md : Int32) (qe n : Nat) (y : Nat → Nat) (g : Nat → Int32) (a : Nat → Nat → Int32) (P : Nat) (kk : Int32) (hPn : P < n) (hk : kdN (a 2 P) = 2) : Met l yX0_of (ws_ yX0_of cX0_of 2 (some (.object "LentYouths$Childhood"))) ({ frames := 0, cells := 0, slots := 0, locals := 0 }) (gPre dC dI ct A ex o q (ql, qs, md, qe, n) y g a [.ref (y P), .int 2]) (va_Sr (fun r => r = (y P)) (fun r => .ref r)) 0 0 (fun _ => False) := by
  refine Met.ofW (cc := cX0_of) (maxL := 2) (ret := (some (.object "LentYouths$Childhood"))) (by decide) rfl ?_
  intro p e s m args below meth c s₁ B hml hv
  obtain ⟨rfl, hP, hK, hD, hE⟩ := hv
  have hx := B.exec
  have hb := B.bytes
  have hr := B.returns
  have hts := atoms_spec (ws := ws_ yX0_of cX0_of 2 (some (.object "LentYouths$Childhood"))) B.pre
  have hts : ∀ w ∈ lw_all, w.before _ s = true := fun w h => hts w (List.mem_cons_of_mem _ h)
  have hown : s.vm.findClass RX0 = some m.cls := findClass_of_methodNamed B.named
  have hlocks := B.notSynchronized
  have hS : va_S A s.heap s.heap [] := va_S.rf
  have hl := lv_entry ([.ref (y P), .int 2]) (n := 2) (Nat.le_of_ble_eq_true rfl)
  rw [lg_entry_eq]
  generalize (lg_sl ([.ref (y P), .int 2]) ++ List.replicate (2 - (lg_sl ([.ref (y P), .int 2])).length) Slot.unset).toArray = ls at hl ⊢
  have hl : lv_has ls 2 [(0, .ref (y P)), (1, .int 2)] := hl
  refine lv_iload_n hx hb dX0_of_0 rfl (lv_at hl 1 rfl) ?_
  refine lv_if_ne (tgt := 8) hx hb dX0_of_1 (by decide) (fun c_1 => ?_) (fun c_1 => ?_)
  · skip
    refine lv_iload_n hx hb dX0_of_8 rfl (lv_at hl 1 rfl) ?_
    refine lv_iconst (v := 1) hx hb dX0_of_9 (by decide) ?_
    refine lv_icmp_ne (tgt := 20) hx hb dX0_of_10 (by decide) (fun c_2 => ?_) (fun c_2 => ?_)
    · skip
      refine lv_aload_n hx hb dX0_of_20 rfl (lv_at hl 0 rfl) ?_
      refine c_castTw hx hb hown hts hK hP hPn hk q501 dX0_of_21 ?_
      exact W.aret (v := .ref (y P)) hx hb hr (Or.inl ⟨_, rfl⟩) (Or.inr ⟨_, rfl⟩) (fun t ht hW => ⟨(y P), rfl, (by first | rfl | (simp [c_1, c_2]; done)), ht⟩) (fun q h => by cases h) dX0_of_24
    · skip
      exact absurd c_2 (by decide)
  · skip
    exact absurd c_1 (by decide)
set_option maxHeartbeats 4000000 in
set_option maxRecDepth 100000 in
theorem metX0_of_x10 (l : Launch) (dC : Nat → ClassId) (dI : Nat → Nat → Nat) (ct : Nat → ClassId) (A : Nat → Prop) (ex : va_W) (o : Nat) (q : Nat → Nat) (ql qs : Nat) (md : Int32) (qe n : Nat) (y : Nat → Nat) (g : Nat → Int32) (a : Nat → Nat → Int32) (htr : l.stackTraces = false) (P : Nat) (hPn : P < n) (hk : kdN (a 2 P) = 0) : MetX l yX0_of (ws_ yX0_of cX0_of 2 (some (.object "LentYouths$Childhood"))) ({ frames := 9, cells := 3, slots := 1210, locals := 10400 }) (oPre dC dI ct A ex o q (ql, qs, md, qe, n) y g a [.ref (y P), .int 1]) "java/lang/ClassCastException" 3 1210 := by
  refine MetX.ofW (cc := cX0_of) (maxL := 2) (ret := (some (.object "LentYouths$Childhood"))) (by decide) rfl ?_
  intro p e s m args below meth c s₁ B hml het hv
  obtain ⟨rfl, hP, hK, hE9⟩ := hv
  have hN9 := hE9.now
  have hx := B.exec
  have hb := B.bytes
  have hr := B.returns
  have hts := atoms_spec (ws := ws_ yX0_of cX0_of 2 (some (.object "LentYouths$Childhood"))) B.pre
  have hts : ∀ w ∈ lw_all, w.before _ s = true := fun w h => hts w (List.mem_cons_of_mem _ h)
  have hown : s.vm.findClass RX0 = some m.cls := findClass_of_methodNamed B.named
  have hlocks := B.notSynchronized
  have hl := lv_entry ([.ref (y P), .int 1]) (n := 2) (Nat.le_of_ble_eq_true rfl)
  rw [lg_entry_eq]
  generalize (lg_sl ([.ref (y P), .int 1]) ++ List.replicate (2 - (lg_sl ([.ref (y P), .int 1])).length) Slot.unset).toArray = ls at hl ⊢
  have hl : lv_has ls 2 [(0, .ref (y P)), (1, .int 1)] := hl
  refine lv_iload_n hx hb dX0_of_0 rfl (lv_at hl 1 rfl) ?_
  refine lv_if_ne (tgt := 8) hx hb dX0_of_1 (by decide) (fun c_1 => ?_) (fun c_1 => absurd c_1 (by decide))
  refine lv_iload_n hx hb dX0_of_8 rfl (lv_at hl 1 rfl) ?_
  refine lv_iconst (v := 1) hx hb dX0_of_9 (by decide) ?_
  refine lv_icmp_ne (tgt := 20) hx hb dX0_of_10 (by decide) (fun c_2 => absurd c_2 (by decide)) (fun c_2 => ?_)
  refine lv_aload_n hx hb dX0_of_13 rfl (lv_at hl 0 rfl) ?_
  refine a_castX (C := "LentYouths$Childhood") hx hb (hml.trans hl.1.symm) htr hown (hts _ q484) hN9 (fun x hx9 => absurd hx9 List.not_mem_nil) (va_recv hK hP (ci := 3) (q0 := 16 + P) rfl (xG_c0 hPn hk)) (hN9.2.1 ("LentYouths$Childhood", "LentYouths$Sad") (by decide)) (by decide +kernel) (by decide +kernel) (by decide +kernel) (by decide +kernel) (Nat.le_of_ble_eq_true rfl) (Nat.le_of_ble_eq_true rfl) (Nat.le_of_ble_eq_true rfl) (Nat.le_of_ble_eq_true rfl) dX0_of_14 (fun H1 ce h1 h2 h3 h4 => ?_)
  exact WT.out rfl rfl rfl het hlocks h2 h3 h4 h1 rfl (Nat.le_of_ble_eq_true rfl) (Nat.le_of_ble_eq_true rfl)
set_option maxHeartbeats 4000000 in
set_option maxRecDepth 100000 in
theorem metX0_of_x20 (l : Launch) (dC : Nat → ClassId) (dI : Nat → Nat → Nat) (ct : Nat → ClassId) (A : Nat → Prop) (ex : va_W) (o : Nat) (q : Nat → Nat) (ql qs : Nat) (md : Int32) (qe n : Nat) (y : Nat → Nat) (g : Nat → Int32) (a : Nat → Nat → Int32) (htr : l.stackTraces = false) (P : Nat) (hPn : P < n) (hk : kdN (a 2 P) = 0) : MetX l yX0_of (ws_ yX0_of cX0_of 2 (some (.object "LentYouths$Childhood"))) ({ frames := 9, cells := 3, slots := 1210, locals := 10400 }) (oPre dC dI ct A ex o q (ql, qs, md, qe, n) y g a [.ref (y P), .int 2]) "java/lang/ClassCastException" 3 1210 := by
  refine MetX.ofW (cc := cX0_of) (maxL := 2) (ret := (some (.object "LentYouths$Childhood"))) (by decide) rfl ?_
  intro p e s m args below meth c s₁ B hml het hv
  obtain ⟨rfl, hP, hK, hE9⟩ := hv
  have hN9 := hE9.now
  have hx := B.exec
  have hb := B.bytes
  have hr := B.returns
  have hts := atoms_spec (ws := ws_ yX0_of cX0_of 2 (some (.object "LentYouths$Childhood"))) B.pre
  have hts : ∀ w ∈ lw_all, w.before _ s = true := fun w h => hts w (List.mem_cons_of_mem _ h)
  have hown : s.vm.findClass RX0 = some m.cls := findClass_of_methodNamed B.named
  have hlocks := B.notSynchronized
  have hl := lv_entry ([.ref (y P), .int 2]) (n := 2) (Nat.le_of_ble_eq_true rfl)
  rw [lg_entry_eq]
  generalize (lg_sl ([.ref (y P), .int 2]) ++ List.replicate (2 - (lg_sl ([.ref (y P), .int 2])).length) Slot.unset).toArray = ls at hl ⊢
  have hl : lv_has ls 2 [(0, .ref (y P)), (1, .int 2)] := hl
  refine lv_iload_n hx hb dX0_of_0 rfl (lv_at hl 1 rfl) ?_
  refine lv_if_ne (tgt := 8) hx hb dX0_of_1 (by decide) (fun c_1 => ?_) (fun c_1 => absurd c_1 (by decide))
  refine lv_iload_n hx hb dX0_of_8 rfl (lv_at hl 1 rfl) ?_
  refine lv_iconst (v := 1) hx hb dX0_of_9 (by decide) ?_
  refine lv_icmp_ne (tgt := 20) hx hb dX0_of_10 (by decide) (fun c_2 => ?_) (fun c_2 => absurd c_2 (by decide))
  refine lv_aload_n hx hb dX0_of_20 rfl (lv_at hl 0 rfl) ?_
  refine a_castX (C := "LentYouths$Childhood") hx hb (hml.trans hl.1.symm) htr hown (hts _ q501) hN9 (fun x hx9 => absurd hx9 List.not_mem_nil) (va_recv hK hP (ci := 3) (q0 := 16 + P) rfl (xG_c0 hPn hk)) (hN9.2.1 ("LentYouths$Childhood", "LentYouths$Twin") (by decide)) (by decide +kernel) (by decide +kernel) (by decide +kernel) (by decide +kernel) (Nat.le_of_ble_eq_true rfl) (Nat.le_of_ble_eq_true rfl) (Nat.le_of_ble_eq_true rfl) (Nat.le_of_ble_eq_true rfl) dX0_of_21 (fun H1 ce h1 h2 h3 h4 => ?_)
  exact WT.out rfl rfl rfl het hlocks h2 h3 h4 h1 rfl (Nat.le_of_ble_eq_true rfl) (Nat.le_of_ble_eq_true rfl)
set_option maxHeartbeats 4000000 in
set_option maxRecDepth 100000 in
theorem metX0_of_x21 (l : Launch) (dC : Nat → ClassId) (dI : Nat → Nat → Nat) (ct : Nat → ClassId) (A : Nat → Prop) (ex : va_W) (o : Nat) (q : Nat → Nat) (ql qs : Nat) (md : Int32) (qe n : Nat) (y : Nat → Nat) (g : Nat → Int32) (a : Nat → Nat → Int32) (htr : l.stackTraces = false) (P : Nat) (hPn : P < n) (hk : kdN (a 2 P) = 1) : MetX l yX0_of (ws_ yX0_of cX0_of 2 (some (.object "LentYouths$Childhood"))) ({ frames := 9, cells := 3, slots := 1210, locals := 10400 }) (oPre dC dI ct A ex o q (ql, qs, md, qe, n) y g a [.ref (y P), .int 2]) "java/lang/ClassCastException" 3 1210 := by
  refine MetX.ofW (cc := cX0_of) (maxL := 2) (ret := (some (.object "LentYouths$Childhood"))) (by decide) rfl ?_
  intro p e s m args below meth c s₁ B hml het hv
  obtain ⟨rfl, hP, hK, hE9⟩ := hv
  have hN9 := hE9.now
  have hx := B.exec
  have hb := B.bytes
  have hr := B.returns
  have hts := atoms_spec (ws := ws_ yX0_of cX0_of 2 (some (.object "LentYouths$Childhood"))) B.pre
  have hts : ∀ w ∈ lw_all, w.before _ s = true := fun w h => hts w (List.mem_cons_of_mem _ h)
  have hown : s.vm.findClass RX0 = some m.cls := findClass_of_methodNamed B.named
  have hlocks := B.notSynchronized
  have hl := lv_entry ([.ref (y P), .int 2]) (n := 2) (Nat.le_of_ble_eq_true rfl)
  rw [lg_entry_eq]
  generalize (lg_sl ([.ref (y P), .int 2]) ++ List.replicate (2 - (lg_sl ([.ref (y P), .int 2])).length) Slot.unset).toArray = ls at hl ⊢
  have hl : lv_has ls 2 [(0, .ref (y P)), (1, .int 2)] := hl
  refine lv_iload_n hx hb dX0_of_0 rfl (lv_at hl 1 rfl) ?_
  refine lv_if_ne (tgt := 8) hx hb dX0_of_1 (by decide) (fun c_1 => ?_) (fun c_1 => absurd c_1 (by decide))
  refine lv_iload_n hx hb dX0_of_8 rfl (lv_at hl 1 rfl) ?_
  refine lv_iconst (v := 1) hx hb dX0_of_9 (by decide) ?_
  refine lv_icmp_ne (tgt := 20) hx hb dX0_of_10 (by decide) (fun c_2 => ?_) (fun c_2 => absurd c_2 (by decide))
  refine lv_aload_n hx hb dX0_of_20 rfl (lv_at hl 0 rfl) ?_
  refine a_castX (C := "LentYouths$Sad") hx hb (hml.trans hl.1.symm) htr hown (hts _ q501) hN9 (fun x hx9 => absurd hx9 List.not_mem_nil) (va_recv hK hP (ci := 4) (q0 := 16 + P) rfl (xG_c1 hPn hk)) (hN9.2.1 ("LentYouths$Sad", "LentYouths$Twin") (by decide)) (by decide +kernel) (by decide +kernel) (by decide +kernel) (by decide +kernel) (Nat.le_of_ble_eq_true rfl) (Nat.le_of_ble_eq_true rfl) (Nat.le_of_ble_eq_true rfl) (Nat.le_of_ble_eq_true rfl) dX0_of_21 (fun H1 ce h1 h2 h3 h4 => ?_)
  exact WT.out rfl rfl rfl het hlocks h2 h3 h4 h1 rfl (Nat.le_of_ble_eq_true rfl) (Nat.le_of_ble_eq_true rfl)
theorem oPS {dC : Nat → ClassId} {dI : Nat → Nat → Nat} {ct : Nat → ClassId} {A : Nat → Prop} {ex : va_W} {o : Nat} {q : Nat → Nat} {ql qs : Nat} {md : Int32} {qe n : Nat} {y : Nat → Nat} {g : Nat → Int32} {a : Nat → Nat → Int32} {s : State} {H : Heap} {locs : List Loc} (hK : va_K (dC, dI) clA (tyA ct) s) (hP : va_P (dC, dI) clA (xG ct o q (ql, qs, md, qe, n) y g a ex) H) (hE : exE A s) (hS : va_S A s.heap H locs) (As : List Value) : PreS s H (oPre dC dI ct A ex o q (ql, qs, md, qe, n) y g a As) As :=
  ⟨fun x U k mk z => ⟨z.1, z.2.1, va_K.moved (u := U) (U := U.calling k mk x) (Vm.Alike.refl U.vm) z.2.2.1, z.2.2.2.call k mk x⟩, fun U hU hW => ⟨rfl, by rw [hU]; exact hP, va_K.moved hW.alike hK, hE.S hS hU hW⟩⟩
theorem lin3 {K : Nat} (h : K < 3) : lin (nI K).toInt64 0 2 = true := by
  rw [lin_inP _ _ 3 (by decide), inP_nI (by omega)]; exact decide_eq_true h
set_option maxHeartbeats 4000000 in
set_option maxRecDepth 100000 in
theorem metX0_as_bad (l : Launch) (dC : Nat → ClassId) (dI : Nat → Nat → Nat) (ct : Nat → ClassId) (A : Nat → Prop) (ex : va_W) (o : Nat) (q : Nat → Nat) (ql qs : Nat) (md : Int32) (qe n : Nat) (y : Nat → Nat) (g : Nat → Int32) (a : Nat → Nat → Int32) (htr : l.stackTraces = false) (pp : Int32) (kind : Int32) (hn6 : n ≤ 6) (hp : inP pp n = false) : Met l yX0_as (wsW_ yX0_as cX0_as 4 (some .int) [((30 : Nat), (59 : Nat), (60 : Nat), (173 : Nat))]) ({ frames := 16, cells := 8, slots := 3000, locals := 12000 }) (sPre dC dI ct A ex o q (ql, qs, md, qe, n) y g a [.ref o, .int pp, .int kind]) (va_Qi (fun (r : Int32) (u : (Nat → Int32) × (Nat → Nat → Int32)) => r = (-1) ∧ u = ((upd g 0 0), a)) (fun u t => gB dC dI ct A ex o q (ql, qs, md, qe, n) y u t) A) 8 3000 A := by
  refine cx_MetW (cc := cX0_as) (maxL := 4) (ret := (some .int)) (hh := [((30 : Nat), (59 : Nat), (60 : Nat), (173 : Nat))]) (by decide) rfl ?_
  intro p e s m args below meth c s₁ B hml het hv
  obtain ⟨rfl, hP, hK, hD, hE, hE9, hA, hst, hI9⟩ := hv
  have hN9 := hE9.now
  have hx := B.exec
  have hb := B.bytes
  have hr := B.returns
  have hts := atoms_spec (ws := wsW_ yX0_as cX0_as 4 (some .int) [((30 : Nat), (59 : Nat), (60 : Nat), (173 : Nat))]) B.pre
  have hts : ∀ w ∈ lw_all, w.before _ s = true := fun w h => hts w (List.mem_cons_of_mem _ h)
  have hown : s.vm.findClass RX0 = some m.cls := findClass_of_methodNamed B.named
  have hlocks := B.notSynchronized
  have hS : va_S A s.heap s.heap [] := va_S.rf
  have hl := lv_entry ([.ref o, .int pp, .int kind]) (n := 4) (Nat.le_of_ble_eq_true rfl)
  rw [lg_entry_eq]
  generalize (lg_sl ([.ref o, .int pp, .int kind]) ++ List.replicate (4 - (lg_sl ([.ref o, .int pp, .int kind])).length) Slot.unset).toArray = ls at hl ⊢
  have hl : lv_has ls 4 [(0, .ref o), (1, .int pp), (2, .int kind)] := hl
  refine lv_aload_n hx hb dX0_as_0 rfl (lv_at hl 0 rfl) ?_
  refine lv_iconst (v := 0) hx hb dX0_as_1 (by decide) ?_
  refine g_put (v := 0) hx hb hts hown hK hP hD hS 0 0 (by decide) rfl q144 rfl rfl (by decide +kernel) dX0_as_2 (fun H locs hP hD hS => ?_)
  refine lv_aload_n hx hb dX0_as_5 rfl (lv_at hl 0 rfl) ?_
  refine lv_iload_n hx hb dX0_as_6 rfl (lv_at hl 1 rfl) ?_
  refine vp_callSi ((va_runV (As := [.int pp]) (rest := []) ⟨hx, hb, hml, hown, hts⟩ (metX0_isPerson l dC dI ct A (peW ct o qe n y a ++ ex) o q ql qs md qe n (upd g 0 0) a pp hn6) (cwV 1 hts (lw_V q589 q591 qs13 q69 q592) rfl rfl rfl (by decide +kernel) ⟨Nat.le_of_ble_eq_true rfl, Nat.le_of_ble_eq_true rfl⟩) (xPV hK hP hD hE _) rfl rfl hl.1 rfl (lv_room (Nat.le_of_ble_eq_true rfl)) dX0_as_7 ⟨Nat.le_of_ble_eq_true rfl, Nat.le_of_ble_eq_true rfl⟩)).run (fun r hw => ?_)
  have hw : r = (b2i (inP pp n)) := hw
  subst hw
  refine bz_ne (tgt := 15) hx hb dX0_as_10 (by decide) (fun c_1 => ?_) (fun c_1 => ?_)
  · skip
    exact False.elim (by rw [hp] at c_1; cases c_1)
  · skip
    refine lv_iconst (v := (-1)) hx hb dX0_as_13 (by decide) ?_
    refine W.widen (k := 8) (n := 3000) (Nat.le_of_ble_eq_true rfl) (Nat.le_of_ble_eq_true rfl) ?_
    exact W.iret (v := (-1)) hx hb hr (fun t ht hW => ⟨⟨(-1), ((upd g 0 0), a), rfl, ⟨(by first | rfl | (simp [c_1]; done)), rfl⟩, by rw [ht]; exact hP, va_K.moved hW.alike hK, hD⟩, hS.F ht⟩) hS.2.2 dX0_as_14
set_option maxHeartbeats 4000000 in
set_option maxRecDepth 100000 in
theorem metX0_as_out (l : Launch) (dC : Nat → ClassId) (dI : Nat → Nat → Nat) (ct : Nat → ClassId) (A : Nat → Prop) (ex : va_W) (o : Nat) (q : Nat → Nat) (ql qs : Nat) (md : Int32) (qe n : Nat) (y : Nat → Nat) (g : Nat → Int32) (a : Nat → Nat → Int32) (htr : l.stackTraces = false) (pp : Int32) (kind : Int32) (hn6 : n ≤ 6) (hp : inP pp n = true) (ho : lin kind.toInt64 0 2 = false) : Met l yX0_as (wsW_ yX0_as cX0_as 4 (some .int) [((30 : Nat), (59 : Nat), (60 : Nat), (173 : Nat))]) ({ frames := 16, cells := 8, slots := 3000, locals := 12000 }) (sPre dC dI ct A ex o q (ql, qs, md, qe, n) y g a [.ref o, .int pp, .int kind]) (va_Qi (fun (r : Int32) (u : (Nat → Int32) × (Nat → Nat → Int32)) => r = (-2) ∧ u = ((upd g 0 0), a)) (fun u t => gB dC dI ct A ex o q (ql, qs, md, qe, n) y u t) A) 8 3000 A := by
  refine cx_MetW (cc := cX0_as) (maxL := 4) (ret := (some .int)) (hh := [((30 : Nat), (59 : Nat), (60 : Nat), (173 : Nat))]) (by decide) rfl ?_
  intro p e s m args below meth c s₁ B hml het hv
  obtain ⟨rfl, hP, hK, hD, hE, hE9, hA, hst, hI9⟩ := hv
  have hN9 := hE9.now
  have hx := B.exec
  have hb := B.bytes
  have hr := B.returns
  have hts := atoms_spec (ws := wsW_ yX0_as cX0_as 4 (some .int) [((30 : Nat), (59 : Nat), (60 : Nat), (173 : Nat))]) B.pre
  have hts : ∀ w ∈ lw_all, w.before _ s = true := fun w h => hts w (List.mem_cons_of_mem _ h)
  have hown : s.vm.findClass RX0 = some m.cls := findClass_of_methodNamed B.named
  have hlocks := B.notSynchronized
  have hS : va_S A s.heap s.heap [] := va_S.rf
  have hl := lv_entry ([.ref o, .int pp, .int kind]) (n := 4) (Nat.le_of_ble_eq_true rfl)
  rw [lg_entry_eq]
  generalize (lg_sl ([.ref o, .int pp, .int kind]) ++ List.replicate (4 - (lg_sl ([.ref o, .int pp, .int kind])).length) Slot.unset).toArray = ls at hl ⊢
  have hl : lv_has ls 4 [(0, .ref o), (1, .int pp), (2, .int kind)] := hl
  refine lv_aload_n hx hb dX0_as_0 rfl (lv_at hl 0 rfl) ?_
  refine lv_iconst (v := 0) hx hb dX0_as_1 (by decide) ?_
  refine g_put (v := 0) hx hb hts hown hK hP hD hS 0 0 (by decide) rfl q144 rfl rfl (by decide +kernel) dX0_as_2 (fun H locs hP hD hS => ?_)
  refine lv_aload_n hx hb dX0_as_5 rfl (lv_at hl 0 rfl) ?_
  refine lv_iload_n hx hb dX0_as_6 rfl (lv_at hl 1 rfl) ?_
  refine vp_callSi ((va_runV (As := [.int pp]) (rest := []) ⟨hx, hb, hml, hown, hts⟩ (metX0_isPerson l dC dI ct A (peW ct o qe n y a ++ ex) o q ql qs md qe n (upd g 0 0) a pp hn6) (cwV 1 hts (lw_V q589 q591 qs13 q69 q592) rfl rfl rfl (by decide +kernel) ⟨Nat.le_of_ble_eq_true rfl, Nat.le_of_ble_eq_true rfl⟩) (xPV hK hP hD hE _) rfl rfl hl.1 rfl (lv_room (Nat.le_of_ble_eq_true rfl)) dX0_as_7 ⟨Nat.le_of_ble_eq_true rfl, Nat.le_of_ble_eq_true rfl⟩)).run (fun r hw => ?_)
  have hw : r = (b2i (inP pp n)) := hw
  subst hw
  refine bz_ne (tgt := 15) hx hb dX0_as_10 (by decide) (fun c_1 => ?_) (fun c_1 => ?_)
  · skip
    refine lv_iload_n hx hb dX0_as_15 rfl (lv_at hl 2 rfl) ?_
    refine lv_i2l (v := (Int32.toInt64 kind)) hx hb dX0_as_16 rfl ?_
    refine lv_lconst (v := 0) hx hb dX0_as_17 (by decide) ?_
    refine lv_ldc2 (v := 2) hx hb hown (hts _ q386) dX0_as_18 ?_
    refine vp_callSi ((va_runS (As := [.long (Int32.toInt64 kind), .long 0, .long 2]) (rest := []) ⟨hx, hb, hml, hown, hts⟩ (metX0_isIn l (Int32.toInt64 kind) 0 2 ) (va_cwS 3 hts (lw_S q380 q381 q69 q382) rfl rfl rfl (by decide +kernel) ⟨Nat.le_of_ble_eq_true rfl, Nat.le_of_ble_eq_true rfl⟩) (pcS _) rfl rfl hl.1 rfl (lv_room (Nat.le_of_ble_eq_true rfl)) dX0_as_21 ⟨Nat.le_of_ble_eq_true rfl, Nat.le_of_ble_eq_true rfl⟩)).run (fun r hw => ?_)
    have hw : r = (b2i (lin (Int32.toInt64 kind) 0 2)) := hw
    subst hw
    refine bz_ne (tgt := 30) hx hb dX0_as_24 (by decide) (fun c_2 => ?_) (fun c_2 => ?_)
    · skip
      exact False.elim (by rw [ho] at c_2; cases c_2)
    · skip
      refine lv_bipush (v := (-2)) hx hb dX0_as_27 (by decide) ?_
      refine W.widen (k := 8) (n := 3000) (Nat.le_of_ble_eq_true rfl) (Nat.le_of_ble_eq_true rfl) ?_
      exact W.iret (v := (-2)) hx hb hr (fun t ht hW => ⟨⟨(-2), ((upd g 0 0), a), rfl, ⟨(by first | rfl | (simp [c_1, c_2]; done)), rfl⟩, by rw [ht]; exact hP, va_K.moved hW.alike hK, hD⟩, hS.F ht⟩) hS.2.2 dX0_as_29
  · skip
    exact False.elim (by rw [hp] at c_1; cases c_1)
set_option maxHeartbeats 4000000 in
set_option maxRecDepth 100000 in
theorem metX0_as_x10 (l : Launch) (dC : Nat → ClassId) (dI : Nat → Nat → Nat) (ct : Nat → ClassId) (A : Nat → Prop) (ex : va_W) (o : Nat) (q : Nat → Nat) (ql qs : Nat) (md : Int32) (qe n : Nat) (y : Nat → Nat) (g : Nat → Int32) (a : Nat → Nat → Int32) (htr : l.stackTraces = false) (P : Nat) (kd1 : Int32) (hn6 : n ≤ 6) (hPn : P < n) (hk : kdN (a 2 P) = 0) : Met l yX0_as (wsW_ yX0_as cX0_as 4 (some .int) [((30 : Nat), (59 : Nat), (60 : Nat), (173 : Nat))]) ({ frames := 16, cells := 8, slots := 3000, locals := 12000 }) (sPre dC dI ct A ex o q (ql, qs, md, qe, n) y g a [.ref o, .int (nI P), .int 1]) (va_Qi (fun (r : Int32) (u : (Nat → Int32) × (Nat → Nat → Int32)) => r = (-12) ∧ u = ((upd g 0 2), a)) (fun u t => gB dC dI ct A ex o q (ql, qs, md, qe, n) y u t) A) 8 3000 A := by
  refine cx_MetW (cc := cX0_as) (maxL := 4) (ret := (some .int)) (hh := [((30 : Nat), (59 : Nat), (60 : Nat), (173 : Nat))]) (by decide) rfl ?_
  intro p e s m args below meth c s₁ B hml het hv
  obtain ⟨rfl, hP, hK, hD, hE, hE9, hA, hst, hI9⟩ := hv
  have hN9 := hE9.now
  have hx := B.exec
  have hb := B.bytes
  have hr := B.returns
  have hts := atoms_spec (ws := wsW_ yX0_as cX0_as 4 (some .int) [((30 : Nat), (59 : Nat), (60 : Nat), (173 : Nat))]) B.pre
  have hts : ∀ w ∈ lw_all, w.before _ s = true := fun w h => hts w (List.mem_cons_of_mem _ h)
  have hown : s.vm.findClass RX0 = some m.cls := findClass_of_methodNamed B.named
  have hlocks := B.notSynchronized
  have hS : va_S A s.heap s.heap [] := va_S.rf
  have hl := lv_entry ([.ref o, .int (nI P), .int 1]) (n := 4) (Nat.le_of_ble_eq_true rfl)
  rw [lg_entry_eq]
  generalize (lg_sl ([.ref o, .int (nI P), .int 1]) ++ List.replicate (4 - (lg_sl ([.ref o, .int (nI P), .int 1])).length) Slot.unset).toArray = ls at hl ⊢
  have hl : lv_has ls 4 [(0, .ref o), (1, .int (nI P)), (2, .int 1)] := hl
  refine lv_aload_n hx hb dX0_as_0 rfl (lv_at hl 0 rfl) ?_
  refine lv_iconst (v := 0) hx hb dX0_as_1 (by decide) ?_
  refine g_put (v := 0) hx hb hts hown hK hP hD hS 0 0 (by decide) rfl q144 rfl rfl (by decide +kernel) dX0_as_2 (fun H locs hP hD hS => ?_)
  refine lv_aload_n hx hb dX0_as_5 rfl (lv_at hl 0 rfl) ?_
  refine lv_iload_n hx hb dX0_as_6 rfl (lv_at hl 1 rfl) ?_
  refine vp_callSi ((va_runV (As := [.int (nI P)]) (rest := []) ⟨hx, hb, hml, hown, hts⟩ (metX0_isPerson l dC dI ct A (peW ct o qe n y a ++ ex) o q ql qs md qe n (upd g 0 0) a (nI P) hn6) (cwV 1 hts (lw_V q589 q591 qs13 q69 q592) rfl rfl rfl (by decide +kernel) ⟨Nat.le_of_ble_eq_true rfl, Nat.le_of_ble_eq_true rfl⟩) (xPV hK hP hD hE _) rfl rfl hl.1 rfl (lv_room (Nat.le_of_ble_eq_true rfl)) dX0_as_7 ⟨Nat.le_of_ble_eq_true rfl, Nat.le_of_ble_eq_true rfl⟩)).run (fun r hw => ?_)
  have hw : r = (b2i (inP (nI P) n)) := hw
  subst hw
  refine bz_ne (tgt := 15) hx hb dX0_as_10 (by decide) (fun c_1 => ?_) (fun c_1 => ?_)
  · skip
    refine lv_iload_n hx hb dX0_as_15 rfl (lv_at hl 2 rfl) ?_
    refine lv_i2l (v := (Int32.toInt64 1)) hx hb dX0_as_16 rfl ?_
    refine lv_lconst (v := 0) hx hb dX0_as_17 (by decide) ?_
    refine lv_ldc2 (v := 2) hx hb hown (hts _ q386) dX0_as_18 ?_
    refine vp_callSi ((va_runS (As := [.long (Int32.toInt64 1), .long 0, .long 2]) (rest := []) ⟨hx, hb, hml, hown, hts⟩ (metX0_isIn l (Int32.toInt64 1) 0 2 ) (va_cwS 3 hts (lw_S q380 q381 q69 q382) rfl rfl rfl (by decide +kernel) ⟨Nat.le_of_ble_eq_true rfl, Nat.le_of_ble_eq_true rfl⟩) (pcS _) rfl rfl hl.1 rfl (lv_room (Nat.le_of_ble_eq_true rfl)) dX0_as_21 ⟨Nat.le_of_ble_eq_true rfl, Nat.le_of_ble_eq_true rfl⟩)).run (fun r hw => ?_)
    have hw : r = (b2i (lin (Int32.toInt64 1) 0 2)) := hw
    subst hw
    refine bz_ne (tgt := 30) hx hb dX0_as_24 (by decide) (fun c_2 => ?_) (fun c_2 => ?_)
    · skip
      refine lv_aload_n hx hb dX0_as_30 rfl (lv_at hl 0 rfl) ?_
      refine g_get (v := .ref ql) hx hb hts hown hK hP 2 (by decide) rfl q146 rfl dX0_as_31 ?_
      refine lv_iload_n hx hb dX0_as_34 rfl (lv_at hl 1 rfl) ?_
      refine va_csFr (va_runF (As := [.int (nI P)]) (rest := []) (jAt hK) ⟨hx, hb, hml, hown, hts⟩ (metJ2_get l dC dI ct (xG ct o q (ql, qs, md, qe, n) y (upd g 0 0) a ex) ql md qe n 14 rfl P 15 10 (y P) (edF y n) (xG_ed (Nat.lt_of_le_of_lt (Nat.zero_le _) hPn)) (Nat.lt_of_lt_of_le hPn (by omega)) (by omega) (if_pos hPn) hPn (by omega)) (va_cwF 1 hts (lw_F q607 q610 q612 q72 q614) rfl rfl rfl (xE_fw_get hE) (by decide +kernel) ⟨Nat.le_of_ble_eq_true rfl, Nat.le_of_ble_eq_true rfl⟩) (jPV (k := 14) (md := md) (qe := qe) (n := n) hK hP rfl _) rfl rfl hl.1 rfl (lv_room (Nat.le_of_ble_eq_true rfl)) dX0_as_35 ⟨Nat.le_of_ble_eq_true rfl, Nat.le_of_ble_eq_true rfl⟩) (fun r hw => ?_)
      have hw : (y P) = r := Eq.symm hw
      subst hw
      refine c_cast hx hb hts hown hK hP hE hPn q451 dX0_as_40 ?_
      refine lv_iload_n hx hb dX0_as_43 rfl (lv_at hl 2 rfl) ?_
      refine W.exCall (As := [.ref (y P), .int 1]) (rest := []) ⟨hx, hb, hml, hown, hts⟩ (metX0_of_x10 l dC dI ct A ex o q ql qs md qe n y (upd g 0 0) a htr P hPn hk) (va_cwS 2 hts (lw_S q963 q964 q69 q965) rfl rfl rfl (by decide +kernel) ⟨Nat.le_of_ble_eq_true rfl, Nat.le_of_ble_eq_true rfl⟩) (oPS hK hP hE9 hS _) rfl hl.1 rfl (Nat.le_of_ble_eq_true rfl) dX0_as_44 ⟨Nat.le_of_ble_eq_true rfl, Nat.le_of_ble_eq_true rfl⟩ (fun H x9 ce h1 h2 h3 h4 => ?_)
      have hP := h1.P hP
      have hS := h1.S hS
      refine WT.caught (own := "LentYouths") hown h2 h4 (x := ⟨30, 59, 60, 173⟩) (rest := cxT []) (nm := "java/lang/ClassCastException") ⟨rfl, by decide, hts _ q232⟩ h3 (va_asg _ _) [] (fun z hz => absurd hz List.not_mem_nil) het ?_
      refine W.eq (g2 := F0 m 60 ls [.ref x9]) rfl ?_
      refine lv_astore_n (lv' := [(3, .ref x9), (0, .ref o), (1, .int (nI P)), (2, .int 1)]) hx hb dX0_as_60 rfl hl (by decide) rfl (fun ls hl => ?_)
      refine lv_aload_n hx hb dX0_as_61 rfl (lv_at hl 1 rfl) ?_
      refine lv_iconst (v := 2) hx hb dX0_as_62 (by decide) ?_
      refine va_calli (va_runV (As := [.int 2]) (rest := []) ⟨hx, hb, hml, hown, hts⟩ (metX0_faulty l dC dI ct A (peW ct o qe n y a ++ ex) o q ql qs md qe n (upd g 0 0) a 2 ) (cwV 1 hts (lw_V q581 q583 qs12 q69 q584) rfl rfl rfl (by decide +kernel) ⟨Nat.le_of_ble_eq_true rfl, Nat.le_of_ble_eq_true rfl⟩) (xPV hK hP hD hE _) rfl rfl hl.1 rfl (lv_room (Nat.le_of_ble_eq_true rfl)) dX0_as_63 ⟨Nat.le_of_ble_eq_true rfl, Nat.le_of_ble_eq_true rfl⟩) hS (fun q _ h => h) (fun q h => h) (fun r u t H1 locs ht hvm hw hB hz1 hk1 hS => ?_)
      obtain ⟨hw, hw2⟩ := hw
      have hw : r = ((-10) - 2) := hw
      subst hw
      subst hw2
      obtain ⟨hP, -, hD⟩ := hB
      rw [ht] at hP
      generalize H1 = H at hP hS ⊢
      have hP : va_P (dC, dI) clA (xG ct o q (ql, qs, md, qe, n) y (upd g 0 2) a ex) H := hP
      have hD : va_D A (xG ct o q (ql, qs, md, qe, n) y (upd g 0 2) a ex) := hD
      refine W.widen (k := 8) (n := 3000) (Nat.le_of_ble_eq_true rfl) (Nat.le_of_ble_eq_true rfl) ?_
      exact W.iret (v := ((-10) - 2)) hx hb hr (fun t ht hW => ⟨⟨((-10) - 2), ((upd g 0 2), a), rfl, ⟨(by first | rfl | (simp [c_1, c_2]; done)), rfl⟩, by rw [ht]; exact hP, va_K.moved hW.alike hK, hD⟩, hS.F ht⟩) hS.2.2 dX0_as_66
    · skip
      exact False.elim (by exact absurd c_2 (by decide))
  · skip
    exact False.elim (by rw [inPn hn6 hPn] at c_1; cases c_1)
set_option maxHeartbeats 4000000 in
set_option maxRecDepth 100000 in
theorem metX0_as_x20 (l : Launch) (dC : Nat → ClassId) (dI : Nat → Nat → Nat) (ct : Nat → ClassId) (A : Nat → Prop) (ex : va_W) (o : Nat) (q : Nat → Nat) (ql qs : Nat) (md : Int32) (qe n : Nat) (y : Nat → Nat) (g : Nat → Int32) (a : Nat → Nat → Int32) (htr : l.stackTraces = false) (P : Nat) (kd2 : Int32) (hn6 : n ≤ 6) (hPn : P < n) (hk : kdN (a 2 P) = 0) : Met l yX0_as (wsW_ yX0_as cX0_as 4 (some .int) [((30 : Nat), (59 : Nat), (60 : Nat), (173 : Nat))]) ({ frames := 16, cells := 8, slots := 3000, locals := 12000 }) (sPre dC dI ct A ex o q (ql, qs, md, qe, n) y g a [.ref o, .int (nI P), .int 2]) (va_Qi (fun (r : Int32) (u : (Nat → Int32) × (Nat → Nat → Int32)) => r = (-12) ∧ u = ((upd g 0 2), a)) (fun u t => gB dC dI ct A ex o q (ql, qs, md, qe, n) y u t) A) 8 3000 A := by
  refine cx_MetW (cc := cX0_as) (maxL := 4) (ret := (some .int)) (hh := [((30 : Nat), (59 : Nat), (60 : Nat), (173 : Nat))]) (by decide) rfl ?_
  intro p e s m args below meth c s₁ B hml het hv
  obtain ⟨rfl, hP, hK, hD, hE, hE9, hA, hst, hI9⟩ := hv
  have hN9 := hE9.now
  have hx := B.exec
  have hb := B.bytes
  have hr := B.returns
  have hts := atoms_spec (ws := wsW_ yX0_as cX0_as 4 (some .int) [((30 : Nat), (59 : Nat), (60 : Nat), (173 : Nat))]) B.pre
  have hts : ∀ w ∈ lw_all, w.before _ s = true := fun w h => hts w (List.mem_cons_of_mem _ h)
  have hown : s.vm.findClass RX0 = some m.cls := findClass_of_methodNamed B.named
  have hlocks := B.notSynchronized
  have hS : va_S A s.heap s.heap [] := va_S.rf
  have hl := lv_entry ([.ref o, .int (nI P), .int 2]) (n := 4) (Nat.le_of_ble_eq_true rfl)
  rw [lg_entry_eq]
  generalize (lg_sl ([.ref o, .int (nI P), .int 2]) ++ List.replicate (4 - (lg_sl ([.ref o, .int (nI P), .int 2])).length) Slot.unset).toArray = ls at hl ⊢
  have hl : lv_has ls 4 [(0, .ref o), (1, .int (nI P)), (2, .int 2)] := hl
  refine lv_aload_n hx hb dX0_as_0 rfl (lv_at hl 0 rfl) ?_
  refine lv_iconst (v := 0) hx hb dX0_as_1 (by decide) ?_
  refine g_put (v := 0) hx hb hts hown hK hP hD hS 0 0 (by decide) rfl q144 rfl rfl (by decide +kernel) dX0_as_2 (fun H locs hP hD hS => ?_)
  refine lv_aload_n hx hb dX0_as_5 rfl (lv_at hl 0 rfl) ?_
  refine lv_iload_n hx hb dX0_as_6 rfl (lv_at hl 1 rfl) ?_
  refine vp_callSi ((va_runV (As := [.int (nI P)]) (rest := []) ⟨hx, hb, hml, hown, hts⟩ (metX0_isPerson l dC dI ct A (peW ct o qe n y a ++ ex) o q ql qs md qe n (upd g 0 0) a (nI P) hn6) (cwV 1 hts (lw_V q589 q591 qs13 q69 q592) rfl rfl rfl (by decide +kernel) ⟨Nat.le_of_ble_eq_true rfl, Nat.le_of_ble_eq_true rfl⟩) (xPV hK hP hD hE _) rfl rfl hl.1 rfl (lv_room (Nat.le_of_ble_eq_true rfl)) dX0_as_7 ⟨Nat.le_of_ble_eq_true rfl, Nat.le_of_ble_eq_true rfl⟩)).run (fun r hw => ?_)
  have hw : r = (b2i (inP (nI P) n)) := hw
  subst hw
  refine bz_ne (tgt := 15) hx hb dX0_as_10 (by decide) (fun c_1 => ?_) (fun c_1 => ?_)
  · skip
    refine lv_iload_n hx hb dX0_as_15 rfl (lv_at hl 2 rfl) ?_
    refine lv_i2l (v := (Int32.toInt64 2)) hx hb dX0_as_16 rfl ?_
    refine lv_lconst (v := 0) hx hb dX0_as_17 (by decide) ?_
    refine lv_ldc2 (v := 2) hx hb hown (hts _ q386) dX0_as_18 ?_
    refine vp_callSi ((va_runS (As := [.long (Int32.toInt64 2), .long 0, .long 2]) (rest := []) ⟨hx, hb, hml, hown, hts⟩ (metX0_isIn l (Int32.toInt64 2) 0 2 ) (va_cwS 3 hts (lw_S q380 q381 q69 q382) rfl rfl rfl (by decide +kernel) ⟨Nat.le_of_ble_eq_true rfl, Nat.le_of_ble_eq_true rfl⟩) (pcS _) rfl rfl hl.1 rfl (lv_room (Nat.le_of_ble_eq_true rfl)) dX0_as_21 ⟨Nat.le_of_ble_eq_true rfl, Nat.le_of_ble_eq_true rfl⟩)).run (fun r hw => ?_)
    have hw : r = (b2i (lin (Int32.toInt64 2) 0 2)) := hw
    subst hw
    refine bz_ne (tgt := 30) hx hb dX0_as_24 (by decide) (fun c_2 => ?_) (fun c_2 => ?_)
    · skip
      refine lv_aload_n hx hb dX0_as_30 rfl (lv_at hl 0 rfl) ?_
      refine g_get (v := .ref ql) hx hb hts hown hK hP 2 (by decide) rfl q146 rfl dX0_as_31 ?_
      refine lv_iload_n hx hb dX0_as_34 rfl (lv_at hl 1 rfl) ?_
      refine va_csFr (va_runF (As := [.int (nI P)]) (rest := []) (jAt hK) ⟨hx, hb, hml, hown, hts⟩ (metJ2_get l dC dI ct (xG ct o q (ql, qs, md, qe, n) y (upd g 0 0) a ex) ql md qe n 14 rfl P 15 10 (y P) (edF y n) (xG_ed (Nat.lt_of_le_of_lt (Nat.zero_le _) hPn)) (Nat.lt_of_lt_of_le hPn (by omega)) (by omega) (if_pos hPn) hPn (by omega)) (va_cwF 1 hts (lw_F q607 q610 q612 q72 q614) rfl rfl rfl (xE_fw_get hE) (by decide +kernel) ⟨Nat.le_of_ble_eq_true rfl, Nat.le_of_ble_eq_true rfl⟩) (jPV (k := 14) (md := md) (qe := qe) (n := n) hK hP rfl _) rfl rfl hl.1 rfl (lv_room (Nat.le_of_ble_eq_true rfl)) dX0_as_35 ⟨Nat.le_of_ble_eq_true rfl, Nat.le_of_ble_eq_true rfl⟩) (fun r hw => ?_)
      have hw : (y P) = r := Eq.symm hw
      subst hw
      refine c_cast hx hb hts hown hK hP hE hPn q451 dX0_as_40 ?_
      refine lv_iload_n hx hb dX0_as_43 rfl (lv_at hl 2 rfl) ?_
      refine W.exCall (As := [.ref (y P), .int 2]) (rest := []) ⟨hx, hb, hml, hown, hts⟩ (metX0_of_x20 l dC dI ct A ex o q ql qs md qe n y (upd g 0 0) a htr P hPn hk) (va_cwS 2 hts (lw_S q963 q964 q69 q965) rfl rfl rfl (by decide +kernel) ⟨Nat.le_of_ble_eq_true rfl, Nat.le_of_ble_eq_true rfl⟩) (oPS hK hP hE9 hS _) rfl hl.1 rfl (Nat.le_of_ble_eq_true rfl) dX0_as_44 ⟨Nat.le_of_ble_eq_true rfl, Nat.le_of_ble_eq_true rfl⟩ (fun H x9 ce h1 h2 h3 h4 => ?_)
      have hP := h1.P hP
      have hS := h1.S hS
      refine WT.caught (own := "LentYouths") hown h2 h4 (x := ⟨30, 59, 60, 173⟩) (rest := cxT []) (nm := "java/lang/ClassCastException") ⟨rfl, by decide, hts _ q232⟩ h3 (va_asg _ _) [] (fun z hz => absurd hz List.not_mem_nil) het ?_
      refine W.eq (g2 := F0 m 60 ls [.ref x9]) rfl ?_
      refine lv_astore_n (lv' := [(3, .ref x9), (0, .ref o), (1, .int (nI P)), (2, .int 2)]) hx hb dX0_as_60 rfl hl (by decide) rfl (fun ls hl => ?_)
      refine lv_aload_n hx hb dX0_as_61 rfl (lv_at hl 1 rfl) ?_
      refine lv_iconst (v := 2) hx hb dX0_as_62 (by decide) ?_
      refine va_calli (va_runV (As := [.int 2]) (rest := []) ⟨hx, hb, hml, hown, hts⟩ (metX0_faulty l dC dI ct A (peW ct o qe n y a ++ ex) o q ql qs md qe n (upd g 0 0) a 2 ) (cwV 1 hts (lw_V q581 q583 qs12 q69 q584) rfl rfl rfl (by decide +kernel) ⟨Nat.le_of_ble_eq_true rfl, Nat.le_of_ble_eq_true rfl⟩) (xPV hK hP hD hE _) rfl rfl hl.1 rfl (lv_room (Nat.le_of_ble_eq_true rfl)) dX0_as_63 ⟨Nat.le_of_ble_eq_true rfl, Nat.le_of_ble_eq_true rfl⟩) hS (fun q _ h => h) (fun q h => h) (fun r u t H1 locs ht hvm hw hB hz1 hk1 hS => ?_)
      obtain ⟨hw, hw2⟩ := hw
      have hw : r = ((-10) - 2) := hw
      subst hw
      subst hw2
      obtain ⟨hP, -, hD⟩ := hB
      rw [ht] at hP
      generalize H1 = H at hP hS ⊢
      have hP : va_P (dC, dI) clA (xG ct o q (ql, qs, md, qe, n) y (upd g 0 2) a ex) H := hP
      have hD : va_D A (xG ct o q (ql, qs, md, qe, n) y (upd g 0 2) a ex) := hD
      refine W.widen (k := 8) (n := 3000) (Nat.le_of_ble_eq_true rfl) (Nat.le_of_ble_eq_true rfl) ?_
      exact W.iret (v := ((-10) - 2)) hx hb hr (fun t ht hW => ⟨⟨((-10) - 2), ((upd g 0 2), a), rfl, ⟨(by first | rfl | (simp [c_1, c_2]; done)), rfl⟩, by rw [ht]; exact hP, va_K.moved hW.alike hK, hD⟩, hS.F ht⟩) hS.2.2 dX0_as_66
    · skip
      exact False.elim (by exact absurd c_2 (by decide))
  · skip
    exact False.elim (by rw [inPn hn6 hPn] at c_1; cases c_1)
set_option maxHeartbeats 4000000 in
set_option maxRecDepth 100000 in
theorem metX0_as_x21 (l : Launch) (dC : Nat → ClassId) (dI : Nat → Nat → Nat) (ct : Nat → ClassId) (A : Nat → Prop) (ex : va_W) (o : Nat) (q : Nat → Nat) (ql qs : Nat) (md : Int32) (qe n : Nat) (y : Nat → Nat) (g : Nat → Int32) (a : Nat → Nat → Int32) (htr : l.stackTraces = false) (P : Nat) (kd2 : Int32) (hn6 : n ≤ 6) (hPn : P < n) (hk : kdN (a 2 P) = 1) : Met l yX0_as (wsW_ yX0_as cX0_as 4 (some .int) [((30 : Nat), (59 : Nat), (60 : Nat), (173 : Nat))]) ({ frames := 16, cells := 8, slots := 3000, locals := 12000 }) (sPre dC dI ct A ex o q (ql, qs, md, qe, n) y g a [.ref o, .int (nI P), .int 2]) (va_Qi (fun (r : Int32) (u : (Nat → Int32) × (Nat → Nat → Int32)) => r = (-12) ∧ u = ((upd g 0 2), a)) (fun u t => gB dC dI ct A ex o q (ql, qs, md, qe, n) y u t) A) 8 3000 A := by
  refine cx_MetW (cc := cX0_as) (maxL := 4) (ret := (some .int)) (hh := [((30 : Nat), (59 : Nat), (60 : Nat), (173 : Nat))]) (by decide) rfl ?_
  intro p e s m args below meth c s₁ B hml het hv
  obtain ⟨rfl, hP, hK, hD, hE, hE9, hA, hst, hI9⟩ := hv
  have hN9 := hE9.now
  have hx := B.exec
  have hb := B.bytes
  have hr := B.returns
  have hts := atoms_spec (ws := wsW_ yX0_as cX0_as 4 (some .int) [((30 : Nat), (59 : Nat), (60 : Nat), (173 : Nat))]) B.pre
  have hts : ∀ w ∈ lw_all, w.before _ s = true := fun w h => hts w (List.mem_cons_of_mem _ h)
  have hown : s.vm.findClass RX0 = some m.cls := findClass_of_methodNamed B.named
  have hlocks := B.notSynchronized
  have hS : va_S A s.heap s.heap [] := va_S.rf
  have hl := lv_entry ([.ref o, .int (nI P), .int 2]) (n := 4) (Nat.le_of_ble_eq_true rfl)
  rw [lg_entry_eq]
  generalize (lg_sl ([.ref o, .int (nI P), .int 2]) ++ List.replicate (4 - (lg_sl ([.ref o, .int (nI P), .int 2])).length) Slot.unset).toArray = ls at hl ⊢
  have hl : lv_has ls 4 [(0, .ref o), (1, .int (nI P)), (2, .int 2)] := hl
  refine lv_aload_n hx hb dX0_as_0 rfl (lv_at hl 0 rfl) ?_
  refine lv_iconst (v := 0) hx hb dX0_as_1 (by decide) ?_
  refine g_put (v := 0) hx hb hts hown hK hP hD hS 0 0 (by decide) rfl q144 rfl rfl (by decide +kernel) dX0_as_2 (fun H locs hP hD hS => ?_)
  refine lv_aload_n hx hb dX0_as_5 rfl (lv_at hl 0 rfl) ?_
  refine lv_iload_n hx hb dX0_as_6 rfl (lv_at hl 1 rfl) ?_
  refine vp_callSi ((va_runV (As := [.int (nI P)]) (rest := []) ⟨hx, hb, hml, hown, hts⟩ (metX0_isPerson l dC dI ct A (peW ct o qe n y a ++ ex) o q ql qs md qe n (upd g 0 0) a (nI P) hn6) (cwV 1 hts (lw_V q589 q591 qs13 q69 q592) rfl rfl rfl (by decide +kernel) ⟨Nat.le_of_ble_eq_true rfl, Nat.le_of_ble_eq_true rfl⟩) (xPV hK hP hD hE _) rfl rfl hl.1 rfl (lv_room (Nat.le_of_ble_eq_true rfl)) dX0_as_7 ⟨Nat.le_of_ble_eq_true rfl, Nat.le_of_ble_eq_true rfl⟩)).run (fun r hw => ?_)
  have hw : r = (b2i (inP (nI P) n)) := hw
  subst hw
  refine bz_ne (tgt := 15) hx hb dX0_as_10 (by decide) (fun c_1 => ?_) (fun c_1 => ?_)
  · skip
    refine lv_iload_n hx hb dX0_as_15 rfl (lv_at hl 2 rfl) ?_
    refine lv_i2l (v := (Int32.toInt64 2)) hx hb dX0_as_16 rfl ?_
    refine lv_lconst (v := 0) hx hb dX0_as_17 (by decide) ?_
    refine lv_ldc2 (v := 2) hx hb hown (hts _ q386) dX0_as_18 ?_
    refine vp_callSi ((va_runS (As := [.long (Int32.toInt64 2), .long 0, .long 2]) (rest := []) ⟨hx, hb, hml, hown, hts⟩ (metX0_isIn l (Int32.toInt64 2) 0 2 ) (va_cwS 3 hts (lw_S q380 q381 q69 q382) rfl rfl rfl (by decide +kernel) ⟨Nat.le_of_ble_eq_true rfl, Nat.le_of_ble_eq_true rfl⟩) (pcS _) rfl rfl hl.1 rfl (lv_room (Nat.le_of_ble_eq_true rfl)) dX0_as_21 ⟨Nat.le_of_ble_eq_true rfl, Nat.le_of_ble_eq_true rfl⟩)).run (fun r hw => ?_)
    have hw : r = (b2i (lin (Int32.toInt64 2) 0 2)) := hw
    subst hw
    refine bz_ne (tgt := 30) hx hb dX0_as_24 (by decide) (fun c_2 => ?_) (fun c_2 => ?_)
    · skip
      refine lv_aload_n hx hb dX0_as_30 rfl (lv_at hl 0 rfl) ?_
      refine g_get (v := .ref ql) hx hb hts hown hK hP 2 (by decide) rfl q146 rfl dX0_as_31 ?_
      refine lv_iload_n hx hb dX0_as_34 rfl (lv_at hl 1 rfl) ?_
      refine va_csFr (va_runF (As := [.int (nI P)]) (rest := []) (jAt hK) ⟨hx, hb, hml, hown, hts⟩ (metJ2_get l dC dI ct (xG ct o q (ql, qs, md, qe, n) y (upd g 0 0) a ex) ql md qe n 14 rfl P 15 10 (y P) (edF y n) (xG_ed (Nat.lt_of_le_of_lt (Nat.zero_le _) hPn)) (Nat.lt_of_lt_of_le hPn (by omega)) (by omega) (if_pos hPn) hPn (by omega)) (va_cwF 1 hts (lw_F q607 q610 q612 q72 q614) rfl rfl rfl (xE_fw_get hE) (by decide +kernel) ⟨Nat.le_of_ble_eq_true rfl, Nat.le_of_ble_eq_true rfl⟩) (jPV (k := 14) (md := md) (qe := qe) (n := n) hK hP rfl _) rfl rfl hl.1 rfl (lv_room (Nat.le_of_ble_eq_true rfl)) dX0_as_35 ⟨Nat.le_of_ble_eq_true rfl, Nat.le_of_ble_eq_true rfl⟩) (fun r hw => ?_)
      have hw : (y P) = r := Eq.symm hw
      subst hw
      refine c_cast hx hb hts hown hK hP hE hPn q451 dX0_as_40 ?_
      refine lv_iload_n hx hb dX0_as_43 rfl (lv_at hl 2 rfl) ?_
      refine W.exCall (As := [.ref (y P), .int 2]) (rest := []) ⟨hx, hb, hml, hown, hts⟩ (metX0_of_x21 l dC dI ct A ex o q ql qs md qe n y (upd g 0 0) a htr P hPn hk) (va_cwS 2 hts (lw_S q963 q964 q69 q965) rfl rfl rfl (by decide +kernel) ⟨Nat.le_of_ble_eq_true rfl, Nat.le_of_ble_eq_true rfl⟩) (oPS hK hP hE9 hS _) rfl hl.1 rfl (Nat.le_of_ble_eq_true rfl) dX0_as_44 ⟨Nat.le_of_ble_eq_true rfl, Nat.le_of_ble_eq_true rfl⟩ (fun H x9 ce h1 h2 h3 h4 => ?_)
      have hP := h1.P hP
      have hS := h1.S hS
      refine WT.caught (own := "LentYouths") hown h2 h4 (x := ⟨30, 59, 60, 173⟩) (rest := cxT []) (nm := "java/lang/ClassCastException") ⟨rfl, by decide, hts _ q232⟩ h3 (va_asg _ _) [] (fun z hz => absurd hz List.not_mem_nil) het ?_
      refine W.eq (g2 := F0 m 60 ls [.ref x9]) rfl ?_
      refine lv_astore_n (lv' := [(3, .ref x9), (0, .ref o), (1, .int (nI P)), (2, .int 2)]) hx hb dX0_as_60 rfl hl (by decide) rfl (fun ls hl => ?_)
      refine lv_aload_n hx hb dX0_as_61 rfl (lv_at hl 1 rfl) ?_
      refine lv_iconst (v := 2) hx hb dX0_as_62 (by decide) ?_
      refine va_calli (va_runV (As := [.int 2]) (rest := []) ⟨hx, hb, hml, hown, hts⟩ (metX0_faulty l dC dI ct A (peW ct o qe n y a ++ ex) o q ql qs md qe n (upd g 0 0) a 2 ) (cwV 1 hts (lw_V q581 q583 qs12 q69 q584) rfl rfl rfl (by decide +kernel) ⟨Nat.le_of_ble_eq_true rfl, Nat.le_of_ble_eq_true rfl⟩) (xPV hK hP hD hE _) rfl rfl hl.1 rfl (lv_room (Nat.le_of_ble_eq_true rfl)) dX0_as_63 ⟨Nat.le_of_ble_eq_true rfl, Nat.le_of_ble_eq_true rfl⟩) hS (fun q _ h => h) (fun q h => h) (fun r u t H1 locs ht hvm hw hB hz1 hk1 hS => ?_)
      obtain ⟨hw, hw2⟩ := hw
      have hw : r = ((-10) - 2) := hw
      subst hw
      subst hw2
      obtain ⟨hP, -, hD⟩ := hB
      rw [ht] at hP
      generalize H1 = H at hP hS ⊢
      have hP : va_P (dC, dI) clA (xG ct o q (ql, qs, md, qe, n) y (upd g 0 2) a ex) H := hP
      have hD : va_D A (xG ct o q (ql, qs, md, qe, n) y (upd g 0 2) a ex) := hD
      refine W.widen (k := 8) (n := 3000) (Nat.le_of_ble_eq_true rfl) (Nat.le_of_ble_eq_true rfl) ?_
      exact W.iret (v := ((-10) - 2)) hx hb hr (fun t ht hW => ⟨⟨((-10) - 2), ((upd g 0 2), a), rfl, ⟨(by first | rfl | (simp [c_1, c_2]; done)), rfl⟩, by rw [ht]; exact hP, va_K.moved hW.alike hK, hD⟩, hS.F ht⟩) hS.2.2 dX0_as_66
    · skip
      exact False.elim (by exact absurd c_2 (by decide))
  · skip
    exact False.elim (by rw [inPn hn6 hPn] at c_1; cases c_1)
set_option maxHeartbeats 4000000 in
set_option maxRecDepth 100000 in
theorem metX0_as_0 (l : Launch) (dC : Nat → ClassId) (dI : Nat → Nat → Nat) (ct : Nat → ClassId) (A : Nat → Prop) (ex : va_W) (o : Nat) (q : Nat → Nat) (ql qs : Nat) (md : Int32) (qe n : Nat) (y : Nat → Nat) (g : Nat → Int32) (a : Nat → Nat → Int32) (htr : l.stackTraces = false) (P : Nat) (kd0 : Int32) (hn6 : n ≤ 6) (hPn : P < n) : Met l yX0_as (wsW_ yX0_as cX0_as 4 (some .int) [((30 : Nat), (59 : Nat), (60 : Nat), (173 : Nat))]) ({ frames := 16, cells := 8, slots := 3000, locals := 12000 }) (sPre dC dI ct A ex o q (ql, qs, md, qe, n) y g a [.ref o, .int (nI P), .int 0]) (va_Qi (fun (r : Int32) (u : (Nat → Int32) × (Nat → Nat → Int32)) => r = 1 ∧ u = ((upd g 0 0), a)) (fun u t => gB dC dI ct A ex o q (ql, qs, md, qe, n) y u t) A) 8 3000 A := by
  refine cx_MetW (cc := cX0_as) (maxL := 4) (ret := (some .int)) (hh := [((30 : Nat), (59 : Nat), (60 : Nat), (173 : Nat))]) (by decide) rfl ?_
  intro p e s m args below meth c s₁ B hml het hv
  obtain ⟨rfl, hP, hK, hD, hE, hE9, hA, hst, hI9⟩ := hv
  have hN9 := hE9.now
  have hx := B.exec
  have hb := B.bytes
  have hr := B.returns
  have hts := atoms_spec (ws := wsW_ yX0_as cX0_as 4 (some .int) [((30 : Nat), (59 : Nat), (60 : Nat), (173 : Nat))]) B.pre
  have hts : ∀ w ∈ lw_all, w.before _ s = true := fun w h => hts w (List.mem_cons_of_mem _ h)
  have hown : s.vm.findClass RX0 = some m.cls := findClass_of_methodNamed B.named
  have hlocks := B.notSynchronized
  have hS : va_S A s.heap s.heap [] := va_S.rf
  have hl := lv_entry ([.ref o, .int (nI P), .int 0]) (n := 4) (Nat.le_of_ble_eq_true rfl)
  rw [lg_entry_eq]
  generalize (lg_sl ([.ref o, .int (nI P), .int 0]) ++ List.replicate (4 - (lg_sl ([.ref o, .int (nI P), .int 0])).length) Slot.unset).toArray = ls at hl ⊢
  have hl : lv_has ls 4 [(0, .ref o), (1, .int (nI P)), (2, .int 0)] := hl
  refine lv_aload_n hx hb dX0_as_0 rfl (lv_at hl 0 rfl) ?_
  refine lv_iconst (v := 0) hx hb dX0_as_1 (by decide) ?_
  refine g_put (v := 0) hx hb hts hown hK hP hD hS 0 0 (by decide) rfl q144 rfl rfl (by decide +kernel) dX0_as_2 (fun H locs hP hD hS => ?_)
  refine lv_aload_n hx hb dX0_as_5 rfl (lv_at hl 0 rfl) ?_
  refine lv_iload_n hx hb dX0_as_6 rfl (lv_at hl 1 rfl) ?_
  refine vp_callSi ((va_runV (As := [.int (nI P)]) (rest := []) ⟨hx, hb, hml, hown, hts⟩ (metX0_isPerson l dC dI ct A (peW ct o qe n y a ++ ex) o q ql qs md qe n (upd g 0 0) a (nI P) hn6) (cwV 1 hts (lw_V q589 q591 qs13 q69 q592) rfl rfl rfl (by decide +kernel) ⟨Nat.le_of_ble_eq_true rfl, Nat.le_of_ble_eq_true rfl⟩) (xPV hK hP hD hE _) rfl rfl hl.1 rfl (lv_room (Nat.le_of_ble_eq_true rfl)) dX0_as_7 ⟨Nat.le_of_ble_eq_true rfl, Nat.le_of_ble_eq_true rfl⟩)).run (fun r hw => ?_)
  have hw : r = (b2i (inP (nI P) n)) := hw
  subst hw
  refine bz_ne (tgt := 15) hx hb dX0_as_10 (by decide) (fun c_1 => ?_) (fun c_1 => ?_)
  · skip
    refine lv_iload_n hx hb dX0_as_15 rfl (lv_at hl 2 rfl) ?_
    refine lv_i2l (v := (Int32.toInt64 0)) hx hb dX0_as_16 rfl ?_
    refine lv_lconst (v := 0) hx hb dX0_as_17 (by decide) ?_
    refine lv_ldc2 (v := 2) hx hb hown (hts _ q386) dX0_as_18 ?_
    refine vp_callSi ((va_runS (As := [.long (Int32.toInt64 0), .long 0, .long 2]) (rest := []) ⟨hx, hb, hml, hown, hts⟩ (metX0_isIn l (Int32.toInt64 0) 0 2 ) (va_cwS 3 hts (lw_S q380 q381 q69 q382) rfl rfl rfl (by decide +kernel) ⟨Nat.le_of_ble_eq_true rfl, Nat.le_of_ble_eq_true rfl⟩) (pcS _) rfl rfl hl.1 rfl (lv_room (Nat.le_of_ble_eq_true rfl)) dX0_as_21 ⟨Nat.le_of_ble_eq_true rfl, Nat.le_of_ble_eq_true rfl⟩)).run (fun r hw => ?_)
    have hw : r = (b2i (lin (Int32.toInt64 0) 0 2)) := hw
    subst hw
    refine bz_ne (tgt := 30) hx hb dX0_as_24 (by decide) (fun c_2 => ?_) (fun c_2 => ?_)
    · skip
      refine lv_aload_n hx hb dX0_as_30 rfl (lv_at hl 0 rfl) ?_
      refine g_get (v := .ref ql) hx hb hts hown hK hP 2 (by decide) rfl q146 rfl dX0_as_31 ?_
      refine lv_iload_n hx hb dX0_as_34 rfl (lv_at hl 1 rfl) ?_
      refine va_csFr (va_runF (As := [.int (nI P)]) (rest := []) (jAt hK) ⟨hx, hb, hml, hown, hts⟩ (metJ2_get l dC dI ct (xG ct o q (ql, qs, md, qe, n) y (upd g 0 0) a ex) ql md qe n 14 rfl P 15 10 (y P) (edF y n) (xG_ed (Nat.lt_of_le_of_lt (Nat.zero_le _) hPn)) (Nat.lt_of_lt_of_le hPn (by omega)) (by omega) (if_pos hPn) hPn (by omega)) (va_cwF 1 hts (lw_F q607 q610 q612 q72 q614) rfl rfl rfl (xE_fw_get hE) (by decide +kernel) ⟨Nat.le_of_ble_eq_true rfl, Nat.le_of_ble_eq_true rfl⟩) (jPV (k := 14) (md := md) (qe := qe) (n := n) hK hP rfl _) rfl rfl hl.1 rfl (lv_room (Nat.le_of_ble_eq_true rfl)) dX0_as_35 ⟨Nat.le_of_ble_eq_true rfl, Nat.le_of_ble_eq_true rfl⟩) (fun r hw => ?_)
      have hw : (y P) = r := Eq.symm hw
      subst hw
      refine c_cast hx hb hts hown hK hP hE hPn q451 dX0_as_40 ?_
      refine lv_iload_n hx hb dX0_as_43 rfl (lv_at hl 2 rfl) ?_
      refine va_csr (va_Run.run (va_runS (As := [.ref (y P), .int 0]) (rest := []) ⟨hx, hb, hml, hown, hts⟩ (metX0_of_0 l dC dI ct A ex o q ql qs md qe n y (upd g 0 0) a P 0 hPn) (va_cwS 2 hts (lw_S q963 q964 q69 q965) rfl rfl rfl (by decide +kernel) ⟨Nat.le_of_ble_eq_true rfl, Nat.le_of_ble_eq_true rfl⟩) (gPS hK hP hD hE _) rfl rfl hl.1 rfl (lv_room (Nat.le_of_ble_eq_true rfl)) dX0_as_44 ⟨Nat.le_of_ble_eq_true rfl, Nat.le_of_ble_eq_true rfl⟩)) (fun r hw => ?_)
      have hw : (y P) = r := Eq.symm hw
      subst hw
      refine vp_callSi (post := fun r => r = (nI (kdN ((a 2) P)))) (a := ([.ref (y P)] : List Value).toArray) (rest := []) (va_Run.run ?_) (fun r hw => ?_)
      · skip
        rcases kdN_cases ((a 2) P) with hk | hk | hk
        · rw [hk]; exact va_runU (As := []) (rest := []) ⟨hx, hb, hml, hown, hts⟩ (metX3_kind l dC dI ct A ex o q ql qs md qe n y (upd g 0 0) a P hPn ) (va_cwU 0 hts (lw_U q625 q628 q627 q626 q85 q635) rfl rfl rfl rfl (by decide +kernel) ⟨Nat.le_of_ble_eq_true rfl, Nat.le_of_ble_eq_true rfl⟩) (cPV0 (a := a) hPn hk hK hP hD hE _) rfl rfl hl.1 rfl (lv_room (Nat.le_of_ble_eq_true rfl)) dX0_as_47 ⟨Nat.le_of_ble_eq_true rfl, Nat.le_of_ble_eq_true rfl⟩
        · rw [hk]; exact va_runU (As := []) (rest := []) ⟨hx, hb, hml, hown, hts⟩ (metX4_kind l dC dI ct A ex o q ql qs md qe n y (upd g 0 0) a P hPn (Or.inl hk)) (va_cwO 0 hts (lw_O q625 q628 q626 q629 q630 q86 q631) rfl rfl rfl q635 (by decide +kernel) ⟨Nat.le_of_ble_eq_true rfl, Nat.le_of_ble_eq_true rfl⟩) (cPV1 (a := a) hPn hk hK hP hD hE _) rfl rfl hl.1 rfl (lv_room (Nat.le_of_ble_eq_true rfl)) dX0_as_47 ⟨Nat.le_of_ble_eq_true rfl, Nat.le_of_ble_eq_true rfl⟩
        · rw [hk]; exact va_runU (As := []) (rest := []) ⟨hx, hb, hml, hown, hts⟩ (metX5_kind l dC dI ct A ex o q ql qs md qe n y (upd g 0 0) a P hPn hk) (va_cwO 0 hts (lw_O q625 q628 q626 q632 q633 q87 q634) rfl rfl rfl q635 (by decide +kernel) ⟨Nat.le_of_ble_eq_true rfl, Nat.le_of_ble_eq_true rfl⟩) (cPV2 (a := a) hPn hk hK hP hD hE _) rfl rfl hl.1 rfl (lv_room (Nat.le_of_ble_eq_true rfl)) dX0_as_47 ⟨Nat.le_of_ble_eq_true rfl, Nat.le_of_ble_eq_true rfl⟩
      have hw : r = (nI (kdN ((a 2) P))) := hw
      subst hw
      refine lv_iload_n hx hb dX0_as_50 rfl (lv_at hl 2 rfl) ?_
      refine lv_icmp_lt (tgt := 58) hx hb dX0_as_51 (by decide) (fun c_3 => ?_) (fun c_3 => ?_)
      · skip
        exact False.elim (by rcases kdN_cases (a 2 P) with h | h | h <;> rw [h] at c_3 <;> exact absurd c_3 (by decide))
      · skip
        refine lv_iconst (v := 1) hx hb dX0_as_54 (by decide) ?_
        refine lv_goto (tgt := 59) hx hb dX0_as_55 (by decide) ?_
        refine W.widen (k := 8) (n := 3000) (Nat.le_of_ble_eq_true rfl) (Nat.le_of_ble_eq_true rfl) ?_
        exact W.iret (v := 1) hx hb hr (fun t ht hW => ⟨⟨1, ((upd g 0 0), a), rfl, ⟨(by first | rfl | (simp [c_1, c_2, c_3]; done)), rfl⟩, by rw [ht]; exact hP, va_K.moved hW.alike hK, hD⟩, hS.F ht⟩) hS.2.2 dX0_as_59
    · skip
      exact False.elim (by exact absurd c_2 (by decide))
  · skip
    exact False.elim (by rw [inPn hn6 hPn] at c_1; cases c_1)
set_option maxHeartbeats 4000000 in
set_option maxRecDepth 100000 in
theorem metX0_as_1 (l : Launch) (dC : Nat → ClassId) (dI : Nat → Nat → Nat) (ct : Nat → ClassId) (A : Nat → Prop) (ex : va_W) (o : Nat) (q : Nat → Nat) (ql qs : Nat) (md : Int32) (qe n : Nat) (y : Nat → Nat) (g : Nat → Int32) (a : Nat → Nat → Int32) (htr : l.stackTraces = false) (P : Nat) (kd1 : Int32) (hn6 : n ≤ 6) (hPn : P < n) (hk : kdN (a 2 P) = 1 ∨ kdN (a 2 P) = 2) : Met l yX0_as (wsW_ yX0_as cX0_as 4 (some .int) [((30 : Nat), (59 : Nat), (60 : Nat), (173 : Nat))]) ({ frames := 16, cells := 8, slots := 3000, locals := 12000 }) (sPre dC dI ct A ex o q (ql, qs, md, qe, n) y g a [.ref o, .int (nI P), .int 1]) (va_Qi (fun (r : Int32) (u : (Nat → Int32) × (Nat → Nat → Int32)) => r = 1 ∧ u = ((upd g 0 0), a)) (fun u t => gB dC dI ct A ex o q (ql, qs, md, qe, n) y u t) A) 8 3000 A := by
  refine cx_MetW (cc := cX0_as) (maxL := 4) (ret := (some .int)) (hh := [((30 : Nat), (59 : Nat), (60 : Nat), (173 : Nat))]) (by decide) rfl ?_
  intro p e s m args below meth c s₁ B hml het hv
  obtain ⟨rfl, hP, hK, hD, hE, hE9, hA, hst, hI9⟩ := hv
  have hN9 := hE9.now
  have hx := B.exec
  have hb := B.bytes
  have hr := B.returns
  have hts := atoms_spec (ws := wsW_ yX0_as cX0_as 4 (some .int) [((30 : Nat), (59 : Nat), (60 : Nat), (173 : Nat))]) B.pre
  have hts : ∀ w ∈ lw_all, w.before _ s = true := fun w h => hts w (List.mem_cons_of_mem _ h)
  have hown : s.vm.findClass RX0 = some m.cls := findClass_of_methodNamed B.named
  have hlocks := B.notSynchronized
  have hS : va_S A s.heap s.heap [] := va_S.rf
  have hl := lv_entry ([.ref o, .int (nI P), .int 1]) (n := 4) (Nat.le_of_ble_eq_true rfl)
  rw [lg_entry_eq]
  generalize (lg_sl ([.ref o, .int (nI P), .int 1]) ++ List.replicate (4 - (lg_sl ([.ref o, .int (nI P), .int 1])).length) Slot.unset).toArray = ls at hl ⊢
  have hl : lv_has ls 4 [(0, .ref o), (1, .int (nI P)), (2, .int 1)] := hl
  refine lv_aload_n hx hb dX0_as_0 rfl (lv_at hl 0 rfl) ?_
  refine lv_iconst (v := 0) hx hb dX0_as_1 (by decide) ?_
  refine g_put (v := 0) hx hb hts hown hK hP hD hS 0 0 (by decide) rfl q144 rfl rfl (by decide +kernel) dX0_as_2 (fun H locs hP hD hS => ?_)
  refine lv_aload_n hx hb dX0_as_5 rfl (lv_at hl 0 rfl) ?_
  refine lv_iload_n hx hb dX0_as_6 rfl (lv_at hl 1 rfl) ?_
  refine vp_callSi ((va_runV (As := [.int (nI P)]) (rest := []) ⟨hx, hb, hml, hown, hts⟩ (metX0_isPerson l dC dI ct A (peW ct o qe n y a ++ ex) o q ql qs md qe n (upd g 0 0) a (nI P) hn6) (cwV 1 hts (lw_V q589 q591 qs13 q69 q592) rfl rfl rfl (by decide +kernel) ⟨Nat.le_of_ble_eq_true rfl, Nat.le_of_ble_eq_true rfl⟩) (xPV hK hP hD hE _) rfl rfl hl.1 rfl (lv_room (Nat.le_of_ble_eq_true rfl)) dX0_as_7 ⟨Nat.le_of_ble_eq_true rfl, Nat.le_of_ble_eq_true rfl⟩)).run (fun r hw => ?_)
  have hw : r = (b2i (inP (nI P) n)) := hw
  subst hw
  refine bz_ne (tgt := 15) hx hb dX0_as_10 (by decide) (fun c_1 => ?_) (fun c_1 => ?_)
  · skip
    refine lv_iload_n hx hb dX0_as_15 rfl (lv_at hl 2 rfl) ?_
    refine lv_i2l (v := (Int32.toInt64 1)) hx hb dX0_as_16 rfl ?_
    refine lv_lconst (v := 0) hx hb dX0_as_17 (by decide) ?_
    refine lv_ldc2 (v := 2) hx hb hown (hts _ q386) dX0_as_18 ?_
    refine vp_callSi ((va_runS (As := [.long (Int32.toInt64 1), .long 0, .long 2]) (rest := []) ⟨hx, hb, hml, hown, hts⟩ (metX0_isIn l (Int32.toInt64 1) 0 2 ) (va_cwS 3 hts (lw_S q380 q381 q69 q382) rfl rfl rfl (by decide +kernel) ⟨Nat.le_of_ble_eq_true rfl, Nat.le_of_ble_eq_true rfl⟩) (pcS _) rfl rfl hl.1 rfl (lv_room (Nat.le_of_ble_eq_true rfl)) dX0_as_21 ⟨Nat.le_of_ble_eq_true rfl, Nat.le_of_ble_eq_true rfl⟩)).run (fun r hw => ?_)
    have hw : r = (b2i (lin (Int32.toInt64 1) 0 2)) := hw
    subst hw
    refine bz_ne (tgt := 30) hx hb dX0_as_24 (by decide) (fun c_2 => ?_) (fun c_2 => ?_)
    · skip
      refine lv_aload_n hx hb dX0_as_30 rfl (lv_at hl 0 rfl) ?_
      refine g_get (v := .ref ql) hx hb hts hown hK hP 2 (by decide) rfl q146 rfl dX0_as_31 ?_
      refine lv_iload_n hx hb dX0_as_34 rfl (lv_at hl 1 rfl) ?_
      refine va_csFr (va_runF (As := [.int (nI P)]) (rest := []) (jAt hK) ⟨hx, hb, hml, hown, hts⟩ (metJ2_get l dC dI ct (xG ct o q (ql, qs, md, qe, n) y (upd g 0 0) a ex) ql md qe n 14 rfl P 15 10 (y P) (edF y n) (xG_ed (Nat.lt_of_le_of_lt (Nat.zero_le _) hPn)) (Nat.lt_of_lt_of_le hPn (by omega)) (by omega) (if_pos hPn) hPn (by omega)) (va_cwF 1 hts (lw_F q607 q610 q612 q72 q614) rfl rfl rfl (xE_fw_get hE) (by decide +kernel) ⟨Nat.le_of_ble_eq_true rfl, Nat.le_of_ble_eq_true rfl⟩) (jPV (k := 14) (md := md) (qe := qe) (n := n) hK hP rfl _) rfl rfl hl.1 rfl (lv_room (Nat.le_of_ble_eq_true rfl)) dX0_as_35 ⟨Nat.le_of_ble_eq_true rfl, Nat.le_of_ble_eq_true rfl⟩) (fun r hw => ?_)
      have hw : (y P) = r := Eq.symm hw
      subst hw
      refine c_cast hx hb hts hown hK hP hE hPn q451 dX0_as_40 ?_
      refine lv_iload_n hx hb dX0_as_43 rfl (lv_at hl 2 rfl) ?_
      refine va_csr (va_Run.run (va_runS (As := [.ref (y P), .int 1]) (rest := []) ⟨hx, hb, hml, hown, hts⟩ (metX0_of_1 l dC dI ct A ex o q ql qs md qe n y (upd g 0 0) a P 0 hPn hk) (va_cwS 2 hts (lw_S q963 q964 q69 q965) rfl rfl rfl (by decide +kernel) ⟨Nat.le_of_ble_eq_true rfl, Nat.le_of_ble_eq_true rfl⟩) (gPS hK hP hD hE _) rfl rfl hl.1 rfl (lv_room (Nat.le_of_ble_eq_true rfl)) dX0_as_44 ⟨Nat.le_of_ble_eq_true rfl, Nat.le_of_ble_eq_true rfl⟩)) (fun r hw => ?_)
      have hw : (y P) = r := Eq.symm hw
      subst hw
      refine vp_callSi (post := fun r => r = (nI (kdN ((a 2) P)))) (a := ([.ref (y P)] : List Value).toArray) (rest := []) (va_Run.run ?_) (fun r hw => ?_)
      · skip
        rcases kdN_cases ((a 2) P) with hk | hk | hk
        · rw [hk]; exact va_runU (As := []) (rest := []) ⟨hx, hb, hml, hown, hts⟩ (metX3_kind l dC dI ct A ex o q ql qs md qe n y (upd g 0 0) a P hPn ) (va_cwU 0 hts (lw_U q625 q628 q627 q626 q85 q635) rfl rfl rfl rfl (by decide +kernel) ⟨Nat.le_of_ble_eq_true rfl, Nat.le_of_ble_eq_true rfl⟩) (cPV0 (a := a) hPn hk hK hP hD hE _) rfl rfl hl.1 rfl (lv_room (Nat.le_of_ble_eq_true rfl)) dX0_as_47 ⟨Nat.le_of_ble_eq_true rfl, Nat.le_of_ble_eq_true rfl⟩
        · rw [hk]; exact va_runU (As := []) (rest := []) ⟨hx, hb, hml, hown, hts⟩ (metX4_kind l dC dI ct A ex o q ql qs md qe n y (upd g 0 0) a P hPn (Or.inl hk)) (va_cwO 0 hts (lw_O q625 q628 q626 q629 q630 q86 q631) rfl rfl rfl q635 (by decide +kernel) ⟨Nat.le_of_ble_eq_true rfl, Nat.le_of_ble_eq_true rfl⟩) (cPV1 (a := a) hPn hk hK hP hD hE _) rfl rfl hl.1 rfl (lv_room (Nat.le_of_ble_eq_true rfl)) dX0_as_47 ⟨Nat.le_of_ble_eq_true rfl, Nat.le_of_ble_eq_true rfl⟩
        · rw [hk]; exact va_runU (As := []) (rest := []) ⟨hx, hb, hml, hown, hts⟩ (metX5_kind l dC dI ct A ex o q ql qs md qe n y (upd g 0 0) a P hPn hk) (va_cwO 0 hts (lw_O q625 q628 q626 q632 q633 q87 q634) rfl rfl rfl q635 (by decide +kernel) ⟨Nat.le_of_ble_eq_true rfl, Nat.le_of_ble_eq_true rfl⟩) (cPV2 (a := a) hPn hk hK hP hD hE _) rfl rfl hl.1 rfl (lv_room (Nat.le_of_ble_eq_true rfl)) dX0_as_47 ⟨Nat.le_of_ble_eq_true rfl, Nat.le_of_ble_eq_true rfl⟩
      have hw : r = (nI (kdN ((a 2) P))) := hw
      subst hw
      refine lv_iload_n hx hb dX0_as_50 rfl (lv_at hl 2 rfl) ?_
      refine lv_icmp_lt (tgt := 58) hx hb dX0_as_51 (by decide) (fun c_3 => ?_) (fun c_3 => ?_)
      · skip
        exact False.elim (by rcases hk with h | h <;> rw [h] at c_3 <;> exact absurd c_3 (by decide))
      · skip
        refine lv_iconst (v := 1) hx hb dX0_as_54 (by decide) ?_
        refine lv_goto (tgt := 59) hx hb dX0_as_55 (by decide) ?_
        refine W.widen (k := 8) (n := 3000) (Nat.le_of_ble_eq_true rfl) (Nat.le_of_ble_eq_true rfl) ?_
        exact W.iret (v := 1) hx hb hr (fun t ht hW => ⟨⟨1, ((upd g 0 0), a), rfl, ⟨(by first | rfl | (simp [c_1, c_2, c_3]; done)), rfl⟩, by rw [ht]; exact hP, va_K.moved hW.alike hK, hD⟩, hS.F ht⟩) hS.2.2 dX0_as_59
    · skip
      exact False.elim (by exact absurd c_2 (by decide))
  · skip
    exact False.elim (by rw [inPn hn6 hPn] at c_1; cases c_1)
set_option maxHeartbeats 4000000 in
set_option maxRecDepth 100000 in
theorem metX0_as_2 (l : Launch) (dC : Nat → ClassId) (dI : Nat → Nat → Nat) (ct : Nat → ClassId) (A : Nat → Prop) (ex : va_W) (o : Nat) (q : Nat → Nat) (ql qs : Nat) (md : Int32) (qe n : Nat) (y : Nat → Nat) (g : Nat → Int32) (a : Nat → Nat → Int32) (htr : l.stackTraces = false) (P : Nat) (kd2 : Int32) (hn6 : n ≤ 6) (hPn : P < n) (hk : kdN (a 2 P) = 2) : Met l yX0_as (wsW_ yX0_as cX0_as 4 (some .int) [((30 : Nat), (59 : Nat), (60 : Nat), (173 : Nat))]) ({ frames := 16, cells := 8, slots := 3000, locals := 12000 }) (sPre dC dI ct A ex o q (ql, qs, md, qe, n) y g a [.ref o, .int (nI P), .int 2]) (va_Qi (fun (r : Int32) (u : (Nat → Int32) × (Nat → Nat → Int32)) => r = 1 ∧ u = ((upd g 0 0), a)) (fun u t => gB dC dI ct A ex o q (ql, qs, md, qe, n) y u t) A) 8 3000 A := by
  refine cx_MetW (cc := cX0_as) (maxL := 4) (ret := (some .int)) (hh := [((30 : Nat), (59 : Nat), (60 : Nat), (173 : Nat))]) (by decide) rfl ?_
  intro p e s m args below meth c s₁ B hml het hv
  obtain ⟨rfl, hP, hK, hD, hE, hE9, hA, hst, hI9⟩ := hv
  have hN9 := hE9.now
  have hx := B.exec
  have hb := B.bytes
  have hr := B.returns
  have hts := atoms_spec (ws := wsW_ yX0_as cX0_as 4 (some .int) [((30 : Nat), (59 : Nat), (60 : Nat), (173 : Nat))]) B.pre
  have hts : ∀ w ∈ lw_all, w.before _ s = true := fun w h => hts w (List.mem_cons_of_mem _ h)
  have hown : s.vm.findClass RX0 = some m.cls := findClass_of_methodNamed B.named
  have hlocks := B.notSynchronized
  have hS : va_S A s.heap s.heap [] := va_S.rf
  have hl := lv_entry ([.ref o, .int (nI P), .int 2]) (n := 4) (Nat.le_of_ble_eq_true rfl)
  rw [lg_entry_eq]
  generalize (lg_sl ([.ref o, .int (nI P), .int 2]) ++ List.replicate (4 - (lg_sl ([.ref o, .int (nI P), .int 2])).length) Slot.unset).toArray = ls at hl ⊢
  have hl : lv_has ls 4 [(0, .ref o), (1, .int (nI P)), (2, .int 2)] := hl
  refine lv_aload_n hx hb dX0_as_0 rfl (lv_at hl 0 rfl) ?_
  refine lv_iconst (v := 0) hx hb dX0_as_1 (by decide) ?_
  refine g_put (v := 0) hx hb hts hown hK hP hD hS 0 0 (by decide) rfl q144 rfl rfl (by decide +kernel) dX0_as_2 (fun H locs hP hD hS => ?_)
  refine lv_aload_n hx hb dX0_as_5 rfl (lv_at hl 0 rfl) ?_
  refine lv_iload_n hx hb dX0_as_6 rfl (lv_at hl 1 rfl) ?_
  refine vp_callSi ((va_runV (As := [.int (nI P)]) (rest := []) ⟨hx, hb, hml, hown, hts⟩ (metX0_isPerson l dC dI ct A (peW ct o qe n y a ++ ex) o q ql qs md qe n (upd g 0 0) a (nI P) hn6) (cwV 1 hts (lw_V q589 q591 qs13 q69 q592) rfl rfl rfl (by decide +kernel) ⟨Nat.le_of_ble_eq_true rfl, Nat.le_of_ble_eq_true rfl⟩) (xPV hK hP hD hE _) rfl rfl hl.1 rfl (lv_room (Nat.le_of_ble_eq_true rfl)) dX0_as_7 ⟨Nat.le_of_ble_eq_true rfl, Nat.le_of_ble_eq_true rfl⟩)).run (fun r hw => ?_)
  have hw : r = (b2i (inP (nI P) n)) := hw
  subst hw
  refine bz_ne (tgt := 15) hx hb dX0_as_10 (by decide) (fun c_1 => ?_) (fun c_1 => ?_)
  · skip
    refine lv_iload_n hx hb dX0_as_15 rfl (lv_at hl 2 rfl) ?_
    refine lv_i2l (v := (Int32.toInt64 2)) hx hb dX0_as_16 rfl ?_
    refine lv_lconst (v := 0) hx hb dX0_as_17 (by decide) ?_
    refine lv_ldc2 (v := 2) hx hb hown (hts _ q386) dX0_as_18 ?_
    refine vp_callSi ((va_runS (As := [.long (Int32.toInt64 2), .long 0, .long 2]) (rest := []) ⟨hx, hb, hml, hown, hts⟩ (metX0_isIn l (Int32.toInt64 2) 0 2 ) (va_cwS 3 hts (lw_S q380 q381 q69 q382) rfl rfl rfl (by decide +kernel) ⟨Nat.le_of_ble_eq_true rfl, Nat.le_of_ble_eq_true rfl⟩) (pcS _) rfl rfl hl.1 rfl (lv_room (Nat.le_of_ble_eq_true rfl)) dX0_as_21 ⟨Nat.le_of_ble_eq_true rfl, Nat.le_of_ble_eq_true rfl⟩)).run (fun r hw => ?_)
    have hw : r = (b2i (lin (Int32.toInt64 2) 0 2)) := hw
    subst hw
    refine bz_ne (tgt := 30) hx hb dX0_as_24 (by decide) (fun c_2 => ?_) (fun c_2 => ?_)
    · skip
      refine lv_aload_n hx hb dX0_as_30 rfl (lv_at hl 0 rfl) ?_
      refine g_get (v := .ref ql) hx hb hts hown hK hP 2 (by decide) rfl q146 rfl dX0_as_31 ?_
      refine lv_iload_n hx hb dX0_as_34 rfl (lv_at hl 1 rfl) ?_
      refine va_csFr (va_runF (As := [.int (nI P)]) (rest := []) (jAt hK) ⟨hx, hb, hml, hown, hts⟩ (metJ2_get l dC dI ct (xG ct o q (ql, qs, md, qe, n) y (upd g 0 0) a ex) ql md qe n 14 rfl P 15 10 (y P) (edF y n) (xG_ed (Nat.lt_of_le_of_lt (Nat.zero_le _) hPn)) (Nat.lt_of_lt_of_le hPn (by omega)) (by omega) (if_pos hPn) hPn (by omega)) (va_cwF 1 hts (lw_F q607 q610 q612 q72 q614) rfl rfl rfl (xE_fw_get hE) (by decide +kernel) ⟨Nat.le_of_ble_eq_true rfl, Nat.le_of_ble_eq_true rfl⟩) (jPV (k := 14) (md := md) (qe := qe) (n := n) hK hP rfl _) rfl rfl hl.1 rfl (lv_room (Nat.le_of_ble_eq_true rfl)) dX0_as_35 ⟨Nat.le_of_ble_eq_true rfl, Nat.le_of_ble_eq_true rfl⟩) (fun r hw => ?_)
      have hw : (y P) = r := Eq.symm hw
      subst hw
      refine c_cast hx hb hts hown hK hP hE hPn q451 dX0_as_40 ?_
      refine lv_iload_n hx hb dX0_as_43 rfl (lv_at hl 2 rfl) ?_
      refine va_csr (va_Run.run (va_runS (As := [.ref (y P), .int 2]) (rest := []) ⟨hx, hb, hml, hown, hts⟩ (metX0_of_2 l dC dI ct A ex o q ql qs md qe n y (upd g 0 0) a P 0 hPn hk) (va_cwS 2 hts (lw_S q963 q964 q69 q965) rfl rfl rfl (by decide +kernel) ⟨Nat.le_of_ble_eq_true rfl, Nat.le_of_ble_eq_true rfl⟩) (gPS hK hP hD hE _) rfl rfl hl.1 rfl (lv_room (Nat.le_of_ble_eq_true rfl)) dX0_as_44 ⟨Nat.le_of_ble_eq_true rfl, Nat.le_of_ble_eq_true rfl⟩)) (fun r hw => ?_)
      have hw : (y P) = r := Eq.symm hw
      subst hw
      refine vp_callSi (post := fun r => r = (nI (kdN ((a 2) P)))) (a := ([.ref (y P)] : List Value).toArray) (rest := []) (va_Run.run ?_) (fun r hw => ?_)
      · skip
        rcases kdN_cases ((a 2) P) with hk | hk | hk
        · rw [hk]; exact va_runU (As := []) (rest := []) ⟨hx, hb, hml, hown, hts⟩ (metX3_kind l dC dI ct A ex o q ql qs md qe n y (upd g 0 0) a P hPn ) (va_cwU 0 hts (lw_U q625 q628 q627 q626 q85 q635) rfl rfl rfl rfl (by decide +kernel) ⟨Nat.le_of_ble_eq_true rfl, Nat.le_of_ble_eq_true rfl⟩) (cPV0 (a := a) hPn hk hK hP hD hE _) rfl rfl hl.1 rfl (lv_room (Nat.le_of_ble_eq_true rfl)) dX0_as_47 ⟨Nat.le_of_ble_eq_true rfl, Nat.le_of_ble_eq_true rfl⟩
        · rw [hk]; exact va_runU (As := []) (rest := []) ⟨hx, hb, hml, hown, hts⟩ (metX4_kind l dC dI ct A ex o q ql qs md qe n y (upd g 0 0) a P hPn (Or.inl hk)) (va_cwO 0 hts (lw_O q625 q628 q626 q629 q630 q86 q631) rfl rfl rfl q635 (by decide +kernel) ⟨Nat.le_of_ble_eq_true rfl, Nat.le_of_ble_eq_true rfl⟩) (cPV1 (a := a) hPn hk hK hP hD hE _) rfl rfl hl.1 rfl (lv_room (Nat.le_of_ble_eq_true rfl)) dX0_as_47 ⟨Nat.le_of_ble_eq_true rfl, Nat.le_of_ble_eq_true rfl⟩
        · rw [hk]; exact va_runU (As := []) (rest := []) ⟨hx, hb, hml, hown, hts⟩ (metX5_kind l dC dI ct A ex o q ql qs md qe n y (upd g 0 0) a P hPn hk) (va_cwO 0 hts (lw_O q625 q628 q626 q632 q633 q87 q634) rfl rfl rfl q635 (by decide +kernel) ⟨Nat.le_of_ble_eq_true rfl, Nat.le_of_ble_eq_true rfl⟩) (cPV2 (a := a) hPn hk hK hP hD hE _) rfl rfl hl.1 rfl (lv_room (Nat.le_of_ble_eq_true rfl)) dX0_as_47 ⟨Nat.le_of_ble_eq_true rfl, Nat.le_of_ble_eq_true rfl⟩
      have hw : r = (nI (kdN ((a 2) P))) := hw
      subst hw
      refine lv_iload_n hx hb dX0_as_50 rfl (lv_at hl 2 rfl) ?_
      refine lv_icmp_lt (tgt := 58) hx hb dX0_as_51 (by decide) (fun c_3 => ?_) (fun c_3 => ?_)
      · skip
        exact False.elim (by rw [hk] at c_3; exact absurd c_3 (by decide))
      · skip
        refine lv_iconst (v := 1) hx hb dX0_as_54 (by decide) ?_
        refine lv_goto (tgt := 59) hx hb dX0_as_55 (by decide) ?_
        refine W.widen (k := 8) (n := 3000) (Nat.le_of_ble_eq_true rfl) (Nat.le_of_ble_eq_true rfl) ?_
        exact W.iret (v := 1) hx hb hr (fun t ht hW => ⟨⟨1, ((upd g 0 0), a), rfl, ⟨(by first | rfl | (simp [c_1, c_2, c_3]; done)), rfl⟩, by rw [ht]; exact hP, va_K.moved hW.alike hK, hD⟩, hS.F ht⟩) hS.2.2 dX0_as_59
    · skip
      exact False.elim (by exact absurd c_2 (by decide))
  · skip
    exact False.elim (by rw [inPn hn6 hPn] at c_1; cases c_1)
