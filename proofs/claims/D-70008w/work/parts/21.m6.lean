/-! THE MODEL: its small methods on people -/
set_option maxHeartbeats 4000000 in
set_option maxRecDepth 100000 in
theorem metX2_ofPerson (l : Launch) (dC : Nat → ClassId) (dI : Nat → Nat → Nat) (ct : Nat → ClassId) (A : Nat → Prop) (ex : va_W) (o : Nat) (q : Nat → Nat) (g : Nat → Int32) (a : Nat → Nat → Int32) (x : Int32) (what : Int32) (n : Nat) (hn6 : n ≤ 6) (hn : g 1 = nI n) : Met l yX2_ofPerson (ws_ yX2_ofPerson cX2_ofPerson 3 (some .int)) ({ frames := 2, cells := 0, slots := 0, locals := 46 }) (mPre dC dI ct A ex o q g a [.ref o, .int x, .int what]) (vp_Si (fun r => r = (M_ofPerson n a x what))) 0 0 (fun _ => False) := by
  refine Met.ofW (cc := cX2_ofPerson) (maxL := 3) (ret := (some .int)) (by decide) rfl ?_
  intro p e s m args below meth c s₁ B hml hv
  obtain ⟨rfl, hP, hK, hD⟩ := hv
  have hx := B.exec
  have hb := B.bytes
  have hr := B.returns
  have hts := atoms_spec (ws := ws_ yX2_ofPerson cX2_ofPerson 3 (some .int)) B.pre
  have hts : ∀ w ∈ lw_all, w.before _ s = true := fun w h => hts w (List.mem_cons_of_mem _ h)
  have hown : s.vm.findClass RX2 = some m.cls := findClass_of_methodNamed B.named
  have hlocks := B.notSynchronized
  have hS : va_S A s.heap s.heap [] := va_S.rf
  have hl := lv_entry ([.ref o, .int x, .int what]) (n := 3) (Nat.le_of_ble_eq_true rfl)
  rw [lg_entry_eq]
  generalize (lg_sl ([.ref o, .int x, .int what]) ++ List.replicate (3 - (lg_sl ([.ref o, .int x, .int what])).length) Slot.unset).toArray = ls at hl ⊢
  have hl : lv_has ls 3 [(0, .ref o), (1, .int x), (2, .int what)] := hl
  refine lv_aload_n hx hb dX2_ofPerson_0 rfl (lv_at hl 0 rfl) ?_
  refine lv_iload_n hx hb dX2_ofPerson_1 rfl (lv_at hl 1 rfl) ?_
  refine vp_callSi ((va_runV (As := [.int x]) (rest := []) ⟨hx, hb, hml, hown, hts⟩ (metX2_noPerson l dC dI ct A ex o q g a x n hn6 hn) (cwV 1 hts (lw_V q1122 q1124 qs48 q74 q1125) rfl rfl rfl (by decide +kernel) ⟨Nat.le_of_ble_eq_true rfl, Nat.le_of_ble_eq_true rfl⟩) (mPV hK hP hD _) rfl rfl hl.1 rfl (lv_room (Nat.le_of_ble_eq_true rfl)) dX2_ofPerson_2 ⟨Nat.zero_le _, Nat.zero_le _⟩)).run (fun r hw => ?_)
  have hw : r = (b2i (!(inP x n))) := hw
  subst hw
  refine bz_eq (tgt := 10) hx hb dX2_ofPerson_5 (by decide) (fun c_1 => ?_) (fun c_1 => ?_)
  · skip
    obtain ⟨K, hKn, ekK⟩ := inP_of (x := x) (n := n) (by omega) (by simpa using c_1)
    subst ekK
    have eK : cix (nI K) = K := cix_nI (by omega)
    have bK : inP (nI K) n = true := by rw [inP_nI (by omega)]; exact decide_eq_true hKn
    refine lv_iload_n hx hb dX2_ofPerson_10 rfl (lv_at hl 2 rfl) ?_
    by_cases c_2 : what = 0
    · skip
      subst c_2
      refine lv_tableIn (tgt := 44) hx hb dX2_ofPerson_11 (by decide) (by decide) rfl (by decide) ?_
      refine lv_aload_n hx hb dX2_ofPerson_44 rfl (lv_at hl 0 rfl) ?_
      refine m_get (v := .ref (q 2)) hx hb hts hown hK hP 2 (by decide) rfl q986 rfl dX2_ofPerson_45 ?_
      refine lv_iload_n hx hb dX2_ofPerson_48 rfl (lv_at hl 1 rfl) ?_
      refine m_ild hx hb hK hP (mWa2 _ _ _ _ _ _) (a 2) rfl K rfl (by omega) (by decide) dX2_ofPerson_49 ?_
      exact W.iret (v := ((a 2) K)) hx hb hr (fun t ht hW => ⟨((a 2) K), rfl, (by simp [M_ofPerson, ofPv, eK, c_1, bK]), ht⟩) (fun q h => by cases h) dX2_ofPerson_50
    by_cases c_3 : what = 1
    · skip
      subst c_3
      refine lv_tableIn (tgt := 51) hx hb dX2_ofPerson_11 (by decide) (by decide) rfl (by decide) ?_
      refine lv_aload_n hx hb dX2_ofPerson_51 rfl (lv_at hl 0 rfl) ?_
      refine m_get (v := .ref (q 3)) hx hb hts hown hK hP 3 (by decide) rfl q987 rfl dX2_ofPerson_52 ?_
      refine lv_iload_n hx hb dX2_ofPerson_55 rfl (lv_at hl 1 rfl) ?_
      refine m_ild hx hb hK hP (mWa3 _ _ _ _ _ _) (a 3) rfl K rfl (by omega) (by decide) dX2_ofPerson_56 ?_
      exact W.iret (v := ((a 3) K)) hx hb hr (fun t ht hW => ⟨((a 3) K), rfl, (by simp [M_ofPerson, ofPv, eK, c_1, bK, c_2]), ht⟩) (fun q h => by cases h) dX2_ofPerson_57
    by_cases c_4 : what = 2
    · skip
      subst c_4
      refine lv_tableIn (tgt := 58) hx hb dX2_ofPerson_11 (by decide) (by decide) rfl (by decide) ?_
      refine lv_aload_n hx hb dX2_ofPerson_58 rfl (lv_at hl 0 rfl) ?_
      refine m_get (v := .ref (q 4)) hx hb hts hown hK hP 4 (by decide) rfl q988 rfl dX2_ofPerson_59 ?_
      refine lv_iload_n hx hb dX2_ofPerson_62 rfl (lv_at hl 1 rfl) ?_
      refine m_ild hx hb hK hP (mWa4 _ _ _ _ _ _) (a 4) rfl K rfl (by omega) (by decide) dX2_ofPerson_63 ?_
      exact W.iret (v := ((a 4) K)) hx hb hr (fun t ht hW => ⟨((a 4) K), rfl, (by simp [M_ofPerson, ofPv, eK, c_1, bK, c_2, c_3]), ht⟩) (fun q h => by cases h) dX2_ofPerson_64
    by_cases c_5 : what = 3
    · skip
      subst c_5
      refine lv_tableIn (tgt := 65) hx hb dX2_ofPerson_11 (by decide) (by decide) rfl (by decide) ?_
      refine lv_aload_n hx hb dX2_ofPerson_65 rfl (lv_at hl 0 rfl) ?_
      refine m_get (v := .ref (q 5)) hx hb hts hown hK hP 5 (by decide) rfl q989 rfl dX2_ofPerson_66 ?_
      refine lv_iload_n hx hb dX2_ofPerson_69 rfl (lv_at hl 1 rfl) ?_
      refine m_ild hx hb hK hP (mWa5 _ _ _ _ _ _) (a 5) rfl K rfl (by omega) (by decide) dX2_ofPerson_70 ?_
      exact W.iret (v := ((a 5) K)) hx hb hr (fun t ht hW => ⟨((a 5) K), rfl, (by simp [M_ofPerson, ofPv, eK, c_1, bK, c_2, c_3, c_4]), ht⟩) (fun q h => by cases h) dX2_ofPerson_71
    by_cases c_6 : what = 4
    · skip
      subst c_6
      refine lv_tableIn (tgt := 72) hx hb dX2_ofPerson_11 (by decide) (by decide) rfl (by decide) ?_
      refine lv_aload_n hx hb dX2_ofPerson_72 rfl (lv_at hl 0 rfl) ?_
      refine lv_iload_n hx hb dX2_ofPerson_73 rfl (lv_at hl 1 rfl) ?_
      refine vp_callSi ((va_runV (As := [.int (nI K)]) (rest := []) ⟨hx, hb, hml, hown, hts⟩ (metX2_lastsOf l dC dI ct A ex o q g a (nI K) K (Nat.lt_of_lt_of_le hKn hn6) rfl) (cwV 1 hts (lw_V q1126 q1128 qs49 q74 q1129) rfl rfl rfl (by decide +kernel) ⟨Nat.le_of_ble_eq_true rfl, Nat.le_of_ble_eq_true rfl⟩) (mPV hK hP hD _) rfl rfl hl.1 rfl (lv_room (Nat.le_of_ble_eq_true rfl)) dX2_ofPerson_74 ⟨Nat.zero_le _, Nat.zero_le _⟩)).run (fun r hw => ?_)
      have hw : r = (lastsV ((a 2) K) ((a 5) K)) := hw
      subst hw
      exact W.iret (v := (lastsV ((a 2) K) ((a 5) K))) hx hb hr (fun t ht hW => ⟨(lastsV ((a 2) K) ((a 5) K)), rfl, (by simp [M_ofPerson, ofPv, eK, c_1, bK, c_2, c_3, c_4, c_5]), ht⟩) (fun q h => by cases h) dX2_ofPerson_77
    refine lv_tableOut (tgt := 78) hx hb dX2_ofPerson_11 (sw_out (n := 5) (by decide) (fun j hj e => by rcases (show j = 0 ∨ j = 1 ∨ j = 2 ∨ j = 3 ∨ j = 4 by omega) with rfl | rfl | rfl | rfl | rfl <;> first | exact c_2 e | exact c_3 e | exact c_4 e | exact c_5 e | exact c_6 e)) (by decide) ?_
    refine lv_bipush (v := (-2)) hx hb dX2_ofPerson_78 (by decide) ?_
    exact W.iret (v := (-2)) hx hb hr (fun t ht hW => ⟨(-2), rfl, (by simp [M_ofPerson, ofPv, eK, c_1, bK, c_2, c_3, c_4, c_5, c_6]), ht⟩) (fun q h => by cases h) dX2_ofPerson_80
  · skip
    refine lv_iconst (v := (-1)) hx hb dX2_ofPerson_8 (by decide) ?_
    exact W.iret (v := (-1)) hx hb hr (fun t ht hW => ⟨(-1), rfl, (by simp [M_ofPerson, ofPv, show inP x n = false by simpa using c_1]), ht⟩) (fun q h => by cases h) dX2_ofPerson_9
set_option maxHeartbeats 4000000 in
set_option maxRecDepth 100000 in
theorem metX2_live (l : Launch) (dC : Nat → ClassId) (dI : Nat → Nat → Nat) (ct : Nat → ClassId) (A : Nat → Prop) (ex : va_W) (o : Nat) (q : Nat → Nat) (g : Nat → Int32) (a : Nat → Nat → Int32) (x : Int32) (set : Int32) (n : Nat) (hn6 : n ≤ 6) (hn : g 1 = nI n) : Met l yX2_live (ws_ yX2_live cX2_live 4 (some .int)) ({ frames := 2, cells := 0, slots := 0, locals := 46 }) (mPre dC dI ct A ex o q g a [.ref o, .int x, .int set]) (va_Qi (fun (r : Int32) (u : (Nat → Int32) × (Nat → Nat → Int32)) => r = ((M_live n g a x set)).1 ∧ u = ((M_live n g a x set)).2) (mB dC dI ct A ex o q) A) 0 0 A := by
  refine Met.ofW (cc := cX2_live) (maxL := 4) (ret := (some .int)) (by decide) rfl ?_
  intro p e s m args below meth c s₁ B hml hv
  obtain ⟨rfl, hP, hK, hD⟩ := hv
  have hx := B.exec
  have hb := B.bytes
  have hr := B.returns
  have hts := atoms_spec (ws := ws_ yX2_live cX2_live 4 (some .int)) B.pre
  have hts : ∀ w ∈ lw_all, w.before _ s = true := fun w h => hts w (List.mem_cons_of_mem _ h)
  have hown : s.vm.findClass RX2 = some m.cls := findClass_of_methodNamed B.named
  have hlocks := B.notSynchronized
  have hS : va_S A s.heap s.heap [] := va_S.rf
  have hl := lv_entry ([.ref o, .int x, .int set]) (n := 4) (Nat.le_of_ble_eq_true rfl)
  rw [lg_entry_eq]
  generalize (lg_sl ([.ref o, .int x, .int set]) ++ List.replicate (4 - (lg_sl ([.ref o, .int x, .int set])).length) Slot.unset).toArray = ls at hl ⊢
  have hl : lv_has ls 4 [(0, .ref o), (1, .int x), (2, .int set)] := hl
  refine lv_aload_n hx hb dX2_live_0 rfl (lv_at hl 0 rfl) ?_
  refine lv_iload_n hx hb dX2_live_1 rfl (lv_at hl 1 rfl) ?_
  refine vp_callSi ((va_runV (As := [.int x]) (rest := []) ⟨hx, hb, hml, hown, hts⟩ (metX2_noPerson l dC dI ct A ex o q g a x n hn6 hn) (cwV 1 hts (lw_V q1122 q1124 qs48 q74 q1125) rfl rfl rfl (by decide +kernel) ⟨Nat.le_of_ble_eq_true rfl, Nat.le_of_ble_eq_true rfl⟩) (mPV hK hP hD _) rfl rfl hl.1 rfl (lv_room (Nat.le_of_ble_eq_true rfl)) dX2_live_2 ⟨Nat.zero_le _, Nat.zero_le _⟩)).run (fun r hw => ?_)
  have hw : r = (b2i (!(inP x n))) := hw
  subst hw
  refine bz_eq (tgt := 10) hx hb dX2_live_5 (by decide) (fun c_1 => ?_) (fun c_1 => ?_)
  · skip
    obtain ⟨K, hKn, ekK⟩ := inP_of (x := x) (n := n) (by omega) (by simpa using c_1)
    subst ekK
    have eK : cix (nI K) = K := cix_nI (by omega)
    have bK : inP (nI K) n = true := by rw [inP_nI (by omega)]; exact decide_eq_true hKn
    refine lv_iload_n hx hb dX2_live_10 rfl (lv_at hl 2 rfl) ?_
    refine lv_i2l (v := (Int32.toInt64 set)) hx hb dX2_live_11 rfl ?_
    refine lv_lconst (v := 0) hx hb dX2_live_12 (by decide) ?_
    refine lv_ldc2 (v := 63) hx hb hown (hts _ q1134) dX2_live_13 ?_
    refine vp_callSi ((va_runS (As := [.long (Int32.toInt64 set), .long 0, .long 63]) (rest := []) ⟨hx, hb, hml, hown, hts⟩ (metX2_in l (Int32.toInt64 set) 0 63 ) (va_cwS 3 hts (lw_S q1083 q1084 q74 q1085) rfl rfl rfl (by decide +kernel) ⟨Nat.le_of_ble_eq_true rfl, Nat.le_of_ble_eq_true rfl⟩) (pcS _) rfl rfl hl.1 rfl (lv_room (Nat.le_of_ble_eq_true rfl)) dX2_live_16 ⟨Nat.zero_le _, Nat.zero_le _⟩)).run (fun r hw => ?_)
    have hw : r = (b2i (lin (Int32.toInt64 set) 0 63)) := hw
    subst hw
    refine bz_ne (tgt := 25) hx hb dX2_live_19 (by decide) (fun c_2 => ?_) (fun c_2 => ?_)
    · skip
      rw [lin_inP _ _ 64 (by decide)] at c_2
      refine lv_aload_n hx hb dX2_live_25 rfl (lv_at hl 0 rfl) ?_
      refine m_get (v := .ref (q 3)) hx hb hts hown hK hP 3 (by decide) rfl q987 rfl dX2_live_26 ?_
      refine lv_iload_n hx hb dX2_live_29 rfl (lv_at hl 1 rfl) ?_
      refine m_ild hx hb hK hP (mWa3 _ _ _ _ _ _) (a 3) rfl K rfl (by omega) (by decide) dX2_live_30 ?_
      refine lv_istore_n (lv' := [(3, .int ((a 3) K)), (0, .ref o), (1, .int (nI K)), (2, .int set)]) hx hb dX2_live_31 rfl hl (by decide) rfl (fun ls hl => ?_)
      refine lv_aload_n hx hb dX2_live_32 rfl (lv_at hl 1 rfl) ?_
      refine m_get (v := .ref (q 3)) hx hb hts hown hK hP 3 (by decide) rfl q987 rfl dX2_live_33 ?_
      refine lv_iload_n hx hb dX2_live_36 rfl (lv_at hl 2 rfl) ?_
      refine lv_iload_n hx hb dX2_live_37 rfl (lv_at hl 3 rfl) ?_
      refine m_ist (x := set) hx hb hK hP hD hS (mWa3 _ _ _ _ _ _) (mWs3 _ _ _ _ _ _) (a 3) rfl K rfl (by omega) (by decide) dX2_live_38 (fun H locs hP hD hS => ?_)
      refine lv_iload_n hx hb dX2_live_39 rfl (lv_at hl 0 rfl) ?_
      exact W.iret (v := ((a 3) K)) hx hb hr (fun t ht hW => ⟨⟨((a 3) K), (g, (va_up a 3 (upd (a 3) K set))), rfl, ⟨(by simp [M_live, eK, c_1, bK, c_2]), (by simp [M_live, eK, c_1, bK, c_2])⟩, by rw [ht]; exact hP, va_K.moved hW.alike hK, hD⟩, hS.F ht⟩) hS.2.2 dX2_live_40
    · skip
      rw [lin_inP _ _ 64 (by decide)] at c_2
      refine lv_bipush (v := (-2)) hx hb dX2_live_22 (by decide) ?_
      exact W.iret (v := (-2)) hx hb hr (fun t ht hW => ⟨⟨(-2), (g, a), rfl, ⟨(by simp [M_live, eK, c_1, bK, c_2]), (by simp [M_live, eK, c_1, bK, c_2])⟩, by rw [ht]; exact hP, va_K.moved hW.alike hK, hD⟩, hS.F ht⟩) hS.2.2 dX2_live_24
  · skip
    refine lv_iconst (v := (-1)) hx hb dX2_live_8 (by decide) ?_
    exact W.iret (v := (-1)) hx hb hr (fun t ht hW => ⟨⟨(-1), (g, a), rfl, ⟨(by simp [M_live, show inP x n = false by simpa using c_1]), (by simp [M_live, show inP x n = false by simpa using c_1])⟩, by rw [ht]; exact hP, va_K.moved hW.alike hK, hD⟩, hS.F ht⟩) hS.2.2 dX2_live_9
set_option maxHeartbeats 4000000 in
set_option maxRecDepth 100000 in
theorem metX2_want (l : Launch) (dC : Nat → ClassId) (dI : Nat → Nat → Nat) (ct : Nat → ClassId) (A : Nat → Prop) (ex : va_W) (o : Nat) (q : Nat → Nat) (g : Nat → Int32) (a : Nat → Nat → Int32) (x : Int32) (set : Int32) (n : Nat) (hn6 : n ≤ 6) (hn : g 1 = nI n) : Met l yX2_want (ws_ yX2_want cX2_want 4 (some .int)) ({ frames := 2, cells := 0, slots := 0, locals := 46 }) (mPre dC dI ct A ex o q g a [.ref o, .int x, .int set]) (va_Qi (fun (r : Int32) (u : (Nat → Int32) × (Nat → Nat → Int32)) => r = ((M_want n g a x set)).1 ∧ u = ((M_want n g a x set)).2) (mB dC dI ct A ex o q) A) 0 0 A := by
  refine Met.ofW (cc := cX2_want) (maxL := 4) (ret := (some .int)) (by decide) rfl ?_
  intro p e s m args below meth c s₁ B hml hv
  obtain ⟨rfl, hP, hK, hD⟩ := hv
  have hx := B.exec
  have hb := B.bytes
  have hr := B.returns
  have hts := atoms_spec (ws := ws_ yX2_want cX2_want 4 (some .int)) B.pre
  have hts : ∀ w ∈ lw_all, w.before _ s = true := fun w h => hts w (List.mem_cons_of_mem _ h)
  have hown : s.vm.findClass RX2 = some m.cls := findClass_of_methodNamed B.named
  have hlocks := B.notSynchronized
  have hS : va_S A s.heap s.heap [] := va_S.rf
  have hl := lv_entry ([.ref o, .int x, .int set]) (n := 4) (Nat.le_of_ble_eq_true rfl)
  rw [lg_entry_eq]
  generalize (lg_sl ([.ref o, .int x, .int set]) ++ List.replicate (4 - (lg_sl ([.ref o, .int x, .int set])).length) Slot.unset).toArray = ls at hl ⊢
  have hl : lv_has ls 4 [(0, .ref o), (1, .int x), (2, .int set)] := hl
  refine lv_aload_n hx hb dX2_want_0 rfl (lv_at hl 0 rfl) ?_
  refine lv_iload_n hx hb dX2_want_1 rfl (lv_at hl 1 rfl) ?_
  refine vp_callSi ((va_runV (As := [.int x]) (rest := []) ⟨hx, hb, hml, hown, hts⟩ (metX2_noPerson l dC dI ct A ex o q g a x n hn6 hn) (cwV 1 hts (lw_V q1122 q1124 qs48 q74 q1125) rfl rfl rfl (by decide +kernel) ⟨Nat.le_of_ble_eq_true rfl, Nat.le_of_ble_eq_true rfl⟩) (mPV hK hP hD _) rfl rfl hl.1 rfl (lv_room (Nat.le_of_ble_eq_true rfl)) dX2_want_2 ⟨Nat.zero_le _, Nat.zero_le _⟩)).run (fun r hw => ?_)
  have hw : r = (b2i (!(inP x n))) := hw
  subst hw
  refine bz_eq (tgt := 10) hx hb dX2_want_5 (by decide) (fun c_1 => ?_) (fun c_1 => ?_)
  · skip
    obtain ⟨K, hKn, ekK⟩ := inP_of (x := x) (n := n) (by omega) (by simpa using c_1)
    subst ekK
    have eK : cix (nI K) = K := cix_nI (by omega)
    have bK : inP (nI K) n = true := by rw [inP_nI (by omega)]; exact decide_eq_true hKn
    refine lv_iload_n hx hb dX2_want_10 rfl (lv_at hl 2 rfl) ?_
    refine lv_i2l (v := (Int32.toInt64 set)) hx hb dX2_want_11 rfl ?_
    refine lv_lconst (v := 0) hx hb dX2_want_12 (by decide) ?_
    refine lv_ldc2 (v := 6) hx hb hown (hts _ q1139) dX2_want_13 ?_
    refine vp_callSi ((va_runS (As := [.long (Int32.toInt64 set), .long 0, .long 6]) (rest := []) ⟨hx, hb, hml, hown, hts⟩ (metX2_in l (Int32.toInt64 set) 0 6 ) (va_cwS 3 hts (lw_S q1083 q1084 q74 q1085) rfl rfl rfl (by decide +kernel) ⟨Nat.le_of_ble_eq_true rfl, Nat.le_of_ble_eq_true rfl⟩) (pcS _) rfl rfl hl.1 rfl (lv_room (Nat.le_of_ble_eq_true rfl)) dX2_want_16 ⟨Nat.zero_le _, Nat.zero_le _⟩)).run (fun r hw => ?_)
    have hw : r = (b2i (lin (Int32.toInt64 set) 0 6)) := hw
    subst hw
    refine bz_ne (tgt := 25) hx hb dX2_want_19 (by decide) (fun c_2 => ?_) (fun c_2 => ?_)
    · skip
      rw [lin_inP _ _ 7 (by decide)] at c_2
      refine lv_aload_n hx hb dX2_want_25 rfl (lv_at hl 0 rfl) ?_
      refine m_get (v := .ref (q 4)) hx hb hts hown hK hP 4 (by decide) rfl q988 rfl dX2_want_26 ?_
      refine lv_iload_n hx hb dX2_want_29 rfl (lv_at hl 1 rfl) ?_
      refine m_ild hx hb hK hP (mWa4 _ _ _ _ _ _) (a 4) rfl K rfl (by omega) (by decide) dX2_want_30 ?_
      refine lv_istore_n (lv' := [(3, .int ((a 4) K)), (0, .ref o), (1, .int (nI K)), (2, .int set)]) hx hb dX2_want_31 rfl hl (by decide) rfl (fun ls hl => ?_)
      refine lv_aload_n hx hb dX2_want_32 rfl (lv_at hl 1 rfl) ?_
      refine m_get (v := .ref (q 4)) hx hb hts hown hK hP 4 (by decide) rfl q988 rfl dX2_want_33 ?_
      refine lv_iload_n hx hb dX2_want_36 rfl (lv_at hl 2 rfl) ?_
      refine lv_iload_n hx hb dX2_want_37 rfl (lv_at hl 3 rfl) ?_
      refine m_ist (x := set) hx hb hK hP hD hS (mWa4 _ _ _ _ _ _) (mWs4 _ _ _ _ _ _) (a 4) rfl K rfl (by omega) (by decide) dX2_want_38 (fun H locs hP hD hS => ?_)
      refine lv_iload_n hx hb dX2_want_39 rfl (lv_at hl 0 rfl) ?_
      exact W.iret (v := ((a 4) K)) hx hb hr (fun t ht hW => ⟨⟨((a 4) K), (g, (va_up a 4 (upd (a 4) K set))), rfl, ⟨(by simp [M_want, eK, c_1, bK, c_2]), (by simp [M_want, eK, c_1, bK, c_2])⟩, by rw [ht]; exact hP, va_K.moved hW.alike hK, hD⟩, hS.F ht⟩) hS.2.2 dX2_want_40
    · skip
      rw [lin_inP _ _ 7 (by decide)] at c_2
      refine lv_bipush (v := (-2)) hx hb dX2_want_22 (by decide) ?_
      exact W.iret (v := (-2)) hx hb hr (fun t ht hW => ⟨⟨(-2), (g, a), rfl, ⟨(by simp [M_want, eK, c_1, bK, c_2]), (by simp [M_want, eK, c_1, bK, c_2])⟩, by rw [ht]; exact hP, va_K.moved hW.alike hK, hD⟩, hS.F ht⟩) hS.2.2 dX2_want_24
  · skip
    refine lv_iconst (v := (-1)) hx hb dX2_want_8 (by decide) ?_
    exact W.iret (v := (-1)) hx hb hr (fun t ht hW => ⟨⟨(-1), (g, a), rfl, ⟨(by simp [M_want, show inP x n = false by simpa using c_1]), (by simp [M_want, show inP x n = false by simpa using c_1])⟩, by rw [ht]; exact hP, va_K.moved hW.alike hK, hD⟩, hS.F ht⟩) hS.2.2 dX2_want_9
set_option maxHeartbeats 4000000 in
set_option maxRecDepth 100000 in
theorem metX2_tell (l : Launch) (dC : Nat → ClassId) (dI : Nat → Nat → Nat) (ct : Nat → ClassId) (A : Nat → Prop) (ex : va_W) (o : Nat) (q : Nat → Nat) (g : Nat → Int32) (a : Nat → Nat → Int32) (x : Int32) (n : Nat) (hn6 : n ≤ 6) (hn : g 1 = nI n) (hkd : kdOk n (a 2)) : Met l yX2_tell (ws_ yX2_tell cX2_tell 4 (some .int)) ({ frames := 2, cells := 0, slots := 0, locals := 46 }) (mPre dC dI ct A ex o q g a [.ref o, .int x]) (va_Qi (fun (r : Int32) (u : (Nat → Int32) × (Nat → Nat → Int32)) => r = ((M_tell n g a x)).1 ∧ u = ((M_tell n g a x)).2) (mB dC dI ct A ex o q) A) 0 0 A := by
  refine Met.ofW (cc := cX2_tell) (maxL := 4) (ret := (some .int)) (by decide) rfl ?_
  intro p e s m args below meth c s₁ B hml hv
  obtain ⟨rfl, hP, hK, hD⟩ := hv
  have hx := B.exec
  have hb := B.bytes
  have hr := B.returns
  have hts := atoms_spec (ws := ws_ yX2_tell cX2_tell 4 (some .int)) B.pre
  have hts : ∀ w ∈ lw_all, w.before _ s = true := fun w h => hts w (List.mem_cons_of_mem _ h)
  have hown : s.vm.findClass RX2 = some m.cls := findClass_of_methodNamed B.named
  have hlocks := B.notSynchronized
  have hS : va_S A s.heap s.heap [] := va_S.rf
  have hl := lv_entry ([.ref o, .int x]) (n := 4) (Nat.le_of_ble_eq_true rfl)
  rw [lg_entry_eq]
  generalize (lg_sl ([.ref o, .int x]) ++ List.replicate (4 - (lg_sl ([.ref o, .int x])).length) Slot.unset).toArray = ls at hl ⊢
  have hl : lv_has ls 4 [(0, .ref o), (1, .int x)] := hl
  refine lv_aload_n hx hb dX2_tell_0 rfl (lv_at hl 0 rfl) ?_
  refine lv_iload_n hx hb dX2_tell_1 rfl (lv_at hl 1 rfl) ?_
  refine vp_callSi ((va_runV (As := [.int x]) (rest := []) ⟨hx, hb, hml, hown, hts⟩ (metX2_noPerson l dC dI ct A ex o q g a x n hn6 hn) (cwV 1 hts (lw_V q1122 q1124 qs48 q74 q1125) rfl rfl rfl (by decide +kernel) ⟨Nat.le_of_ble_eq_true rfl, Nat.le_of_ble_eq_true rfl⟩) (mPV hK hP hD _) rfl rfl hl.1 rfl (lv_room (Nat.le_of_ble_eq_true rfl)) dX2_tell_2 ⟨Nat.zero_le _, Nat.zero_le _⟩)).run (fun r hw => ?_)
  have hw : r = (b2i (!(inP x n))) := hw
  subst hw
  refine bz_eq (tgt := 10) hx hb dX2_tell_5 (by decide) (fun c_1 => ?_) (fun c_1 => ?_)
  · skip
    obtain ⟨K, hKn, ekK⟩ := inP_of (x := x) (n := n) (by omega) (by simpa using c_1)
    subst ekK
    have eK : cix (nI K) = K := cix_nI (by omega)
    have bK : inP (nI K) n = true := by rw [inP_nI (by omega)]; exact decide_eq_true hKn
    refine lv_aload_n hx hb dX2_tell_10 rfl (lv_at hl 0 rfl) ?_
    refine m_get (v := .ref (q 2)) hx hb hts hown hK hP 2 (by decide) rfl q986 rfl dX2_tell_11 ?_
    refine lv_iload_n hx hb dX2_tell_14 rfl (lv_at hl 1 rfl) ?_
    refine m_ild hx hb hK hP (mWa2 _ _ _ _ _ _) (a 2) rfl K rfl (by omega) (by decide) dX2_tell_15 ?_
    rcases hkd K hKn with e2 | e2 | e2
    · skip
      rw [e2]
      refine lv_istore_n (lv' := [(2, .int 0), (0, .ref o), (1, .int (nI K))]) hx hb dX2_tell_16 rfl hl (by decide) rfl (fun ls hl => ?_)
      refine lv_iload_n hx hb dX2_tell_17 rfl (lv_at hl 0 rfl) ?_
      refine lv_iconst (v := 2) hx hb dX2_tell_18 (by decide) ?_
      refine lv_icmp_ne (tgt := 27) hx hb dX2_tell_19 (by decide) (fun c_2 => ?_) (fun c_2 => ?_)
      · skip
        refine lv_iload_n hx hb dX2_tell_27 rfl (lv_at hl 0 rfl) ?_
        refine lv_if_le (tgt := 36) hx hb dX2_tell_28 (by decide) (fun c_3 => ?_) (fun c_3 => ?_)
        · skip
          refine lv_aload_n hx hb dX2_tell_36 rfl (lv_at hl 1 rfl) ?_
          refine lv_iconst (v := 1) hx hb dX2_tell_37 (by decide) ?_
          refine va_callv (va_runV (As := [.int 1]) (rest := []) ⟨hx, hb, hml, hown, hts⟩ (metX2_traced l dC dI ct A ex o q g a 1 ) (cwV 1 hts (lw_V q1287 q1289 qs67 q74 q1290) rfl rfl rfl (by decide +kernel) ⟨Nat.le_of_ble_eq_true rfl, Nat.le_of_ble_eq_true rfl⟩) (mPV hK hP hD _) rfl rfl hl.1 rfl (lv_room (Nat.le_of_ble_eq_true rfl)) dX2_tell_38 ⟨Nat.zero_le _, Nat.zero_le _⟩) hS (fun q _ h => h) (fun q h => h) (fun u t H1 locs ht hvm hw hB hz1 hk1 hS => ?_)
          subst hw
          obtain ⟨hP, -, hD⟩ := hB
          rw [ht] at hP
          generalize H1 = H at hP hS ⊢
          have hP : va_P (dC, dI) clA (mW ct o q (upd g 29 (31 * (g 29) + 1)) a ++ ex) H := hP
          have hD : va_D A (mW ct o q (upd g 29 (31 * (g 29) + 1)) a ++ ex) := hD
          refine lv_iload_n hx hb dX2_tell_41 rfl (lv_at hl 0 rfl) ?_
          refine lv_iconst (v := 2) hx hb dX2_tell_42 (by decide) ?_
          refine lv_icmp_ne (tgt := 51) hx hb dX2_tell_43 (by decide) (fun c_4 => ?_) (fun c_4 => ?_)
          · skip
            refine lv_aload_n hx hb dX2_tell_51 rfl (lv_at hl 1 rfl) ?_
            refine m_get (v := .ref (q 5)) hx hb hts hown hK hP 5 (by decide) rfl q989 rfl dX2_tell_52 ?_
            refine lv_iload_n hx hb dX2_tell_55 rfl (lv_at hl 2 rfl) ?_
            refine m_ild hx hb hK hP (mWa5 _ _ _ _ _ _) (a 5) rfl K rfl (by omega) (by decide) dX2_tell_56 ?_
            refine lv_istore_n (lv' := [(3, .int ((a 5) K)), (2, .int 0), (0, .ref o), (1, .int (nI K))]) hx hb dX2_tell_57 rfl hl (by decide) rfl (fun ls hl => ?_)
            refine lv_iload_n hx hb dX2_tell_58 rfl (lv_at hl 1 rfl) ?_
            refine lv_if_ne (tgt := 66) hx hb dX2_tell_59 (by decide) (fun c_5 => ?_) (fun c_5 => ?_)
            · skip
              exact absurd c_5 (by decide)
            · skip
              refine lv_iload_n hx hb dX2_tell_62 rfl (lv_at hl 0 rfl) ?_
              refine lv_goto (tgt := 84) hx hb dX2_tell_63 (by decide) ?_
              exact W.iret (v := ((a 5) K)) hx hb hr (fun t ht hW => ⟨⟨((a 5) K), ((upd g 29 (31 * (g 29) + 1)), a), rfl, ⟨(by simp [M_tell, tellR, tellT, eK, c_1, bK, e2, c_2, c_3, c_4, c_5]), (by simp [M_tell, tellR, tellT, eK, c_1, bK, e2, c_2, c_3, c_4, c_5])⟩, by rw [ht]; exact hP, va_K.moved hW.alike hK, hD⟩, hS.F ht⟩) hS.2.2 dX2_tell_84
          · skip
            exact absurd c_4 (by decide)
        · skip
          exact absurd c_3 (by decide)
      · skip
        exact absurd c_2 (by decide)
    · skip
      rw [e2]
      refine lv_istore_n (lv' := [(2, .int 1), (0, .ref o), (1, .int (nI K))]) hx hb dX2_tell_16 rfl hl (by decide) rfl (fun ls hl => ?_)
      refine lv_iload_n hx hb dX2_tell_17 rfl (lv_at hl 0 rfl) ?_
      refine lv_iconst (v := 2) hx hb dX2_tell_18 (by decide) ?_
      refine lv_icmp_ne (tgt := 27) hx hb dX2_tell_19 (by decide) (fun c_6 => ?_) (fun c_6 => ?_)
      · skip
        refine lv_iload_n hx hb dX2_tell_27 rfl (lv_at hl 0 rfl) ?_
        refine lv_if_le (tgt := 36) hx hb dX2_tell_28 (by decide) (fun c_7 => ?_) (fun c_7 => ?_)
        · skip
          exact absurd c_7 (by decide)
        · skip
          refine lv_aload_n hx hb dX2_tell_31 rfl (lv_at hl 1 rfl) ?_
          refine lv_iconst (v := 2) hx hb dX2_tell_32 (by decide) ?_
          refine va_callv (va_runV (As := [.int 2]) (rest := []) ⟨hx, hb, hml, hown, hts⟩ (metX2_traced l dC dI ct A ex o q g a 2 ) (cwV 1 hts (lw_V q1287 q1289 qs67 q74 q1290) rfl rfl rfl (by decide +kernel) ⟨Nat.le_of_ble_eq_true rfl, Nat.le_of_ble_eq_true rfl⟩) (mPV hK hP hD _) rfl rfl hl.1 rfl (lv_room (Nat.le_of_ble_eq_true rfl)) dX2_tell_33 ⟨Nat.zero_le _, Nat.zero_le _⟩) hS (fun q _ h => h) (fun q h => h) (fun u t H1 locs ht hvm hw hB hz1 hk1 hS => ?_)
          subst hw
          obtain ⟨hP, -, hD⟩ := hB
          rw [ht] at hP
          generalize H1 = H at hP hS ⊢
          have hP : va_P (dC, dI) clA (mW ct o q (upd g 29 (31 * (g 29) + 2)) a ++ ex) H := hP
          have hD : va_D A (mW ct o q (upd g 29 (31 * (g 29) + 2)) a ++ ex) := hD
          refine lv_aload_n hx hb dX2_tell_36 rfl (lv_at hl 1 rfl) ?_
          refine lv_iconst (v := 1) hx hb dX2_tell_37 (by decide) ?_
          refine va_callv (va_runV (As := [.int 1]) (rest := []) ⟨hx, hb, hml, hown, hts⟩ (metX2_traced l dC dI ct A ex o q (upd g 29 (31 * (g 29) + 2)) a 1 ) (cwV 1 hts (lw_V q1287 q1289 qs67 q74 q1290) rfl rfl rfl (by decide +kernel) ⟨Nat.le_of_ble_eq_true rfl, Nat.le_of_ble_eq_true rfl⟩) (mPV hK hP hD _) rfl rfl hl.1 rfl (lv_room (Nat.le_of_ble_eq_true rfl)) dX2_tell_38 ⟨Nat.zero_le _, Nat.zero_le _⟩) hS (fun q _ h => h) (fun q h => h) (fun u t H1 locs ht hvm hw hB hz1 hk1 hS => ?_)
          subst hw
          obtain ⟨hP, -, hD⟩ := hB
          rw [ht] at hP
          generalize H1 = H at hP hS ⊢
          have hP : va_P (dC, dI) clA (mW ct o q (upd g 29 (31 * (31 * (g 29) + 2) + 1)) a ++ ex) H := hP
          have hD : va_D A (mW ct o q (upd g 29 (31 * (31 * (g 29) + 2) + 1)) a ++ ex) := hD
          refine lv_iload_n hx hb dX2_tell_41 rfl (lv_at hl 0 rfl) ?_
          refine lv_iconst (v := 2) hx hb dX2_tell_42 (by decide) ?_
          refine lv_icmp_ne (tgt := 51) hx hb dX2_tell_43 (by decide) (fun c_8 => ?_) (fun c_8 => ?_)
          · skip
            refine lv_aload_n hx hb dX2_tell_51 rfl (lv_at hl 1 rfl) ?_
            refine m_get (v := .ref (q 5)) hx hb hts hown hK hP 5 (by decide) rfl q989 rfl dX2_tell_52 ?_
            refine lv_iload_n hx hb dX2_tell_55 rfl (lv_at hl 2 rfl) ?_
            refine m_ild hx hb hK hP (mWa5 _ _ _ _ _ _) (a 5) rfl K rfl (by omega) (by decide) dX2_tell_56 ?_
            refine lv_istore_n (lv' := [(3, .int ((a 5) K)), (2, .int 1), (0, .ref o), (1, .int (nI K))]) hx hb dX2_tell_57 rfl hl (by decide) rfl (fun ls hl => ?_)
            refine lv_iload_n hx hb dX2_tell_58 rfl (lv_at hl 1 rfl) ?_
            refine lv_if_ne (tgt := 66) hx hb dX2_tell_59 (by decide) (fun c_9 => ?_) (fun c_9 => ?_)
            · skip
              refine lv_iload_n hx hb dX2_tell_66 rfl (lv_at hl 1 rfl) ?_
              refine lv_iconst (v := 1) hx hb dX2_tell_67 (by decide) ?_
              refine lv_icmp_ne (tgt := 78) hx hb dX2_tell_68 (by decide) (fun c_10 => ?_) (fun c_10 => ?_)
              · skip
                exact absurd c_10 (by decide)
              · skip
                refine lv_iload_n hx hb dX2_tell_71 rfl (lv_at hl 0 rfl) ?_
                refine lv_bipush (v := 100) hx hb dX2_tell_72 (by decide) ?_
                refine lv_iadd hx hb dX2_tell_74 ?_
                refine lv_goto (tgt := 84) hx hb dX2_tell_75 (by decide) ?_
                exact W.iret (v := (((a 5) K) + 100)) hx hb hr (fun t ht hW => ⟨⟨(((a 5) K) + 100), ((upd g 29 (31 * (31 * (g 29) + 2) + 1)), a), rfl, ⟨(by simp [M_tell, tellR, tellT, eK, c_1, bK, e2, c_6, c_7, c_8, c_9, c_10]), (by simp [M_tell, tellR, tellT, eK, c_1, bK, e2, c_6, c_7, c_8, c_9, c_10])⟩, by rw [ht]; exact hP, va_K.moved hW.alike hK, hD⟩, hS.F ht⟩) hS.2.2 dX2_tell_84
            · skip
              exact absurd c_9 (by decide)
          · skip
            exact absurd c_8 (by decide)
      · skip
        exact absurd c_6 (by decide)
    · skip
      rw [e2]
      refine lv_istore_n (lv' := [(2, .int 2), (0, .ref o), (1, .int (nI K))]) hx hb dX2_tell_16 rfl hl (by decide) rfl (fun ls hl => ?_)
      refine lv_iload_n hx hb dX2_tell_17 rfl (lv_at hl 0 rfl) ?_
      refine lv_iconst (v := 2) hx hb dX2_tell_18 (by decide) ?_
      refine lv_icmp_ne (tgt := 27) hx hb dX2_tell_19 (by decide) (fun c_11 => ?_) (fun c_11 => ?_)
      · skip
        exact absurd c_11 (by decide)
      · skip
        refine lv_aload_n hx hb dX2_tell_22 rfl (lv_at hl 1 rfl) ?_
        refine lv_iconst (v := 3) hx hb dX2_tell_23 (by decide) ?_
        refine va_callv (va_runV (As := [.int 3]) (rest := []) ⟨hx, hb, hml, hown, hts⟩ (metX2_traced l dC dI ct A ex o q g a 3 ) (cwV 1 hts (lw_V q1287 q1289 qs67 q74 q1290) rfl rfl rfl (by decide +kernel) ⟨Nat.le_of_ble_eq_true rfl, Nat.le_of_ble_eq_true rfl⟩) (mPV hK hP hD _) rfl rfl hl.1 rfl (lv_room (Nat.le_of_ble_eq_true rfl)) dX2_tell_24 ⟨Nat.zero_le _, Nat.zero_le _⟩) hS (fun q _ h => h) (fun q h => h) (fun u t H1 locs ht hvm hw hB hz1 hk1 hS => ?_)
        subst hw
        obtain ⟨hP, -, hD⟩ := hB
        rw [ht] at hP
        generalize H1 = H at hP hS ⊢
        have hP : va_P (dC, dI) clA (mW ct o q (upd g 29 (31 * (g 29) + 3)) a ++ ex) H := hP
        have hD : va_D A (mW ct o q (upd g 29 (31 * (g 29) + 3)) a ++ ex) := hD
        refine lv_iload_n hx hb dX2_tell_27 rfl (lv_at hl 0 rfl) ?_
        refine lv_if_le (tgt := 36) hx hb dX2_tell_28 (by decide) (fun c_12 => ?_) (fun c_12 => ?_)
        · skip
          exact absurd c_12 (by decide)
        · skip
          refine lv_aload_n hx hb dX2_tell_31 rfl (lv_at hl 1 rfl) ?_
          refine lv_iconst (v := 2) hx hb dX2_tell_32 (by decide) ?_
          refine va_callv (va_runV (As := [.int 2]) (rest := []) ⟨hx, hb, hml, hown, hts⟩ (metX2_traced l dC dI ct A ex o q (upd g 29 (31 * (g 29) + 3)) a 2 ) (cwV 1 hts (lw_V q1287 q1289 qs67 q74 q1290) rfl rfl rfl (by decide +kernel) ⟨Nat.le_of_ble_eq_true rfl, Nat.le_of_ble_eq_true rfl⟩) (mPV hK hP hD _) rfl rfl hl.1 rfl (lv_room (Nat.le_of_ble_eq_true rfl)) dX2_tell_33 ⟨Nat.zero_le _, Nat.zero_le _⟩) hS (fun q _ h => h) (fun q h => h) (fun u t H1 locs ht hvm hw hB hz1 hk1 hS => ?_)
          subst hw
          obtain ⟨hP, -, hD⟩ := hB
          rw [ht] at hP
          generalize H1 = H at hP hS ⊢
          have hP : va_P (dC, dI) clA (mW ct o q (upd g 29 (31 * (31 * (g 29) + 3) + 2)) a ++ ex) H := hP
          have hD : va_D A (mW ct o q (upd g 29 (31 * (31 * (g 29) + 3) + 2)) a ++ ex) := hD
          refine lv_aload_n hx hb dX2_tell_36 rfl (lv_at hl 1 rfl) ?_
          refine lv_iconst (v := 1) hx hb dX2_tell_37 (by decide) ?_
          refine va_callv (va_runV (As := [.int 1]) (rest := []) ⟨hx, hb, hml, hown, hts⟩ (metX2_traced l dC dI ct A ex o q (upd g 29 (31 * (31 * (g 29) + 3) + 2)) a 1 ) (cwV 1 hts (lw_V q1287 q1289 qs67 q74 q1290) rfl rfl rfl (by decide +kernel) ⟨Nat.le_of_ble_eq_true rfl, Nat.le_of_ble_eq_true rfl⟩) (mPV hK hP hD _) rfl rfl hl.1 rfl (lv_room (Nat.le_of_ble_eq_true rfl)) dX2_tell_38 ⟨Nat.zero_le _, Nat.zero_le _⟩) hS (fun q _ h => h) (fun q h => h) (fun u t H1 locs ht hvm hw hB hz1 hk1 hS => ?_)
          subst hw
          obtain ⟨hP, -, hD⟩ := hB
          rw [ht] at hP
          generalize H1 = H at hP hS ⊢
          have hP : va_P (dC, dI) clA (mW ct o q (upd g 29 (31 * (31 * (31 * (g 29) + 3) + 2) + 1)) a ++ ex) H := hP
          have hD : va_D A (mW ct o q (upd g 29 (31 * (31 * (31 * (g 29) + 3) + 2) + 1)) a ++ ex) := hD
          refine lv_iload_n hx hb dX2_tell_41 rfl (lv_at hl 0 rfl) ?_
          refine lv_iconst (v := 2) hx hb dX2_tell_42 (by decide) ?_
          refine lv_icmp_ne (tgt := 51) hx hb dX2_tell_43 (by decide) (fun c_13 => ?_) (fun c_13 => ?_)
          · skip
            exact absurd c_13 (by decide)
          · skip
            refine lv_aload_n hx hb dX2_tell_46 rfl (lv_at hl 1 rfl) ?_
            refine lv_iconst (v := 1) hx hb dX2_tell_47 (by decide) ?_
            refine va_callv (va_runV (As := [.int 1]) (rest := []) ⟨hx, hb, hml, hown, hts⟩ (metX2_traced l dC dI ct A ex o q (upd g 29 (31 * (31 * (31 * (g 29) + 3) + 2) + 1)) a 1 ) (cwV 1 hts (lw_V q1287 q1289 qs67 q74 q1290) rfl rfl rfl (by decide +kernel) ⟨Nat.le_of_ble_eq_true rfl, Nat.le_of_ble_eq_true rfl⟩) (mPV hK hP hD _) rfl rfl hl.1 rfl (lv_room (Nat.le_of_ble_eq_true rfl)) dX2_tell_48 ⟨Nat.zero_le _, Nat.zero_le _⟩) hS (fun q _ h => h) (fun q h => h) (fun u t H1 locs ht hvm hw hB hz1 hk1 hS => ?_)
            subst hw
            obtain ⟨hP, -, hD⟩ := hB
            rw [ht] at hP
            generalize H1 = H at hP hS ⊢
            have hP : va_P (dC, dI) clA (mW ct o q (upd g 29 (31 * (31 * (31 * (31 * (g 29) + 3) + 2) + 1) + 1)) a ++ ex) H := hP
            have hD : va_D A (mW ct o q (upd g 29 (31 * (31 * (31 * (31 * (g 29) + 3) + 2) + 1) + 1)) a ++ ex) := hD
            refine lv_aload_n hx hb dX2_tell_51 rfl (lv_at hl 1 rfl) ?_
            refine m_get (v := .ref (q 5)) hx hb hts hown hK hP 5 (by decide) rfl q989 rfl dX2_tell_52 ?_
            refine lv_iload_n hx hb dX2_tell_55 rfl (lv_at hl 2 rfl) ?_
            refine m_ild hx hb hK hP (mWa5 _ _ _ _ _ _) (a 5) rfl K rfl (by omega) (by decide) dX2_tell_56 ?_
            refine lv_istore_n (lv' := [(3, .int ((a 5) K)), (2, .int 2), (0, .ref o), (1, .int (nI K))]) hx hb dX2_tell_57 rfl hl (by decide) rfl (fun ls hl => ?_)
            refine lv_iload_n hx hb dX2_tell_58 rfl (lv_at hl 1 rfl) ?_
            refine lv_if_ne (tgt := 66) hx hb dX2_tell_59 (by decide) (fun c_14 => ?_) (fun c_14 => ?_)
            · skip
              refine lv_iload_n hx hb dX2_tell_66 rfl (lv_at hl 1 rfl) ?_
              refine lv_iconst (v := 1) hx hb dX2_tell_67 (by decide) ?_
              refine lv_icmp_ne (tgt := 78) hx hb dX2_tell_68 (by decide) (fun c_15 => ?_) (fun c_15 => ?_)
              · skip
                refine lv_iconst (v := 2) hx hb dX2_tell_78 (by decide) ?_
                refine lv_iload_n hx hb dX2_tell_79 rfl (lv_at hl 0 rfl) ?_
                refine lv_imul hx hb dX2_tell_80 ?_
                refine lv_bipush (v := 100) hx hb dX2_tell_81 (by decide) ?_
                refine lv_iadd hx hb dX2_tell_83 ?_
                exact W.iret (v := ((2 * ((a 5) K)) + 100)) hx hb hr (fun t ht hW => ⟨⟨((2 * ((a 5) K)) + 100), ((upd g 29 (31 * (31 * (31 * (31 * (g 29) + 3) + 2) + 1) + 1)), a), rfl, ⟨(by simp [M_tell, tellR, tellT, eK, c_1, bK, e2, c_11, c_12, c_13, c_14, c_15]), (by simp [M_tell, tellR, tellT, eK, c_1, bK, e2, c_11, c_12, c_13, c_14, c_15])⟩, by rw [ht]; exact hP, va_K.moved hW.alike hK, hD⟩, hS.F ht⟩) hS.2.2 dX2_tell_84
              · skip
                exact absurd c_15 (by decide)
            · skip
              exact absurd c_14 (by decide)
  · skip
    refine lv_iconst (v := (-1)) hx hb dX2_tell_8 (by decide) ?_
    exact W.iret (v := (-1)) hx hb hr (fun t ht hW => ⟨⟨(-1), (g, a), rfl, ⟨(by simp [M_tell, show inP x n = false by simpa using c_1]), (by simp [M_tell, show inP x n = false by simpa using c_1])⟩, by rw [ht]; exact hP, va_K.moved hW.alike hK, hD⟩, hS.F ht⟩) hS.2.2 dX2_tell_9
set_option maxHeartbeats 4000000 in
set_option maxRecDepth 100000 in
theorem metX2_hand (l : Launch) (dC : Nat → ClassId) (dI : Nat → Nat → Nat) (ct : Nat → ClassId) (A : Nat → Prop) (ex : va_W) (o : Nat) (q : Nat → Nat) (g : Nat → Int32) (a : Nat → Nat → Int32) (x : Int32) (n : Nat) (hn6 : n ≤ 6) (hn : g 1 = nI n) (hkd : kdOk n (a 2)) : Met l yX2_hand (ws_ yX2_hand cX2_hand 2 (some .int)) ({ frames := 2, cells := 0, slots := 0, locals := 46 }) (mPre dC dI ct A ex o q g a [.ref o, .int x]) (va_Qi (fun (r : Int32) (u : (Nat → Int32) × (Nat → Nat → Int32)) => r = ((M_hand n g a x)).1 ∧ u = ((M_hand n g a x)).2) (mB dC dI ct A ex o q) A) 0 0 A := by
  refine Met.ofW (cc := cX2_hand) (maxL := 2) (ret := (some .int)) (by decide) rfl ?_
  intro p e s m args below meth c s₁ B hml hv
  obtain ⟨rfl, hP, hK, hD⟩ := hv
  have hx := B.exec
  have hb := B.bytes
  have hr := B.returns
  have hts := atoms_spec (ws := ws_ yX2_hand cX2_hand 2 (some .int)) B.pre
  have hts : ∀ w ∈ lw_all, w.before _ s = true := fun w h => hts w (List.mem_cons_of_mem _ h)
  have hown : s.vm.findClass RX2 = some m.cls := findClass_of_methodNamed B.named
  have hlocks := B.notSynchronized
  have hS : va_S A s.heap s.heap [] := va_S.rf
  have hl := lv_entry ([.ref o, .int x]) (n := 2) (Nat.le_of_ble_eq_true rfl)
  rw [lg_entry_eq]
  generalize (lg_sl ([.ref o, .int x]) ++ List.replicate (2 - (lg_sl ([.ref o, .int x])).length) Slot.unset).toArray = ls at hl ⊢
  have hl : lv_has ls 2 [(0, .ref o), (1, .int x)] := hl
  refine lv_aload_n hx hb dX2_hand_0 rfl (lv_at hl 0 rfl) ?_
  refine lv_iload_n hx hb dX2_hand_1 rfl (lv_at hl 1 rfl) ?_
  refine vp_callSi ((va_runV (As := [.int x]) (rest := []) ⟨hx, hb, hml, hown, hts⟩ (metX2_noPerson l dC dI ct A ex o q g a x n hn6 hn) (cwV 1 hts (lw_V q1122 q1124 qs48 q74 q1125) rfl rfl rfl (by decide +kernel) ⟨Nat.le_of_ble_eq_true rfl, Nat.le_of_ble_eq_true rfl⟩) (mPV hK hP hD _) rfl rfl hl.1 rfl (lv_room (Nat.le_of_ble_eq_true rfl)) dX2_hand_2 ⟨Nat.zero_le _, Nat.zero_le _⟩)).run (fun r hw => ?_)
  have hw : r = (b2i (!(inP x n))) := hw
  subst hw
  refine bz_eq (tgt := 10) hx hb dX2_hand_5 (by decide) (fun c_1 => ?_) (fun c_1 => ?_)
  · skip
    obtain ⟨K, hKn, ekK⟩ := inP_of (x := x) (n := n) (by omega) (by simpa using c_1)
    subst ekK
    have eK : cix (nI K) = K := cix_nI (by omega)
    have bK : inP (nI K) n = true := by rw [inP_nI (by omega)]; exact decide_eq_true hKn
    refine lv_aload_n hx hb dX2_hand_10 rfl (lv_at hl 0 rfl) ?_
    refine lv_aload_n hx hb dX2_hand_11 rfl (lv_at hl 0 rfl) ?_
    refine m_get (v := .ref (q 2)) hx hb hts hown hK hP 2 (by decide) rfl q986 rfl dX2_hand_12 ?_
    refine lv_iload_n hx hb dX2_hand_15 rfl (lv_at hl 1 rfl) ?_
    refine m_ild hx hb hK hP (mWa2 _ _ _ _ _ _) (a 2) rfl K rfl (by omega) (by decide) dX2_hand_16 ?_
    rcases hkd K hKn with e2 | e2 | e2
    · skip
      rw [e2]
      refine lv_iconst (v := 2) hx hb dX2_hand_17 (by decide) ?_
      refine lv_icmp_ne (tgt := 25) hx hb dX2_hand_18 (by decide) (fun c_2 => ?_) (fun c_2 => ?_)
      · skip
        refine lv_iconst (v := 4) hx hb dX2_hand_25 (by decide) ?_
        refine va_callv (va_runV (As := [.int 4]) (rest := []) ⟨hx, hb, hml, hown, hts⟩ (metX2_traced l dC dI ct A ex o q g a 4 ) (cwV 1 hts (lw_V q1287 q1289 qs67 q74 q1290) rfl rfl rfl (by decide +kernel) ⟨Nat.le_of_ble_eq_true rfl, Nat.le_of_ble_eq_true rfl⟩) (mPV hK hP hD _) rfl rfl hl.1 rfl (lv_room (Nat.le_of_ble_eq_true rfl)) dX2_hand_26 ⟨Nat.zero_le _, Nat.zero_le _⟩) hS (fun q _ h => h) (fun q h => h) (fun u t H1 locs ht hvm hw hB hz1 hk1 hS => ?_)
        subst hw
        obtain ⟨hP, -, hD⟩ := hB
        rw [ht] at hP
        generalize H1 = H at hP hS ⊢
        have hP : va_P (dC, dI) clA (mW ct o q (upd g 29 (31 * (g 29) + 4)) a ++ ex) H := hP
        have hD : va_D A (mW ct o q (upd g 29 (31 * (g 29) + 4)) a ++ ex) := hD
        refine lv_aload_n hx hb dX2_hand_29 rfl (lv_at hl 0 rfl) ?_
        refine m_get (v := .ref (q 2)) hx hb hts hown hK hP 2 (by decide) rfl q986 rfl dX2_hand_30 ?_
        refine lv_iload_n hx hb dX2_hand_33 rfl (lv_at hl 1 rfl) ?_
        refine m_ild hx hb hK hP (mWa2 _ _ _ _ _ _) (a 2) rfl K rfl (by omega) (by decide) dX2_hand_34 ?_
        rw [e2]
        refine lv_iconst (v := 2) hx hb dX2_hand_35 (by decide) ?_
        refine lv_icmp_ne (tgt := 44) hx hb dX2_hand_36 (by decide) (fun c_3 => ?_) (fun c_3 => ?_)
        · skip
          refine lv_iload_n hx hb dX2_hand_44 rfl (lv_at hl 1 rfl) ?_
          exact W.iret (v := (nI K)) hx hb hr (fun t ht hW => ⟨⟨(nI K), ((upd g 29 (31 * (g 29) + 4)), a), rfl, ⟨(by simp [M_hand, eK, c_1, bK, e2, c_2, c_3]), (by simp [M_hand, eK, c_1, bK, e2, c_2, c_3])⟩, by rw [ht]; exact hP, va_K.moved hW.alike hK, hD⟩, hS.F ht⟩) hS.2.2 dX2_hand_45
        · skip
          exact absurd c_3 (by decide)
      · skip
        exact absurd c_2 (by decide)
    · skip
      rw [e2]
      refine lv_iconst (v := 2) hx hb dX2_hand_17 (by decide) ?_
      refine lv_icmp_ne (tgt := 25) hx hb dX2_hand_18 (by decide) (fun c_4 => ?_) (fun c_4 => ?_)
      · skip
        refine lv_iconst (v := 4) hx hb dX2_hand_25 (by decide) ?_
        refine va_callv (va_runV (As := [.int 4]) (rest := []) ⟨hx, hb, hml, hown, hts⟩ (metX2_traced l dC dI ct A ex o q g a 4 ) (cwV 1 hts (lw_V q1287 q1289 qs67 q74 q1290) rfl rfl rfl (by decide +kernel) ⟨Nat.le_of_ble_eq_true rfl, Nat.le_of_ble_eq_true rfl⟩) (mPV hK hP hD _) rfl rfl hl.1 rfl (lv_room (Nat.le_of_ble_eq_true rfl)) dX2_hand_26 ⟨Nat.zero_le _, Nat.zero_le _⟩) hS (fun q _ h => h) (fun q h => h) (fun u t H1 locs ht hvm hw hB hz1 hk1 hS => ?_)
        subst hw
        obtain ⟨hP, -, hD⟩ := hB
        rw [ht] at hP
        generalize H1 = H at hP hS ⊢
        have hP : va_P (dC, dI) clA (mW ct o q (upd g 29 (31 * (g 29) + 4)) a ++ ex) H := hP
        have hD : va_D A (mW ct o q (upd g 29 (31 * (g 29) + 4)) a ++ ex) := hD
        refine lv_aload_n hx hb dX2_hand_29 rfl (lv_at hl 0 rfl) ?_
        refine m_get (v := .ref (q 2)) hx hb hts hown hK hP 2 (by decide) rfl q986 rfl dX2_hand_30 ?_
        refine lv_iload_n hx hb dX2_hand_33 rfl (lv_at hl 1 rfl) ?_
        refine m_ild hx hb hK hP (mWa2 _ _ _ _ _ _) (a 2) rfl K rfl (by omega) (by decide) dX2_hand_34 ?_
        rw [e2]
        refine lv_iconst (v := 2) hx hb dX2_hand_35 (by decide) ?_
        refine lv_icmp_ne (tgt := 44) hx hb dX2_hand_36 (by decide) (fun c_5 => ?_) (fun c_5 => ?_)
        · skip
          refine lv_iload_n hx hb dX2_hand_44 rfl (lv_at hl 1 rfl) ?_
          exact W.iret (v := (nI K)) hx hb hr (fun t ht hW => ⟨⟨(nI K), ((upd g 29 (31 * (g 29) + 4)), a), rfl, ⟨(by simp [M_hand, eK, c_1, bK, e2, c_4, c_5]), (by simp [M_hand, eK, c_1, bK, e2, c_4, c_5])⟩, by rw [ht]; exact hP, va_K.moved hW.alike hK, hD⟩, hS.F ht⟩) hS.2.2 dX2_hand_45
        · skip
          exact absurd c_5 (by decide)
      · skip
        exact absurd c_4 (by decide)
    · skip
      rw [e2]
      refine lv_iconst (v := 2) hx hb dX2_hand_17 (by decide) ?_
      refine lv_icmp_ne (tgt := 25) hx hb dX2_hand_18 (by decide) (fun c_6 => ?_) (fun c_6 => ?_)
      · skip
        exact absurd c_6 (by decide)
      · skip
        refine lv_iconst (v := 5) hx hb dX2_hand_21 (by decide) ?_
        refine lv_goto (tgt := 26) hx hb dX2_hand_22 (by decide) ?_
        refine va_callv (va_runV (As := [.int 5]) (rest := []) ⟨hx, hb, hml, hown, hts⟩ (metX2_traced l dC dI ct A ex o q g a 5 ) (cwV 1 hts (lw_V q1287 q1289 qs67 q74 q1290) rfl rfl rfl (by decide +kernel) ⟨Nat.le_of_ble_eq_true rfl, Nat.le_of_ble_eq_true rfl⟩) (mPV hK hP hD _) rfl rfl hl.1 rfl (lv_room (Nat.le_of_ble_eq_true rfl)) dX2_hand_26 ⟨Nat.zero_le _, Nat.zero_le _⟩) hS (fun q _ h => h) (fun q h => h) (fun u t H1 locs ht hvm hw hB hz1 hk1 hS => ?_)
        subst hw
        obtain ⟨hP, -, hD⟩ := hB
        rw [ht] at hP
        generalize H1 = H at hP hS ⊢
        have hP : va_P (dC, dI) clA (mW ct o q (upd g 29 (31 * (g 29) + 5)) a ++ ex) H := hP
        have hD : va_D A (mW ct o q (upd g 29 (31 * (g 29) + 5)) a ++ ex) := hD
        refine lv_aload_n hx hb dX2_hand_29 rfl (lv_at hl 0 rfl) ?_
        refine m_get (v := .ref (q 2)) hx hb hts hown hK hP 2 (by decide) rfl q986 rfl dX2_hand_30 ?_
        refine lv_iload_n hx hb dX2_hand_33 rfl (lv_at hl 1 rfl) ?_
        refine m_ild hx hb hK hP (mWa2 _ _ _ _ _ _) (a 2) rfl K rfl (by omega) (by decide) dX2_hand_34 ?_
        rw [e2]
        refine lv_iconst (v := 2) hx hb dX2_hand_35 (by decide) ?_
        refine lv_icmp_ne (tgt := 44) hx hb dX2_hand_36 (by decide) (fun c_7 => ?_) (fun c_7 => ?_)
        · skip
          exact absurd c_7 (by decide)
        · skip
          refine lv_bipush (v := 40) hx hb dX2_hand_39 (by decide) ?_
          refine lv_goto (tgt := 45) hx hb dX2_hand_41 (by decide) ?_
          exact W.iret (v := 40) hx hb hr (fun t ht hW => ⟨⟨40, ((upd g 29 (31 * (g 29) + 5)), a), rfl, ⟨(by simp [M_hand, eK, c_1, bK, e2, c_6, c_7]), (by simp [M_hand, eK, c_1, bK, e2, c_6, c_7])⟩, by rw [ht]; exact hP, va_K.moved hW.alike hK, hD⟩, hS.F ht⟩) hS.2.2 dX2_hand_45
  · skip
    refine lv_iconst (v := (-1)) hx hb dX2_hand_8 (by decide) ?_
    exact W.iret (v := (-1)) hx hb hr (fun t ht hW => ⟨⟨(-1), (g, a), rfl, ⟨(by simp [M_hand, show inP x n = false by simpa using c_1]), (by simp [M_hand, show inP x n = false by simpa using c_1])⟩, by rw [ht]; exact hP, va_K.moved hW.alike hK, hD⟩, hS.F ht⟩) hS.2.2 dX2_hand_9
set_option maxHeartbeats 4000000 in
set_option maxRecDepth 100000 in
theorem metX2_as (l : Launch) (dC : Nat → ClassId) (dI : Nat → Nat → Nat) (ct : Nat → ClassId) (A : Nat → Prop) (ex : va_W) (o : Nat) (q : Nat → Nat) (g : Nat → Int32) (a : Nat → Nat → Int32) (x : Int32) (kind : Int32) (n : Nat) (hn6 : n ≤ 6) (hn : g 1 = nI n) : Met l yX2_as (ws_ yX2_as cX2_as 3 (some .int)) ({ frames := 2, cells := 0, slots := 0, locals := 46 }) (mPre dC dI ct A ex o q g a [.ref o, .int x, .int kind]) (va_Qi (fun (r : Int32) (u : (Nat → Int32) × (Nat → Nat → Int32)) => r = ((M_as n g a x kind)).1 ∧ u = ((M_as n g a x kind)).2) (mB dC dI ct A ex o q) A) 0 0 A := by
  refine Met.ofW (cc := cX2_as) (maxL := 3) (ret := (some .int)) (by decide) rfl ?_
  intro p e s m args below meth c s₁ B hml hv
  obtain ⟨rfl, hP, hK, hD⟩ := hv
  have hx := B.exec
  have hb := B.bytes
  have hr := B.returns
  have hts := atoms_spec (ws := ws_ yX2_as cX2_as 3 (some .int)) B.pre
  have hts : ∀ w ∈ lw_all, w.before _ s = true := fun w h => hts w (List.mem_cons_of_mem _ h)
  have hown : s.vm.findClass RX2 = some m.cls := findClass_of_methodNamed B.named
  have hlocks := B.notSynchronized
  have hS : va_S A s.heap s.heap [] := va_S.rf
  have hl := lv_entry ([.ref o, .int x, .int kind]) (n := 3) (Nat.le_of_ble_eq_true rfl)
  rw [lg_entry_eq]
  generalize (lg_sl ([.ref o, .int x, .int kind]) ++ List.replicate (3 - (lg_sl ([.ref o, .int x, .int kind])).length) Slot.unset).toArray = ls at hl ⊢
  have hl : lv_has ls 3 [(0, .ref o), (1, .int x), (2, .int kind)] := hl
  refine lv_aload_n hx hb dX2_as_0 rfl (lv_at hl 0 rfl) ?_
  refine lv_iload_n hx hb dX2_as_1 rfl (lv_at hl 1 rfl) ?_
  refine vp_callSi ((va_runV (As := [.int x]) (rest := []) ⟨hx, hb, hml, hown, hts⟩ (metX2_noPerson l dC dI ct A ex o q g a x n hn6 hn) (cwV 1 hts (lw_V q1122 q1124 qs48 q74 q1125) rfl rfl rfl (by decide +kernel) ⟨Nat.le_of_ble_eq_true rfl, Nat.le_of_ble_eq_true rfl⟩) (mPV hK hP hD _) rfl rfl hl.1 rfl (lv_room (Nat.le_of_ble_eq_true rfl)) dX2_as_2 ⟨Nat.zero_le _, Nat.zero_le _⟩)).run (fun r hw => ?_)
  have hw : r = (b2i (!(inP x n))) := hw
  subst hw
  refine bz_eq (tgt := 14) hx hb dX2_as_5 (by decide) (fun c_1 => ?_) (fun c_1 => ?_)
  · skip
    obtain ⟨K, hKn, ekK⟩ := inP_of (x := x) (n := n) (by omega) (by simpa using c_1)
    subst ekK
    have eK : cix (nI K) = K := cix_nI (by omega)
    have bK : inP (nI K) n = true := by rw [inP_nI (by omega)]; exact decide_eq_true hKn
    refine lv_iload_n hx hb dX2_as_14 rfl (lv_at hl 2 rfl) ?_
    refine lv_i2l (v := (Int32.toInt64 kind)) hx hb dX2_as_15 rfl ?_
    refine lv_lconst (v := 0) hx hb dX2_as_16 (by decide) ?_
    refine lv_ldc2 (v := 2) hx hb hown (hts _ q1090) dX2_as_17 ?_
    refine vp_callSi ((va_runS (As := [.long (Int32.toInt64 kind), .long 0, .long 2]) (rest := []) ⟨hx, hb, hml, hown, hts⟩ (metX2_in l (Int32.toInt64 kind) 0 2 ) (va_cwS 3 hts (lw_S q1083 q1084 q74 q1085) rfl rfl rfl (by decide +kernel) ⟨Nat.le_of_ble_eq_true rfl, Nat.le_of_ble_eq_true rfl⟩) (pcS _) rfl rfl hl.1 rfl (lv_room (Nat.le_of_ble_eq_true rfl)) dX2_as_20 ⟨Nat.zero_le _, Nat.zero_le _⟩)).run (fun r hw => ?_)
    have hw : r = (b2i (lin (Int32.toInt64 kind) 0 2)) := hw
    subst hw
    refine bz_ne (tgt := 33) hx hb dX2_as_23 (by decide) (fun c_2 => ?_) (fun c_2 => ?_)
    · skip
      rw [lin_inP _ _ 3 (by decide)] at c_2
      refine lv_aload_n hx hb dX2_as_33 rfl (lv_at hl 0 rfl) ?_
      refine m_get (v := .ref (q 2)) hx hb hts hown hK hP 2 (by decide) rfl q986 rfl dX2_as_34 ?_
      refine lv_iload_n hx hb dX2_as_37 rfl (lv_at hl 1 rfl) ?_
      refine m_ild hx hb hK hP (mWa2 _ _ _ _ _ _) (a 2) rfl K rfl (by omega) (by decide) dX2_as_38 ?_
      refine lv_iload_n hx hb dX2_as_39 rfl (lv_at hl 2 rfl) ?_
      refine lv_icmp_lt (tgt := 51) hx hb dX2_as_40 (by decide) (fun c_3 => ?_) (fun c_3 => ?_)
      · skip
        refine lv_aload_n hx hb dX2_as_51 rfl (lv_at hl 0 rfl) ?_
        refine lv_iconst (v := 2) hx hb dX2_as_52 (by decide) ?_
        refine va_calli (va_runV (As := [.int 2]) (rest := []) ⟨hx, hb, hml, hown, hts⟩ (metX2_failed l dC dI ct A ex o q g a 2 ) (cwV 1 hts (lw_V q1095 q1097 qs43 q74 q1098) rfl rfl rfl (by decide +kernel) ⟨Nat.le_of_ble_eq_true rfl, Nat.le_of_ble_eq_true rfl⟩) (mPV hK hP hD _) rfl rfl hl.1 rfl (lv_room (Nat.le_of_ble_eq_true rfl)) dX2_as_53 ⟨Nat.zero_le _, Nat.zero_le _⟩) hS (fun q _ h => h) (fun q h => h) (fun r u t H1 locs ht hvm hw hB hz1 hk1 hS => ?_)
        obtain ⟨hw, hw2⟩ := hw
        have hw : r = ((-10) - 2) := hw
        subst hw
        subst hw2
        obtain ⟨hP, -, hD⟩ := hB
        rw [ht] at hP
        generalize H1 = H at hP hS ⊢
        have hP : va_P (dC, dI) clA (mW ct o q (upd g 0 2) a ++ ex) H := hP
        have hD : va_D A (mW ct o q (upd g 0 2) a ++ ex) := hD
        exact W.iret (v := ((-10) - 2)) hx hb hr (fun t ht hW => ⟨⟨((-10) - 2), ((upd g 0 2), a), rfl, ⟨(by simp [M_as, eK, c_1, bK, c_2, c_3]), (by simp [M_as, eK, c_1, bK, c_2, c_3])⟩, by rw [ht]; exact hP, va_K.moved hW.alike hK, hD⟩, hS.F ht⟩) hS.2.2 dX2_as_56
      · skip
        refine lv_aload_n hx hb dX2_as_43 rfl (lv_at hl 0 rfl) ?_
        refine lv_iconst (v := 1) hx hb dX2_as_44 (by decide) ?_
        refine va_calli (va_runV (As := [.int 1]) (rest := []) ⟨hx, hb, hml, hown, hts⟩ (metX2_refused l dC dI ct A ex o q g a 1 ) (cwV 1 hts (lw_V q1086 q1088 qs41 q74 q1089) rfl rfl rfl (by decide +kernel) ⟨Nat.le_of_ble_eq_true rfl, Nat.le_of_ble_eq_true rfl⟩) (mPV hK hP hD _) rfl rfl hl.1 rfl (lv_room (Nat.le_of_ble_eq_true rfl)) dX2_as_45 ⟨Nat.zero_le _, Nat.zero_le _⟩) hS (fun q _ h => h) (fun q h => h) (fun r u t H1 locs ht hvm hw hB hz1 hk1 hS => ?_)
        obtain ⟨hw, hw2⟩ := hw
        have hw : r = 1 := hw
        subst hw
        subst hw2
        obtain ⟨hP, -, hD⟩ := hB
        rw [ht] at hP
        generalize H1 = H at hP hS ⊢
        have hP : va_P (dC, dI) clA (mW ct o q (upd g 0 0) a ++ ex) H := hP
        have hD : va_D A (mW ct o q (upd g 0 0) a ++ ex) := hD
        refine lv_goto (tgt := 56) hx hb dX2_as_48 (by decide) ?_
        exact W.iret (v := 1) hx hb hr (fun t ht hW => ⟨⟨1, ((upd g 0 0), a), rfl, ⟨(by simp [M_as, eK, c_1, bK, c_2, c_3]), (by simp [M_as, eK, c_1, bK, c_2, c_3])⟩, by rw [ht]; exact hP, va_K.moved hW.alike hK, hD⟩, hS.F ht⟩) hS.2.2 dX2_as_56
    · skip
      rw [lin_inP _ _ 3 (by decide)] at c_2
      refine lv_aload_n hx hb dX2_as_26 rfl (lv_at hl 0 rfl) ?_
      refine lv_bipush (v := (-2)) hx hb dX2_as_27 (by decide) ?_
      refine va_calli (va_runV (As := [.int (-2)]) (rest := []) ⟨hx, hb, hml, hown, hts⟩ (metX2_refused l dC dI ct A ex o q g a (-2) ) (cwV 1 hts (lw_V q1086 q1088 qs41 q74 q1089) rfl rfl rfl (by decide +kernel) ⟨Nat.le_of_ble_eq_true rfl, Nat.le_of_ble_eq_true rfl⟩) (mPV hK hP hD _) rfl rfl hl.1 rfl (lv_room (Nat.le_of_ble_eq_true rfl)) dX2_as_29 ⟨Nat.zero_le _, Nat.zero_le _⟩) hS (fun q _ h => h) (fun q h => h) (fun r u t H1 locs ht hvm hw hB hz1 hk1 hS => ?_)
      obtain ⟨hw, hw2⟩ := hw
      have hw : r = (-2) := hw
      subst hw
      subst hw2
      obtain ⟨hP, -, hD⟩ := hB
      rw [ht] at hP
      generalize H1 = H at hP hS ⊢
      have hP : va_P (dC, dI) clA (mW ct o q (upd g 0 0) a ++ ex) H := hP
      have hD : va_D A (mW ct o q (upd g 0 0) a ++ ex) := hD
      exact W.iret (v := (-2)) hx hb hr (fun t ht hW => ⟨⟨(-2), ((upd g 0 0), a), rfl, ⟨(by simp [M_as, eK, c_1, bK, c_2]), (by simp [M_as, eK, c_1, bK, c_2])⟩, by rw [ht]; exact hP, va_K.moved hW.alike hK, hD⟩, hS.F ht⟩) hS.2.2 dX2_as_32
  · skip
    refine lv_aload_n hx hb dX2_as_8 rfl (lv_at hl 0 rfl) ?_
    refine lv_iconst (v := (-1)) hx hb dX2_as_9 (by decide) ?_
    refine va_calli (va_runV (As := [.int (-1)]) (rest := []) ⟨hx, hb, hml, hown, hts⟩ (metX2_refused l dC dI ct A ex o q g a (-1) ) (cwV 1 hts (lw_V q1086 q1088 qs41 q74 q1089) rfl rfl rfl (by decide +kernel) ⟨Nat.le_of_ble_eq_true rfl, Nat.le_of_ble_eq_true rfl⟩) (mPV hK hP hD _) rfl rfl hl.1 rfl (lv_room (Nat.le_of_ble_eq_true rfl)) dX2_as_10 ⟨Nat.zero_le _, Nat.zero_le _⟩) hS (fun q _ h => h) (fun q h => h) (fun r u t H1 locs ht hvm hw hB hz1 hk1 hS => ?_)
    obtain ⟨hw, hw2⟩ := hw
    have hw : r = (-1) := hw
    subst hw
    subst hw2
    obtain ⟨hP, -, hD⟩ := hB
    rw [ht] at hP
    generalize H1 = H at hP hS ⊢
    have hP : va_P (dC, dI) clA (mW ct o q (upd g 0 0) a ++ ex) H := hP
    have hD : va_D A (mW ct o q (upd g 0 0) a ++ ex) := hD
    exact W.iret (v := (-1)) hx hb hr (fun t ht hW => ⟨⟨(-1), ((upd g 0 0), a), rfl, ⟨(by simp [M_as, show inP x n = false by simpa using c_1]), (by simp [M_as, show inP x n = false by simpa using c_1])⟩, by rw [ht]; exact hP, va_K.moved hW.alike hK, hD⟩, hS.F ht⟩) hS.2.2 dX2_as_13
set_option maxHeartbeats 4000000 in
set_option maxRecDepth 100000 in
theorem metX2_help (l : Launch) (dC : Nat → ClassId) (dI : Nat → Nat → Nat) (ct : Nat → ClassId) (A : Nat → Prop) (ex : va_W) (o : Nat) (q : Nat → Nat) (g : Nat → Int32) (a : Nat → Nat → Int32) (x : Int32) (n : Nat) (hn6 : n ≤ 6) (hn : g 1 = nI n) : Met l yX2_help (ws_ yX2_help cX2_help 5 (some .int)) ({ frames := 2, cells := 0, slots := 0, locals := 46 }) (mPre dC dI ct A ex o q g a [.ref o, .int x]) (vp_Si (fun r => r = (M_help n a x))) 0 0 (fun _ => False) := by
  refine Met.ofW (cc := cX2_help) (maxL := 5) (ret := (some .int)) (by decide) rfl ?_
  intro p e s m args below meth c s₁ B hml hv
  obtain ⟨rfl, hP, hK, hD⟩ := hv
  have hx := B.exec
  have hb := B.bytes
  have hr := B.returns
  have hts := atoms_spec (ws := ws_ yX2_help cX2_help 5 (some .int)) B.pre
  have hts : ∀ w ∈ lw_all, w.before _ s = true := fun w h => hts w (List.mem_cons_of_mem _ h)
  have hown : s.vm.findClass RX2 = some m.cls := findClass_of_methodNamed B.named
  have hlocks := B.notSynchronized
  have hS : va_S A s.heap s.heap [] := va_S.rf
  have hl := lv_entry ([.ref o, .int x]) (n := 5) (Nat.le_of_ble_eq_true rfl)
  rw [lg_entry_eq]
  generalize (lg_sl ([.ref o, .int x]) ++ List.replicate (5 - (lg_sl ([.ref o, .int x])).length) Slot.unset).toArray = ls at hl ⊢
  have hl : lv_has ls 5 [(0, .ref o), (1, .int x)] := hl
  refine lv_aload_n hx hb dX2_help_0 rfl (lv_at hl 0 rfl) ?_
  refine lv_iload_n hx hb dX2_help_1 rfl (lv_at hl 1 rfl) ?_
  refine vp_callSi ((va_runV (As := [.int x]) (rest := []) ⟨hx, hb, hml, hown, hts⟩ (metX2_noPerson l dC dI ct A ex o q g a x n hn6 hn) (cwV 1 hts (lw_V q1122 q1124 qs48 q74 q1125) rfl rfl rfl (by decide +kernel) ⟨Nat.le_of_ble_eq_true rfl, Nat.le_of_ble_eq_true rfl⟩) (mPV hK hP hD _) rfl rfl hl.1 rfl (lv_room (Nat.le_of_ble_eq_true rfl)) dX2_help_2 ⟨Nat.zero_le _, Nat.zero_le _⟩)).run (fun r hw => ?_)
  have hw : r = (b2i (!(inP x n))) := hw
  subst hw
  refine bz_eq (tgt := 10) hx hb dX2_help_5 (by decide) (fun c_1 => ?_) (fun c_1 => ?_)
  · skip
    obtain ⟨K, hKn, ekK⟩ := inP_of (x := x) (n := n) (by omega) (by simpa using c_1)
    subst ekK
    have eK : cix (nI K) = K := cix_nI (by omega)
    have bK : inP (nI K) n = true := by rw [inP_nI (by omega)]; exact decide_eq_true hKn
    refine lv_iconst (v := 0) hx hb dX2_help_10 (by decide) ?_
    refine lv_istore_n (lv' := [(2, .int 0), (0, .ref o), (1, .int (nI K))]) hx hb dX2_help_11 rfl hl (by decide) rfl (fun ls hl => ?_)
    refine lv_iconst (v := 0) hx hb dX2_help_12 (by decide) ?_
    refine lv_istore_n (lv' := [(3, .int 0), (2, .int 0), (0, .ref o), (1, .int (nI K))]) hx hb dX2_help_13 rfl hl (by decide) rfl (fun ls hl => ?_)
    have loop1 : ∀ (f1 : Nat) (i : Nat), i ≤ n → n + 1 ≤ i + f1 → ∀ (ls : Array Slot), lv_has ls 5 [(3, .int (nI i)), (2, .int (hcnt (a 3) (a 4) K i)), (1, .int (nI K)), (0, .ref o)] → W p l e (headSpec (ws_ yX2_help cX2_help 5 (some .int)) ({ frames := 2, cells := 0, slots := 0, locals := 46 })).room s m ([.ref o, .int (nI K)] : List Value).toArray below meth c s.heap [] 0 0 (MQ below (vp_Si (fun r => r = (M_help n a (nI K)))) ([.ref o, .int (nI K)] : List Value).toArray s 0 0 (fun _ => False)) (F0 m 14 ls []) := by
      intro f1
      induction f1 with
      | zero => intro i hi hf; exact False.elim (by omega)
      | succ f1 ih1 =>
        intro i hi hf ls hl
        refine lv_iload_n hx hb dX2_help_14 rfl (lv_at hl 0 rfl) ?_
        refine lv_aload_n hx hb dX2_help_15 rfl (lv_at hl 3 rfl) ?_
        refine m_get (v := .int (g 1)) hx hb hts hown hK hP 1 (by decide) rfl q985 rfl dX2_help_16 ?_
        refine lv_icmp_ge (tgt := 79) hx hb dX2_help_19 (by decide) (fun c_2 => ?_) (fun c_2 => ?_)
        · skip
          have hge : i = n := by rw [hn] at c_2; exact Nat.le_antisymm (by omega) ((nI_leI (by omega) (by omega)).mp c_2)
          refine lv_iload_n hx hb dX2_help_79 rfl (lv_at hl 1 rfl) ?_
          exact W.iret (v := (hcnt (a 3) (a 4) K i)) hx hb hr (fun t ht hW => ⟨(hcnt (a 3) (a 4) K i), rfl, (by simp [M_help, eK, bK, hge]), ht⟩) (fun q h => by cases h) dX2_help_80
        · skip
          have hlt : i < n := by rw [hn] at c_2; exact Nat.lt_of_not_le (fun z => c_2 ((nI_leI (by omega) (by omega)).mpr z))
          refine lv_aload_n hx hb dX2_help_22 rfl (lv_at hl 3 rfl) ?_
          refine m_get (v := .ref (q 4)) hx hb hts hown hK hP 4 (by decide) rfl q988 rfl dX2_help_23 ?_
          refine lv_iload_n hx hb dX2_help_26 rfl (lv_at hl 0 rfl) ?_
          refine m_ild hx hb hK hP (mWa4 _ _ _ _ _ _) (a 4) rfl i rfl (by omega) (by decide) dX2_help_27 ?_
          refine lv_istore (lv' := [(4, .int ((a 4) i)), (3, .int (nI i)), (2, .int (hcnt (a 3) (a 4) K i)), (1, .int (nI K)), (0, .ref o)]) hx hb dX2_help_28 hl (by decide) rfl (fun ls hl => ?_)
          refine lv_iload_n hx hb dX2_help_30 rfl (lv_at hl 2 rfl) ?_
          refine lv_iload hx hb dX2_help_31 (lv_at hl 0 rfl) ?_
          refine lv_bipush (v := 6) hx hb dX2_help_33 (by decide) ?_
          refine lv_icmp_ge (tgt := 70) hx hb dX2_help_35 (by decide) (fun c_3 => ?_) (fun c_3 => ?_)
          · skip
            skip
            refine lv_iconst (v := 0) hx hb dX2_help_70 (by decide) ?_
            refine lv_iadd hx hb dX2_help_71 ?_
            rw [hcnt_0 (fun z => absurd c_3 z.1)]
            refine lv_istore_n (lv' := [(2, .int (hcnt (a 3) (a 4) K (i + 1))), (4, .int ((a 4) i)), (3, .int (nI i)), (1, .int (nI K)), (0, .ref o)]) hx hb dX2_help_72 rfl hl (by decide) rfl (fun ls hl => ?_)
            refine lv_iinc (v := (nI (i + 1))) (lv' := [(3, .int (nI (i + 1))), (2, .int (hcnt (a 3) (a 4) K (i + 1))), (4, .int ((a 4) i)), (1, .int (nI K)), (0, .ref o)]) hx hb dX2_help_73 hl (k := 2) rfl (nI_1 i) (by decide) rfl (fun ls hl => ?_)
            refine lv_goto (tgt := 14) hx hb dX2_help_76 (by decide) ?_
            exact ih1 (i + 1) (by omega) (by omega) _ (lv_sub hl [0, 1, 3, 4] rfl)
          · skip
            refine lv_aload_n hx hb dX2_help_38 rfl (lv_at hl 4 rfl) ?_
            refine m_get (v := .ref (q 3)) hx hb hts hown hK hP 3 (by decide) rfl q987 rfl dX2_help_39 ?_
            refine lv_iload_n hx hb dX2_help_42 rfl (lv_at hl 3 rfl) ?_
            refine m_ild hx hb hK hP (mWa3 _ _ _ _ _ _) (a 3) rfl K rfl (by omega) (by decide) dX2_help_43 ?_
            refine lv_iload hx hb dX2_help_44 (lv_at hl 0 rfl) ?_
            refine vp_callSi ((va_runS (As := [.int ((a 3) K), .int ((a 4) i)]) (rest := [.int (hcnt (a 3) (a 4) K i)]) ⟨hx, hb, hml, hown, hts⟩ (metX2_isIn l ((a 3) K) ((a 4) i) ) (va_cwS 2 hts (lw_S q1166 q1167 q74 q1168) rfl rfl rfl (by decide +kernel) ⟨Nat.le_of_ble_eq_true rfl, Nat.le_of_ble_eq_true rfl⟩) (pcS _) rfl rfl hl.1 rfl (lv_room (Nat.le_of_ble_eq_true rfl)) dX2_help_46 ⟨Nat.zero_le _, Nat.zero_le _⟩)).run (fun r hw => ?_)
            have hw : r = (b2i (bq ((a 3) K) ((a 4) i))) := hw
            subst hw
            refine bz_eq (tgt := 70) hx hb dX2_help_49 (by decide) (fun c_4 => ?_) (fun c_4 => ?_)
            · skip
              skip
              refine lv_iconst (v := 0) hx hb dX2_help_70 (by decide) ?_
              refine lv_iadd hx hb dX2_help_71 ?_
              rw [hcnt_0 (fun z => by rw [c_4] at z; exact absurd z.2.1 (by decide))]
              refine lv_istore_n (lv' := [(2, .int (hcnt (a 3) (a 4) K (i + 1))), (4, .int ((a 4) i)), (3, .int (nI i)), (1, .int (nI K)), (0, .ref o)]) hx hb dX2_help_72 rfl hl (by decide) rfl (fun ls hl => ?_)
              refine lv_iinc (v := (nI (i + 1))) (lv' := [(3, .int (nI (i + 1))), (2, .int (hcnt (a 3) (a 4) K (i + 1))), (4, .int ((a 4) i)), (1, .int (nI K)), (0, .ref o)]) hx hb dX2_help_73 hl (k := 2) rfl (nI_1 i) (by decide) rfl (fun ls hl => ?_)
              refine lv_goto (tgt := 14) hx hb dX2_help_76 (by decide) ?_
              exact ih1 (i + 1) (by omega) (by omega) _ (lv_sub hl [0, 1, 3, 4] rfl)
            · skip
              refine lv_aload_n hx hb dX2_help_52 rfl (lv_at hl 4 rfl) ?_
              refine m_get (v := .ref (q 3)) hx hb hts hown hK hP 3 (by decide) rfl q987 rfl dX2_help_53 ?_
              refine lv_iload_n hx hb dX2_help_56 rfl (lv_at hl 1 rfl) ?_
              refine m_ild hx hb hK hP (mWa3 _ _ _ _ _ _) (a 3) rfl i rfl (by omega) (by decide) dX2_help_57 ?_
              refine lv_iload hx hb dX2_help_58 (lv_at hl 0 rfl) ?_
              refine vp_callSi ((va_runS (As := [.int ((a 3) i), .int ((a 4) i)]) (rest := [.int (hcnt (a 3) (a 4) K i)]) ⟨hx, hb, hml, hown, hts⟩ (metX2_isIn l ((a 3) i) ((a 4) i) ) (va_cwS 2 hts (lw_S q1166 q1167 q74 q1168) rfl rfl rfl (by decide +kernel) ⟨Nat.le_of_ble_eq_true rfl, Nat.le_of_ble_eq_true rfl⟩) (pcS _) rfl rfl hl.1 rfl (lv_room (Nat.le_of_ble_eq_true rfl)) dX2_help_60 ⟨Nat.zero_le _, Nat.zero_le _⟩)).run (fun r hw => ?_)
              have hw : r = (b2i (bq ((a 3) i) ((a 4) i))) := hw
              subst hw
              refine bz_ne (tgt := 70) hx hb dX2_help_63 (by decide) (fun c_5 => ?_) (fun c_5 => ?_)
              · skip
                skip
                refine lv_iconst (v := 0) hx hb dX2_help_70 (by decide) ?_
                refine lv_iadd hx hb dX2_help_71 ?_
                rw [hcnt_0 (fun z => by rw [c_5] at z; exact absurd z.2.2 (by decide))]
                refine lv_istore_n (lv' := [(2, .int (hcnt (a 3) (a 4) K (i + 1))), (4, .int ((a 4) i)), (3, .int (nI i)), (1, .int (nI K)), (0, .ref o)]) hx hb dX2_help_72 rfl hl (by decide) rfl (fun ls hl => ?_)
                refine lv_iinc (v := (nI (i + 1))) (lv' := [(3, .int (nI (i + 1))), (2, .int (hcnt (a 3) (a 4) K (i + 1))), (4, .int ((a 4) i)), (1, .int (nI K)), (0, .ref o)]) hx hb dX2_help_73 hl (k := 2) rfl (nI_1 i) (by decide) rfl (fun ls hl => ?_)
                refine lv_goto (tgt := 14) hx hb dX2_help_76 (by decide) ?_
                exact ih1 (i + 1) (by omega) (by omega) _ (lv_sub hl [0, 1, 3, 4] rfl)
              · skip
                refine lv_iconst (v := 1) hx hb dX2_help_66 (by decide) ?_
                refine lv_goto (tgt := 71) hx hb dX2_help_67 (by decide) ?_
                refine lv_iadd hx hb dX2_help_71 ?_
                rw [hcnt_1 c_3 c_4 c_5]
                refine lv_istore_n (lv' := [(2, .int (hcnt (a 3) (a 4) K (i + 1))), (4, .int ((a 4) i)), (3, .int (nI i)), (1, .int (nI K)), (0, .ref o)]) hx hb dX2_help_72 rfl hl (by decide) rfl (fun ls hl => ?_)
                refine lv_iinc (v := (nI (i + 1))) (lv' := [(3, .int (nI (i + 1))), (2, .int (hcnt (a 3) (a 4) K (i + 1))), (4, .int ((a 4) i)), (1, .int (nI K)), (0, .ref o)]) hx hb dX2_help_73 hl (k := 2) rfl (nI_1 i) (by decide) rfl (fun ls hl => ?_)
                refine lv_goto (tgt := 14) hx hb dX2_help_76 (by decide) ?_
                exact ih1 (i + 1) (by omega) (by omega) _ (lv_sub hl [0, 1, 3, 4] rfl)
    exact loop1 (n + 1) 0 (by omega) (by omega) _ (lv_sub hl [0, 1, 3, 2] rfl)
  · skip
    refine lv_iconst (v := (-1)) hx hb dX2_help_8 (by decide) ?_
    exact W.iret (v := (-1)) hx hb hr (fun t ht hW => ⟨(-1), rfl, (by simp [M_help, show inP x n = false by simpa using c_1]), ht⟩) (fun q h => by cases h) dX2_help_9
set_option maxHeartbeats 4000000 in
set_option maxRecDepth 100000 in
theorem metX2_reading (l : Launch) (dC : Nat → ClassId) (dI : Nat → Nat → Nat) (ct : Nat → ClassId) (A : Nat → Prop) (ex : va_W) (o : Nat) (q : Nat → Nat) (g : Nat → Int32) (a : Nat → Nat → Int32) (x : Int32) (sc : Int32) (b : Bool) (n rn : Nat) (hn6 : n ≤ 6) (hn : g 1 = nI n) (hr8 : rn ≤ 8) (hrn : g 21 = nI rn) : Met l yX2_reading (ws_ yX2_reading cX2_reading 4 (some .int)) ({ frames := 2, cells := 0, slots := 0, locals := 46 }) (mPre dC dI ct A ex o q g a [.ref o, .int x, .int sc, .int (b2i b)]) (va_Qi (fun (r : Int32) (u : (Nat → Int32) × (Nat → Nat → Int32)) => r = ((M_reading n rn g a x sc b)).1 ∧ u = ((M_reading n rn g a x sc b)).2) (mB dC dI ct A ex o q) A) 0 0 A := by
  refine Met.ofW (cc := cX2_reading) (maxL := 4) (ret := (some .int)) (by decide) rfl ?_
  intro p e s m args below meth c s₁ B hml hv
  obtain ⟨rfl, hP, hK, hD⟩ := hv
  have hx := B.exec
  have hb := B.bytes
  have hr := B.returns
  have hts := atoms_spec (ws := ws_ yX2_reading cX2_reading 4 (some .int)) B.pre
  have hts : ∀ w ∈ lw_all, w.before _ s = true := fun w h => hts w (List.mem_cons_of_mem _ h)
  have hown : s.vm.findClass RX2 = some m.cls := findClass_of_methodNamed B.named
  have hlocks := B.notSynchronized
  have hS : va_S A s.heap s.heap [] := va_S.rf
  have hl := lv_entry ([.ref o, .int x, .int sc, .int (b2i b)]) (n := 4) (Nat.le_of_ble_eq_true rfl)
  rw [lg_entry_eq]
  generalize (lg_sl ([.ref o, .int x, .int sc, .int (b2i b)]) ++ List.replicate (4 - (lg_sl ([.ref o, .int x, .int sc, .int (b2i b)])).length) Slot.unset).toArray = ls at hl ⊢
  have hl : lv_has ls 4 [(0, .ref o), (1, .int x), (2, .int sc), (3, .int (b2i b))] := hl
  refine lv_aload_n hx hb dX2_reading_0 rfl (lv_at hl 0 rfl) ?_
  refine lv_iload_n hx hb dX2_reading_1 rfl (lv_at hl 1 rfl) ?_
  refine vp_callSi ((va_runV (As := [.int x]) (rest := []) ⟨hx, hb, hml, hown, hts⟩ (metX2_noPerson l dC dI ct A ex o q g a x n hn6 hn) (cwV 1 hts (lw_V q1122 q1124 qs48 q74 q1125) rfl rfl rfl (by decide +kernel) ⟨Nat.le_of_ble_eq_true rfl, Nat.le_of_ble_eq_true rfl⟩) (mPV hK hP hD _) rfl rfl hl.1 rfl (lv_room (Nat.le_of_ble_eq_true rfl)) dX2_reading_2 ⟨Nat.zero_le _, Nat.zero_le _⟩)).run (fun r hw => ?_)
  have hw : r = (b2i (!(inP x n))) := hw
  subst hw
  refine bz_ne (tgt := 20) hx hb dX2_reading_5 (by decide) (fun c_1 => ?_) (fun c_1 => ?_)
  · skip
    refine lv_iconst (v := (-1)) hx hb dX2_reading_20 (by decide) ?_
    exact W.iret (v := (-1)) hx hb hr (fun t ht hW => ⟨⟨(-1), (g, a), rfl, ⟨(by simp [M_reading, show inP x n = false by simpa using c_1]), (by simp [M_reading, show inP x n = false by simpa using c_1])⟩, by rw [ht]; exact hP, va_K.moved hW.alike hK, hD⟩, hS.F ht⟩) hS.2.2 dX2_reading_21
  · skip
    have b1 : inP x n = true := by simpa using c_1
    refine lv_iload_n hx hb dX2_reading_8 rfl (lv_at hl 2 rfl) ?_
    refine lv_i2l (v := (Int32.toInt64 sc)) hx hb dX2_reading_9 rfl ?_
    refine lv_lconst (v := 0) hx hb dX2_reading_10 (by decide) ?_
    refine lv_ldc2 (v := 5) hx hb hown (hts _ q1222) dX2_reading_11 ?_
    refine vp_callSi ((va_runS (As := [.long (Int32.toInt64 sc), .long 0, .long 5]) (rest := []) ⟨hx, hb, hml, hown, hts⟩ (metX2_in l (Int32.toInt64 sc) 0 5 ) (va_cwS 3 hts (lw_S q1083 q1084 q74 q1085) rfl rfl rfl (by decide +kernel) ⟨Nat.le_of_ble_eq_true rfl, Nat.le_of_ble_eq_true rfl⟩) (pcS _) rfl rfl hl.1 rfl (lv_room (Nat.le_of_ble_eq_true rfl)) dX2_reading_14 ⟨Nat.zero_le _, Nat.zero_le _⟩)).run (fun r hw => ?_)
    have hw : r = (b2i (lin (Int32.toInt64 sc) 0 5)) := hw
    subst hw
    refine bz_ne (tgt := 22) hx hb dX2_reading_17 (by decide) (fun c_2 => ?_) (fun c_2 => ?_)
    · skip
      rw [lin_inP _ _ 6 (by decide)] at c_2
      refine lv_aload_n hx hb dX2_reading_22 rfl (lv_at hl 0 rfl) ?_
      refine m_get (v := .int (g 21)) hx hb hts hown hK hP 21 (by decide) rfl q1005 rfl dX2_reading_23 ?_
      refine lv_bipush (v := 8) hx hb dX2_reading_26 (by decide) ?_
      refine lv_icmp_ne (tgt := 34) hx hb dX2_reading_28 (by decide) (fun c_3 => ?_) (fun c_3 => ?_)
      · skip
        have c8 : ¬ rn = 8 := fun z => c_3 (by rw [hrn, z]; rfl)
        refine lv_aload_n hx hb dX2_reading_34 rfl (lv_at hl 0 rfl) ?_
        refine m_get (v := .ref (q 22)) hx hb hts hown hK hP 22 (by decide) rfl q1006 rfl dX2_reading_35 ?_
        refine lv_aload_n hx hb dX2_reading_38 rfl (lv_at hl 0 rfl) ?_
        refine m_get (v := .int (g 21)) hx hb hts hown hK hP 21 (by decide) rfl q1005 rfl dX2_reading_39 ?_
        refine lv_iload_n hx hb dX2_reading_42 rfl (lv_at hl 1 rfl) ?_
        refine m_ist (x := x) hx hb hK hP hD hS (mWa22 _ _ _ _ _ _) (mWs22 _ _ _ _ _ _) (a 22) rfl rn hrn (by omega) (by decide) dX2_reading_43 (fun H locs hP hD hS => ?_)
        refine lv_aload_n hx hb dX2_reading_44 rfl (lv_at hl 0 rfl) ?_
        refine m_get (v := .ref (q 23)) hx hb hts hown hK hP 23 (by decide) rfl q1007 rfl dX2_reading_45 ?_
        refine lv_aload_n hx hb dX2_reading_48 rfl (lv_at hl 0 rfl) ?_
        refine m_get (v := .int (g 21)) hx hb hts hown hK hP 21 (by decide) rfl q1005 rfl dX2_reading_49 ?_
        refine lv_iload_n hx hb dX2_reading_52 rfl (lv_at hl 2 rfl) ?_
        refine m_ist (x := sc) hx hb hK hP hD hS (mWa23 _ _ _ _ _ _) (mWs23 _ _ _ _ _ _) (a 23) rfl rn hrn (by omega) (by decide) dX2_reading_53 (fun H locs hP hD hS => ?_)
        refine lv_aload_n hx hb dX2_reading_54 rfl (lv_at hl 0 rfl) ?_
        refine m_get (v := .ref (q 24)) hx hb hts hown hK hP 24 (by decide) rfl q1008 rfl dX2_reading_55 ?_
        refine lv_aload_n hx hb dX2_reading_58 rfl (lv_at hl 0 rfl) ?_
        refine m_get (v := .int (g 21)) hx hb hts hown hK hP 21 (by decide) rfl q1005 rfl dX2_reading_59 ?_
        refine lv_iload_n hx hb dX2_reading_62 rfl (lv_at hl 3 rfl) ?_
        refine m_zst (x := (b2i b)) hx hb hK hP hD hS (mWa24 _ _ _ _ _ _) (mWs24 _ _ _ _ _ _) (a 24) rfl rn hrn (by omega) (by decide) (narZ_b2i _) dX2_reading_63 (fun H locs hP hD hS => ?_)
        refine lv_aload_n hx hb dX2_reading_64 rfl (lv_at hl 0 rfl) ?_
        refine lv_dup hx hb dX2_reading_65 rfl ?_
        refine m_get (v := .int (g 21)) hx hb hts hown hK hP 21 (by decide) rfl q1005 rfl dX2_reading_66 ?_
        refine lv_iconst (v := 1) hx hb dX2_reading_69 (by decide) ?_
        refine lv_iadd hx hb dX2_reading_70 ?_
        refine m_put (v := ((g 21) + 1)) hx hb hts hown hK hP hD hS 21 (by decide) rfl q1005 rfl rfl (by decide +kernel) dX2_reading_71 (fun H locs hP hD hS => ?_)
        refine lv_aload_n hx hb dX2_reading_74 rfl (lv_at hl 0 rfl) ?_
        refine m_get (v := .int ((g 21) + 1)) hx hb hts hown hK hP 21 (by decide) rfl q1005 rfl dX2_reading_75 ?_
        refine lv_iconst (v := 1) hx hb dX2_reading_78 (by decide) ?_
        refine lv_isub hx hb dX2_reading_79 ?_
        exact W.iret (v := (((g 21) + 1) - 1)) hx hb hr (fun t ht hW => ⟨⟨(((g 21) + 1) - 1), ((upd g 21 ((g 21) + 1)), (va_up (va_up (va_up a 22 (upd (a 22) rn x)) 23 (upd (a 23) rn sc)) 24 (upd (a 24) rn (b2i b)))), rfl, ⟨(by simp only [M_reading, b1, c_2, and_self, if_true, if_neg c8, hrn]; rw [nI_1]; exact nI_pred rn), (by simp only [M_reading, b1, c_2, and_self, if_true, if_neg c8, hrn, nI_1])⟩, by rw [ht]; exact hP, va_K.moved hW.alike hK, hD⟩, hS.F ht⟩) hS.2.2 dX2_reading_80
      · skip
        have c8 : rn = 8 := by rw [hrn] at c_3; exact (nI_8 hr8).mp c_3
        refine lv_bipush (v := (-4)) hx hb dX2_reading_31 (by decide) ?_
        exact W.iret (v := (-4)) hx hb hr (fun t ht hW => ⟨⟨(-4), (g, a), rfl, ⟨(by simp [M_reading, hrn, c_1, b1, c_2, c_3, c8]), (by simp [M_reading, hrn, c_1, b1, c_2, c_3, c8])⟩, by rw [ht]; exact hP, va_K.moved hW.alike hK, hD⟩, hS.F ht⟩) hS.2.2 dX2_reading_33
    · skip
      rw [lin_inP _ _ 6 (by decide)] at c_2
      refine lv_iconst (v := (-1)) hx hb dX2_reading_20 (by decide) ?_
      exact W.iret (v := (-1)) hx hb hr (fun t ht hW => ⟨⟨(-1), (g, a), rfl, ⟨(by simp [M_reading, hrn, c_1, b1, c_2]), (by simp [M_reading, hrn, c_1, b1, c_2])⟩, by rw [ht]; exact hP, va_K.moved hW.alike hK, hD⟩, hS.F ht⟩) hS.2.2 dX2_reading_21
set_option maxHeartbeats 4000000 in
set_option maxRecDepth 100000 in
theorem metX2_back (l : Launch) (dC : Nat → ClassId) (dI : Nat → Nat → Nat) (ct : Nat → ClassId) (A : Nat → Prop) (ex : va_W) (o : Nat) (q : Nat → Nat) (g : Nat → Int32) (a : Nat → Nat → Int32) (x : Int32) (rn : Nat) (hr8 : rn ≤ 8) (hrn : g 21 = nI rn) : Met l yX2_back (ws_ yX2_back cX2_back 2 (some .int)) ({ frames := 1, cells := 0, slots := 0, locals := 25 }) (mPre dC dI ct A ex o q g a [.ref o, .int x]) (va_Qi (fun (r : Int32) (u : (Nat → Int32) × (Nat → Nat → Int32)) => r = ((M_back rn g a x)).1 ∧ u = ((M_back rn g a x)).2) (mB dC dI ct A ex o q) A) 0 0 A := by
  refine Met.ofW (cc := cX2_back) (maxL := 2) (ret := (some .int)) (by decide) rfl ?_
  intro p e s m args below meth c s₁ B hml hv
  obtain ⟨rfl, hP, hK, hD⟩ := hv
  have hx := B.exec
  have hb := B.bytes
  have hr := B.returns
  have hts := atoms_spec (ws := ws_ yX2_back cX2_back 2 (some .int)) B.pre
  have hts : ∀ w ∈ lw_all, w.before _ s = true := fun w h => hts w (List.mem_cons_of_mem _ h)
  have hown : s.vm.findClass RX2 = some m.cls := findClass_of_methodNamed B.named
  have hlocks := B.notSynchronized
  have hS : va_S A s.heap s.heap [] := va_S.rf
  have hl := lv_entry ([.ref o, .int x]) (n := 2) (Nat.le_of_ble_eq_true rfl)
  rw [lg_entry_eq]
  generalize (lg_sl ([.ref o, .int x]) ++ List.replicate (2 - (lg_sl ([.ref o, .int x])).length) Slot.unset).toArray = ls at hl ⊢
  have hl : lv_has ls 2 [(0, .ref o), (1, .int x)] := hl
  refine lv_iload_n hx hb dX2_back_0 rfl (lv_at hl 1 rfl) ?_
  refine lv_i2l (v := (Int32.toInt64 x)) hx hb dX2_back_1 rfl ?_
  refine lv_lconst (v := 0) hx hb dX2_back_2 (by decide) ?_
  refine lv_aload_n hx hb dX2_back_3 rfl (lv_at hl 0 rfl) ?_
  refine m_get (v := .int (g 21)) hx hb hts hown hK hP 21 (by decide) rfl q1005 rfl dX2_back_4 ?_
  refine lv_i2l (v := (Int32.toInt64 (g 21))) hx hb dX2_back_7 rfl ?_
  refine vp_callSi ((va_runS (As := [.long (Int32.toInt64 x), .long 0, .long (Int32.toInt64 (g 21))]) (rest := []) ⟨hx, hb, hml, hown, hts⟩ (metX2_in l (Int32.toInt64 x) 0 (Int32.toInt64 (g 21)) ) (va_cwS 3 hts (lw_S q1083 q1084 q74 q1085) rfl rfl rfl (by decide +kernel) ⟨Nat.le_of_ble_eq_true rfl, Nat.le_of_ble_eq_true rfl⟩) (pcS _) rfl rfl hl.1 rfl (lv_room (Nat.le_of_ble_eq_true rfl)) dX2_back_8 ⟨Nat.zero_le _, Nat.zero_le _⟩)).run (fun r hw => ?_)
  have hw : r = (b2i (lin (Int32.toInt64 x) 0 (Int32.toInt64 (g 21)))) := hw
  subst hw
  refine bz_ne (tgt := 17) hx hb dX2_back_11 (by decide) (fun c_1 => ?_) (fun c_1 => ?_)
  · skip
    rw [hrn, lin_read _ hr8] at c_1
    obtain ⟨ex0, hx8⟩ := inP_e (by omega) c_1
    have e1 : g 21 - x = nI (rn - cix x) := by rw [hrn, show x = nI (cix x) from ex0, cix_nI (by omega)]; exact pk_sub (by omega)
    refine lv_aload_n hx hb dX2_back_17 rfl (lv_at hl 0 rfl) ?_
    refine lv_dup hx hb dX2_back_18 rfl ?_
    refine m_get (v := .int (g 21)) hx hb hts hown hK hP 21 (by decide) rfl q1005 rfl dX2_back_19 ?_
    refine lv_iload_n hx hb dX2_back_22 rfl (lv_at hl 1 rfl) ?_
    refine lv_isub hx hb dX2_back_23 ?_
    refine m_put (v := ((g 21) - x)) hx hb hts hown hK hP hD hS 21 (by decide) rfl q1005 rfl rfl (by decide +kernel) dX2_back_24 (fun H locs hP hD hS => ?_)
    refine lv_aload_n hx hb dX2_back_27 rfl (lv_at hl 0 rfl) ?_
    refine m_get (v := .int ((g 21) - x)) hx hb hts hown hK hP 21 (by decide) rfl q1005 rfl dX2_back_28 ?_
    exact W.iret (v := ((g 21) - x)) hx hb hr (fun t ht hW => ⟨⟨((g 21) - x), ((upd g 21 ((g 21) - x)), a), rfl, ⟨(by rw [M_back, if_pos c_1]; exact e1), (by rw [M_back, if_pos c_1]; exact congrArg (fun z => (upd g 21 z, a)) e1)⟩, by rw [ht]; exact hP, va_K.moved hW.alike hK, hD⟩, hS.F ht⟩) hS.2.2 dX2_back_31
  · skip
    rw [hrn, lin_read _ hr8] at c_1
    refine lv_bipush (v := (-2)) hx hb dX2_back_14 (by decide) ?_
    exact W.iret (v := (-2)) hx hb hr (fun t ht hW => ⟨⟨(-2), (g, a), rfl, ⟨(by simp [M_back, c_1]), (by simp [M_back, c_1])⟩, by rw [ht]; exact hP, va_K.moved hW.alike hK, hD⟩, hS.F ht⟩) hS.2.2 dX2_back_16
