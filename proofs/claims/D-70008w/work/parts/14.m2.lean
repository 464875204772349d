/-! THE MODEL: loans, one by one -/
set_option maxHeartbeats 4000000 in
set_option maxRecDepth 100000 in
theorem metX2_lastsOf (l : Launch) (dC : Nat → ClassId) (dI : Nat → Nat → Nat) (ct : Nat → ClassId) (A : Nat → Prop) (ex : va_W) (o : Nat) (q : Nat → Nat) (g : Nat → Int32) (a : Nat → Nat → Int32) (x : Int32) (j : Nat) (hj : j < 6) (ej : x = nI j) : Met l yX2_lastsOf (ws_ yX2_lastsOf cX2_lastsOf 3 (some .int)) ({ frames := 0, cells := 0, slots := 0, locals := 0 }) (mPre dC dI ct A ex o q g a [.ref o, .int x]) (vp_Si (fun r => r = (lastsV ((a 2) j) ((a 5) j)))) 0 0 (fun _ => False) := by
  refine Met.ofW (cc := cX2_lastsOf) (maxL := 3) (ret := (some .int)) (by decide) rfl ?_
  intro p e s m args below meth c s₁ B hml hv
  obtain ⟨rfl, hP, hK, hD⟩ := hv
  have hx := B.exec
  have hb := B.bytes
  have hr := B.returns
  have hts := atoms_spec (ws := ws_ yX2_lastsOf cX2_lastsOf 3 (some .int)) B.pre
  have hts : ∀ w ∈ lw_all, w.before _ s = true := fun w h => hts w (List.mem_cons_of_mem _ h)
  have hown : s.vm.findClass RX2 = some m.cls := findClass_of_methodNamed B.named
  have hlocks := B.notSynchronized
  have hS : va_S A s.heap s.heap [] := va_S.rf
  have hl := lv_entry ([.ref o, .int x]) (n := 3) (Nat.le_of_ble_eq_true rfl)
  rw [lg_entry_eq]
  generalize (lg_sl ([.ref o, .int x]) ++ List.replicate (3 - (lg_sl ([.ref o, .int x])).length) Slot.unset).toArray = ls at hl ⊢
  have hl : lv_has ls 3 [(0, .ref o), (1, .int x)] := hl
  subst ej
  refine lv_aload_n hx hb dX2_lastsOf_0 rfl (lv_at hl 0 rfl) ?_
  refine m_get (v := .ref (q 5)) hx hb hts hown hK hP 5 (by decide) rfl q989 rfl dX2_lastsOf_1 ?_
  refine lv_iload_n hx hb dX2_lastsOf_4 rfl (lv_at hl 1 rfl) ?_
  refine m_ild hx hb hK hP (mWa5 _ _ _ _ _ _) (a 5) rfl j rfl (by omega) (by decide) dX2_lastsOf_5 ?_
  refine lv_istore_n (lv' := [(2, .int ((a 5) j)), (0, .ref o), (1, .int (nI j))]) hx hb dX2_lastsOf_6 rfl hl (by decide) rfl (fun ls hl => ?_)
  refine lv_aload_n hx hb dX2_lastsOf_7 rfl (lv_at hl 1 rfl) ?_
  refine m_get (v := .ref (q 2)) hx hb hts hown hK hP 2 (by decide) rfl q986 rfl dX2_lastsOf_8 ?_
  refine lv_iload_n hx hb dX2_lastsOf_11 rfl (lv_at hl 2 rfl) ?_
  refine m_ild hx hb hK hP (mWa2 _ _ _ _ _ _) (a 2) rfl j rfl (by omega) (by decide) dX2_lastsOf_12 ?_
  refine lv_if_ne (tgt := 20) hx hb dX2_lastsOf_13 (by decide) (fun c_1 => ?_) (fun c_1 => ?_)
  · skip
    refine lv_aload_n hx hb dX2_lastsOf_20 rfl (lv_at hl 1 rfl) ?_
    refine m_get (v := .ref (q 2)) hx hb hts hown hK hP 2 (by decide) rfl q986 rfl dX2_lastsOf_21 ?_
    refine lv_iload_n hx hb dX2_lastsOf_24 rfl (lv_at hl 2 rfl) ?_
    refine m_ild hx hb hK hP (mWa2 _ _ _ _ _ _) (a 2) rfl j rfl (by omega) (by decide) dX2_lastsOf_25 ?_
    refine lv_iconst (v := 1) hx hb dX2_lastsOf_26 (by decide) ?_
    refine lv_icmp_ne (tgt := 36) hx hb dX2_lastsOf_27 (by decide) (fun c_2 => ?_) (fun c_2 => ?_)
    · skip
      refine lv_iconst (v := 2) hx hb dX2_lastsOf_36 (by decide) ?_
      refine lv_iload_n hx hb dX2_lastsOf_37 rfl (lv_at hl 0 rfl) ?_
      refine lv_iconst (v := 1) hx hb dX2_lastsOf_38 (by decide) ?_
      refine lv_iadd hx hb dX2_lastsOf_39 ?_
      refine lv_imul hx hb dX2_lastsOf_40 ?_
      exact W.iret (v := (2 * (((a 5) j) + 1))) hx hb hr (fun t ht hW => ⟨(2 * (((a 5) j) + 1)), rfl, (by first | rfl | (simp [lastsV, c_1, c_2]; done)), ht⟩) (fun q h => by cases h) dX2_lastsOf_41
    · skip
      refine lv_iload_n hx hb dX2_lastsOf_30 rfl (lv_at hl 0 rfl) ?_
      refine lv_iconst (v := 1) hx hb dX2_lastsOf_31 (by decide) ?_
      refine lv_iadd hx hb dX2_lastsOf_32 ?_
      refine lv_goto (tgt := 41) hx hb dX2_lastsOf_33 (by decide) ?_
      exact W.iret (v := (((a 5) j) + 1)) hx hb hr (fun t ht hW => ⟨(((a 5) j) + 1), rfl, (by first | rfl | (simp [lastsV, c_1, c_2]; done)), ht⟩) (fun q h => by cases h) dX2_lastsOf_41
  · skip
    refine lv_iload_n hx hb dX2_lastsOf_16 rfl (lv_at hl 0 rfl) ?_
    refine lv_goto (tgt := 41) hx hb dX2_lastsOf_17 (by decide) ?_
    exact W.iret (v := ((a 5) j)) hx hb hr (fun t ht hW => ⟨((a 5) j), rfl, (by first | rfl | (simp [lastsV, c_1]; done)), ht⟩) (fun q h => by cases h) dX2_lastsOf_41
set_option maxHeartbeats 4000000 in
set_option maxRecDepth 100000 in
theorem metX2_isMended (l : Launch) (dC : Nat → ClassId) (dI : Nat → Nat → Nat) (ct : Nat → ClassId) (A : Nat → Prop) (ex : va_W) (o : Nat) (q : Nat → Nat) (g : Nat → Int32) (a : Nat → Nat → Int32) (x : Int32) (j : Nat) (hj : j < 6) (ej : x = nI j) : Met l yX2_isMended (ws_ yX2_isMended cX2_isMended 2 (some .boolean)) ({ frames := 1, cells := 0, slots := 0, locals := 21 }) (mPre dC dI ct A ex o q g a [.ref o, .int x]) (vp_Si (fun r => r = (b2i (isMend ((a 4) j) ((a 15) j))))) 0 0 (fun _ => False) := by
  refine Met.ofW (cc := cX2_isMended) (maxL := 2) (ret := (some .boolean)) (by decide) rfl ?_
  intro p e s m args below meth c s₁ B hml hv
  obtain ⟨rfl, hP, hK, hD⟩ := hv
  have hx := B.exec
  have hb := B.bytes
  have hr := B.returns
  have hts := atoms_spec (ws := ws_ yX2_isMended cX2_isMended 2 (some .boolean)) B.pre
  have hts : ∀ w ∈ lw_all, w.before _ s = true := fun w h => hts w (List.mem_cons_of_mem _ h)
  have hown : s.vm.findClass RX2 = some m.cls := findClass_of_methodNamed B.named
  have hlocks := B.notSynchronized
  have hS : va_S A s.heap s.heap [] := va_S.rf
  have hl := lv_entry ([.ref o, .int x]) (n := 2) (Nat.le_of_ble_eq_true rfl)
  rw [lg_entry_eq]
  generalize (lg_sl ([.ref o, .int x]) ++ List.replicate (2 - (lg_sl ([.ref o, .int x])).length) Slot.unset).toArray = ls at hl ⊢
  have hl : lv_has ls 2 [(0, .ref o), (1, .int x)] := hl
  subst ej
  refine lv_aload_n hx hb dX2_isMended_0 rfl (lv_at hl 0 rfl) ?_
  refine m_get (v := .ref (q 4)) hx hb hts hown hK hP 4 (by decide) rfl q988 rfl dX2_isMended_1 ?_
  refine lv_iload_n hx hb dX2_isMended_4 rfl (lv_at hl 1 rfl) ?_
  refine m_ild hx hb hK hP (mWa4 _ _ _ _ _ _) (a 4) rfl j rfl (by omega) (by decide) dX2_isMended_5 ?_
  refine lv_bipush (v := 6) hx hb dX2_isMended_6 (by decide) ?_
  refine lv_icmp_eq (tgt := 29) hx hb dX2_isMended_8 (by decide) (fun c_1 => ?_) (fun c_1 => ?_)
  · skip
    refine lv_iconst (v := 1) hx hb dX2_isMended_29 (by decide) ?_
    refine lv_goto (tgt := 34) hx hb dX2_isMended_30 (by decide) ?_
    exact W.zret (v := 1) hx hb hr rfl (fun t ht hW => ⟨1, rfl, (by first | rfl | (simp [isMend, b2i, c_1]; done)), ht⟩) (fun q h => by cases h) dX2_isMended_34
  · skip
    refine lv_aload_n hx hb dX2_isMended_11 rfl (lv_at hl 0 rfl) ?_
    refine m_get (v := .ref (q 15)) hx hb hts hown hK hP 15 (by decide) rfl q999 rfl dX2_isMended_12 ?_
    refine lv_iload_n hx hb dX2_isMended_15 rfl (lv_at hl 1 rfl) ?_
    refine m_ild hx hb hK hP (mWa15 _ _ _ _ _ _) (a 15) rfl j rfl (by omega) (by decide) dX2_isMended_16 ?_
    refine lv_aload_n hx hb dX2_isMended_17 rfl (lv_at hl 0 rfl) ?_
    refine m_get (v := .ref (q 4)) hx hb hts hown hK hP 4 (by decide) rfl q988 rfl dX2_isMended_18 ?_
    refine lv_iload_n hx hb dX2_isMended_21 rfl (lv_at hl 1 rfl) ?_
    refine m_ild hx hb hK hP (mWa4 _ _ _ _ _ _) (a 4) rfl j rfl (by omega) (by decide) dX2_isMended_22 ?_
    refine vp_callSi ((va_runS (As := [.int ((a 15) j), .int ((a 4) j)]) (rest := []) ⟨hx, hb, hml, hown, hts⟩ (metX2_isIn l ((a 15) j) ((a 4) j) ) (va_cwS 2 hts (lw_S q1166 q1167 q74 q1168) rfl rfl rfl (by decide +kernel) ⟨Nat.le_of_ble_eq_true rfl, Nat.le_of_ble_eq_true rfl⟩) (pcS _) rfl rfl hl.1 rfl (lv_room (Nat.le_of_ble_eq_true rfl)) dX2_isMended_23 ⟨Nat.zero_le _, Nat.zero_le _⟩)).run (fun r hw => ?_)
    have hw : r = (b2i (bq ((a 15) j) ((a 4) j))) := hw
    subst hw
    refine bz_eq (tgt := 33) hx hb dX2_isMended_26 (by decide) (fun c_2 => ?_) (fun c_2 => ?_)
    · skip
      refine lv_iconst (v := 0) hx hb dX2_isMended_33 (by decide) ?_
      exact W.zret (v := 0) hx hb hr rfl (fun t ht hW => ⟨0, rfl, (by first | rfl | (simp [isMend, b2i, c_1, c_2]; done)), ht⟩) (fun q h => by cases h) dX2_isMended_34
    · skip
      refine lv_iconst (v := 1) hx hb dX2_isMended_29 (by decide) ?_
      refine lv_goto (tgt := 34) hx hb dX2_isMended_30 (by decide) ?_
      exact W.zret (v := 1) hx hb hr rfl (fun t ht hW => ⟨1, rfl, (by first | rfl | (simp [isMend, b2i, c_1, c_2]; done)), ht⟩) (fun q h => by cases h) dX2_isMended_34
set_option maxHeartbeats 4000000 in
set_option maxRecDepth 100000 in
theorem metX2_mendedNow (l : Launch) (dC : Nat → ClassId) (dI : Nat → Nat → Nat) (ct : Nat → ClassId) (A : Nat → Prop) (ex : va_W) (o : Nat) (q : Nat → Nat) (g : Nat → Int32) (a : Nat → Nat → Int32)  (n : Nat) (hn6 : n ≤ 6) (hn : g 1 = nI n) : Met l yX2_mendedNow (ws_ yX2_mendedNow cX2_mendedNow 3 (some .int)) ({ frames := 2, cells := 0, slots := 0, locals := 42 }) (mPre dC dI ct A ex o q g a [.ref o]) (vp_Si (fun r => r = (mset (fun p => isMend ((a 4) p) ((a 15) p)) n))) 0 0 (fun _ => False) := by
  refine Met.ofW (cc := cX2_mendedNow) (maxL := 3) (ret := (some .int)) (by decide) rfl ?_
  intro p e s m args below meth c s₁ B hml hv
  obtain ⟨rfl, hP, hK, hD⟩ := hv
  have hx := B.exec
  have hb := B.bytes
  have hr := B.returns
  have hts := atoms_spec (ws := ws_ yX2_mendedNow cX2_mendedNow 3 (some .int)) B.pre
  have hts : ∀ w ∈ lw_all, w.before _ s = true := fun w h => hts w (List.mem_cons_of_mem _ h)
  have hown : s.vm.findClass RX2 = some m.cls := findClass_of_methodNamed B.named
  have hlocks := B.notSynchronized
  have hS : va_S A s.heap s.heap [] := va_S.rf
  have hl := lv_entry ([.ref o]) (n := 3) (Nat.le_of_ble_eq_true rfl)
  rw [lg_entry_eq]
  generalize (lg_sl ([.ref o]) ++ List.replicate (3 - (lg_sl ([.ref o])).length) Slot.unset).toArray = ls at hl ⊢
  have hl : lv_has ls 3 [(0, .ref o)] := hl
  refine lv_iconst (v := 0) hx hb dX2_mendedNow_0 (by decide) ?_
  refine lv_istore_n (lv' := [(1, .int 0), (0, .ref o)]) hx hb dX2_mendedNow_1 rfl hl (by decide) rfl (fun ls hl => ?_)
  refine lv_iconst (v := 0) hx hb dX2_mendedNow_2 (by decide) ?_
  refine lv_istore_n (lv' := [(2, .int 0), (1, .int 0), (0, .ref o)]) hx hb dX2_mendedNow_3 rfl hl (by decide) rfl (fun ls hl => ?_)
  have loop1 : ∀ (f1 : Nat) (i : Nat), i ≤ n → n + 1 ≤ i + f1 → ∀ (ls : Array Slot), lv_has ls 3 [(2, .int (nI i)), (1, .int (mset (fun p => isMend ((a 4) p) ((a 15) p)) i)), (0, .ref o)] → W p l e (headSpec (ws_ yX2_mendedNow cX2_mendedNow 3 (some .int)) ({ frames := 2, cells := 0, slots := 0, locals := 42 })).room s m ([.ref o] : List Value).toArray below meth c s.heap [] 0 0 (MQ below (vp_Si (fun r => r = (mset (fun p => isMend ((a 4) p) ((a 15) p)) n))) ([.ref o] : List Value).toArray s 0 0 (fun _ => False)) (F0 m 4 ls []) := by
    intro f1
    induction f1 with
    | zero => intro i hi hf; exact False.elim (by omega)
    | succ f1 ih1 =>
      intro i hi hf ls hl
      refine lv_iload_n hx hb dX2_mendedNow_4 rfl (lv_at hl 0 rfl) ?_
      refine lv_aload_n hx hb dX2_mendedNow_5 rfl (lv_at hl 2 rfl) ?_
      refine m_get (v := .int (g 1)) hx hb hts hown hK hP 1 (by decide) rfl q985 rfl dX2_mendedNow_6 ?_
      refine lv_icmp_ge (tgt := 36) hx hb dX2_mendedNow_9 (by decide) (fun c_1 => ?_) (fun c_1 => ?_)
      · skip
        have ei : i = n := by rw [hn] at c_1; exact Nat.le_antisymm hi ((nI_leI (by omega) (by omega)).mp c_1)
        refine lv_iload_n hx hb dX2_mendedNow_36 rfl (lv_at hl 1 rfl) ?_
        exact W.iret (v := (mset (fun p => isMend ((a 4) p) ((a 15) p)) i)) hx hb hr (fun t ht hW => ⟨(mset (fun p => isMend ((a 4) p) ((a 15) p)) i), rfl, (by rw [ei]), ht⟩) (fun q h => by cases h) dX2_mendedNow_37
      · skip
        have hlt : i < n := by rw [hn] at c_1; exact Nat.lt_of_not_le (fun z => c_1 ((nI_leI (by omega) (by omega)).mpr z))
        refine lv_iload_n hx hb dX2_mendedNow_12 rfl (lv_at hl 1 rfl) ?_
        refine lv_aload_n hx hb dX2_mendedNow_13 rfl (lv_at hl 2 rfl) ?_
        refine lv_iload_n hx hb dX2_mendedNow_14 rfl (lv_at hl 0 rfl) ?_
        refine vp_callSi ((va_runV (As := [.int (nI i)]) (rest := [.int (mset (fun p => isMend ((a 4) p) ((a 15) p)) i)]) ⟨hx, hb, hml, hown, hts⟩ (metX2_isMended l dC dI ct A ex o q g a (nI i) i (by omega) rfl) (cwV 1 hts (lw_V q1173 q1175 qs55 q74 q1176) rfl rfl rfl (by decide +kernel) ⟨Nat.le_of_ble_eq_true rfl, Nat.le_of_ble_eq_true rfl⟩) (mPV hK hP hD _) rfl rfl hl.1 rfl (lv_room (Nat.le_of_ble_eq_true rfl)) dX2_mendedNow_15 ⟨Nat.zero_le _, Nat.zero_le _⟩)).run (fun r hw => ?_)
        have hw : r = (b2i (isMend ((a 4) i) ((a 15) i))) := hw
        subst hw
        refine bz_eq (tgt := 27) hx hb dX2_mendedNow_18 (by decide) (fun c_2 => ?_) (fun c_2 => ?_)
        · skip
          refine lv_iconst (v := 0) hx hb dX2_mendedNow_27 (by decide) ?_
          refine lv_ior hx hb dX2_mendedNow_28 ?_
          rw [mset_f (f := fun p => isMend ((a 4) p) ((a 15) p)) c_2]
          refine lv_istore_n (lv' := [(1, .int (mset (fun p => isMend ((a 4) p) ((a 15) p)) (i + 1))), (2, .int (nI i)), (0, .ref o)]) hx hb dX2_mendedNow_29 rfl hl (by decide) rfl (fun ls hl => ?_)
          refine lv_iinc (v := (nI (i + 1))) (lv' := [(2, .int (nI (i + 1))), (1, .int (mset (fun p => isMend ((a 4) p) ((a 15) p)) (i + 1))), (0, .ref o)]) hx hb dX2_mendedNow_30 hl (k := 1) rfl (nI_1 i) (by decide) rfl (fun ls hl => ?_)
          refine lv_goto (tgt := 4) hx hb dX2_mendedNow_33 (by decide) ?_
          exact ih1 (i + 1) (by omega) (by omega) _ (lv_sub hl [0, 1, 2] rfl)
        · skip
          refine lv_iconst (v := 1) hx hb dX2_mendedNow_21 (by decide) ?_
          refine lv_iload_n hx hb dX2_mendedNow_22 rfl (lv_at hl 0 rfl) ?_
          refine lv_ishl hx hb dX2_mendedNow_23 ?_
          refine lv_goto (tgt := 28) hx hb dX2_mendedNow_24 (by decide) ?_
          refine lv_ior hx hb dX2_mendedNow_28 ?_
          rw [mset_t (f := fun p => isMend ((a 4) p) ((a 15) p)) c_2]
          refine lv_istore_n (lv' := [(1, .int (mset (fun p => isMend ((a 4) p) ((a 15) p)) (i + 1))), (2, .int (nI i)), (0, .ref o)]) hx hb dX2_mendedNow_29 rfl hl (by decide) rfl (fun ls hl => ?_)
          refine lv_iinc (v := (nI (i + 1))) (lv' := [(2, .int (nI (i + 1))), (1, .int (mset (fun p => isMend ((a 4) p) ((a 15) p)) (i + 1))), (0, .ref o)]) hx hb dX2_mendedNow_30 hl (k := 1) rfl (nI_1 i) (by decide) rfl (fun ls hl => ?_)
          refine lv_goto (tgt := 4) hx hb dX2_mendedNow_33 (by decide) ?_
          exact ih1 (i + 1) (by omega) (by omega) _ (lv_sub hl [0, 1, 2] rfl)
  exact loop1 (n + 1) 0 (by omega) (by omega) _ (lv_sub hl [0, 1, 2] rfl)
set_option maxHeartbeats 4000000 in
set_option maxRecDepth 100000 in
theorem metX2_sees (l : Launch) (dC : Nat → ClassId) (dI : Nat → Nat → Nat) (ct : Nat → ClassId) (A : Nat → Prop) (ex : va_W) (o : Nat) (q : Nat → Nat) (g : Nat → Int32) (a : Nat → Nat → Int32) (x : Int32) (n j : Nat) (hn6 : n ≤ 6) (hj : j < n) (ej : x = nI j) (hh : hasOk n (a 12)) : Met l yX2_sees (ws_ yX2_sees cX2_sees 3 none) ({ frames := 1, cells := 0, slots := 0, locals := 21 }) (mPre dC dI ct A ex o q g a [.ref o, .int x]) (va_Qv (fun (u : (Nat → Int32) × (Nat → Nat → Int32)) => u = (g, (va_up (va_up a 15 ((lsee (fuM (a 4)) j ((a 12), (a 13), (a 14), (a 15), (a 16))).2.2.2.1)) 16 ((lsee (fuM (a 4)) j ((a 12), (a 13), (a 14), (a 15), (a 16))).2.2.2.2)))) (mB dC dI ct A ex o q) A) 0 0 A := by
  refine Met.ofW (cc := cX2_sees) (maxL := 3) (ret := none) (by decide) rfl ?_
  intro p e s m args below meth c s₁ B hml hv
  obtain ⟨rfl, hP, hK, hD⟩ := hv
  have hx := B.exec
  have hb := B.bytes
  have hr := B.returns
  have hts := atoms_spec (ws := ws_ yX2_sees cX2_sees 3 none) B.pre
  have hts : ∀ w ∈ lw_all, w.before _ s = true := fun w h => hts w (List.mem_cons_of_mem _ h)
  have hown : s.vm.findClass RX2 = some m.cls := findClass_of_methodNamed B.named
  have hlocks := B.notSynchronized
  have hS : va_S A s.heap s.heap [] := va_S.rf
  have hl := lv_entry ([.ref o, .int x]) (n := 3) (Nat.le_of_ble_eq_true rfl)
  rw [lg_entry_eq]
  generalize (lg_sl ([.ref o, .int x]) ++ List.replicate (3 - (lg_sl ([.ref o, .int x])).length) Slot.unset).toArray = ls at hl ⊢
  have hl : lv_has ls 3 [(0, .ref o), (1, .int x)] := hl
  subst ej
  refine lv_aload_n hx hb dX2_sees_0 rfl (lv_at hl 0 rfl) ?_
  refine m_get (v := .ref (q 12)) hx hb hts hown hK hP 12 (by decide) rfl q996 rfl dX2_sees_1 ?_
  refine lv_iload_n hx hb dX2_sees_4 rfl (lv_at hl 1 rfl) ?_
  refine m_ild hx hb hK hP (mWa12 _ _ _ _ _ _) (a 12) rfl j rfl (by omega) (by decide) dX2_sees_5 ?_
  refine lv_istore_n (lv' := [(2, .int ((a 12) j)), (0, .ref o), (1, .int (nI j))]) hx hb dX2_sees_6 rfl hl (by decide) rfl (fun ls hl => ?_)
  refine lv_aload_n hx hb dX2_sees_7 rfl (lv_at hl 1 rfl) ?_
  refine m_get (v := .ref (q 15)) hx hb hts hown hK hP 15 (by decide) rfl q999 rfl dX2_sees_8 ?_
  refine lv_iload_n hx hb dX2_sees_11 rfl (lv_at hl 2 rfl) ?_
  refine lv_dup2_11 hx hb dX2_sees_12 rfl rfl ?_
  refine m_ild hx hb hK hP (mWa15 _ _ _ _ _ _) (a 15) rfl j rfl (by omega) (by decide) dX2_sees_13 ?_
  refine lv_aload_n hx hb dX2_sees_14 rfl (lv_at hl 1 rfl) ?_
  refine m_get (v := .ref (q 13)) hx hb hts hown hK hP 13 (by decide) rfl q997 rfl dX2_sees_15 ?_
  refine lv_iload_n hx hb dX2_sees_18 rfl (lv_at hl 0 rfl) ?_
  refine m_ild hx hb hK hP (mWa13 _ _ _ _ _ _) (a 13) rfl (cix (a 12 j)) (hh j hj).1 (Nat.lt_of_lt_of_le (hh j hj).2 hn6) (by decide) dX2_sees_19 ?_
  refine lv_ior hx hb dX2_sees_20 ?_
  refine m_ist (x := (((a 15) j) ||| ((a 13) (cix (a 12 j))))) hx hb hK hP hD hS (mWa15 _ _ _ _ _ _) (mWs15 _ _ _ _ _ _) (a 15) rfl j rfl (by omega) (by decide) dX2_sees_21 (fun H locs hP hD hS => ?_)
  refine lv_aload_n hx hb dX2_sees_22 rfl (lv_at hl 1 rfl) ?_
  refine m_get (v := .ref (q 16)) hx hb hts hown hK hP 16 (by decide) rfl q1000 rfl dX2_sees_23 ?_
  refine lv_iload_n hx hb dX2_sees_26 rfl (lv_at hl 2 rfl) ?_
  refine lv_dup2_11 hx hb dX2_sees_27 rfl rfl ?_
  refine m_ild hx hb hK hP (mWa16 _ _ _ _ _ _) (a 16) rfl j rfl (by omega) (by decide) dX2_sees_28 ?_
  refine lv_aload_n hx hb dX2_sees_29 rfl (lv_at hl 1 rfl) ?_
  refine m_get (v := .ref (q 13)) hx hb hts hown hK hP 13 (by decide) rfl q997 rfl dX2_sees_30 ?_
  refine lv_iload_n hx hb dX2_sees_33 rfl (lv_at hl 0 rfl) ?_
  refine m_ild hx hb hK hP (mWa13 _ _ _ _ _ _) (a 13) rfl (cix (a 12 j)) (hh j hj).1 (Nat.lt_of_lt_of_le (hh j hj).2 hn6) (by decide) dX2_sees_34 ?_
  refine lv_aload_n hx hb dX2_sees_35 rfl (lv_at hl 1 rfl) ?_
  refine m_get (v := .ref (q 4)) hx hb hts hown hK hP 4 (by decide) rfl q988 rfl dX2_sees_36 ?_
  refine lv_iload_n hx hb dX2_sees_39 rfl (lv_at hl 2 rfl) ?_
  refine m_ild hx hb hK hP (mWa4 _ _ _ _ _ _) (a 4) rfl j rfl (by omega) (by decide) dX2_sees_40 ?_
  refine vp_callSi ((va_runS (As := [.int ((a 13) (cix (a 12 j))), .int ((a 4) j)]) (rest := [.int ((a 16) j), .int (nI j), .ref (q 16)]) ⟨hx, hb, hml, hown, hts⟩ (metX2_isIn l ((a 13) (cix (a 12 j))) ((a 4) j) ) (va_cwS 2 hts (lw_S q1166 q1167 q74 q1168) rfl rfl rfl (by decide +kernel) ⟨Nat.le_of_ble_eq_true rfl, Nat.le_of_ble_eq_true rfl⟩) (pcS _) rfl rfl hl.1 rfl (lv_room (Nat.le_of_ble_eq_true rfl)) dX2_sees_41 ⟨Nat.zero_le _, Nat.zero_le _⟩)).run (fun r hw => ?_)
  have hw : r = (b2i (bq ((a 13) (cix (a 12 j))) ((a 4) j))) := hw
  subst hw
  refine bz_eq (tgt := 53) hx hb dX2_sees_44 (by decide) (fun c_1 => ?_) (fun c_1 => ?_)
  · skip
    refine lv_iconst (v := 0) hx hb dX2_sees_53 (by decide) ?_
    refine lv_ior hx hb dX2_sees_54 ?_
    refine m_ist (x := (((a 16) j) ||| 0)) hx hb hK hP hD hS (mWa16 _ _ _ _ _ _) (mWs16 _ _ _ _ _ _) (a 16) rfl j rfl (by omega) (by decide) dX2_sees_55 (fun H locs hP hD hS => ?_)
    exact W.vret hx hb hr (fun t ht hW => ⟨⟨(g, (va_up (va_up a 15 (upd (a 15) j (((a 15) j) ||| ((a 13) (cix (a 12 j)))))) 16 (upd (a 16) j (((a 16) j) ||| 0)))), rfl, (by simp only [lsee, fuM, c_1, if_true, if_false, reduceIte, Bool.false_eq_true]), by rw [ht]; exact hP, va_K.moved hW.alike hK, hD⟩, hS.F ht⟩) hS.2.2 dX2_sees_56
  · skip
    refine lv_iconst (v := 1) hx hb dX2_sees_47 (by decide) ?_
    refine lv_iload_n hx hb dX2_sees_48 rfl (lv_at hl 0 rfl) ?_
    refine lv_ishl hx hb dX2_sees_49 ?_
    refine lv_goto (tgt := 54) hx hb dX2_sees_50 (by decide) ?_
    refine lv_ior hx hb dX2_sees_54 ?_
    refine m_ist (x := (((a 16) j) ||| (1 <<< (((a 12) j) &&& 31)))) hx hb hK hP hD hS (mWa16 _ _ _ _ _ _) (mWs16 _ _ _ _ _ _) (a 16) rfl j rfl (by omega) (by decide) dX2_sees_55 (fun H locs hP hD hS => ?_)
    exact W.vret hx hb hr (fun t ht hW => ⟨⟨(g, (va_up (va_up a 15 (upd (a 15) j (((a 15) j) ||| ((a 13) (cix (a 12 j)))))) 16 (upd (a 16) j (((a 16) j) ||| (1 <<< (((a 12) j) &&& 31)))))), rfl, (by simp only [lsee, fuM, c_1, if_true, if_false, reduceIte, Bool.false_eq_true]), by rw [ht]; exact hP, va_K.moved hW.alike hK, hD⟩, hS.F ht⟩) hS.2.2 dX2_sees_56
set_option maxHeartbeats 4000000 in
set_option maxRecDepth 100000 in
theorem metX2_canLend (l : Launch) (dC : Nat → ClassId) (dI : Nat → Nat → Nat) (ct : Nat → ClassId) (A : Nat → Prop) (ex : va_W) (o : Nat) (q : Nat → Nat) (g : Nat → Int32) (a : Nat → Nat → Int32) (x : Int32) (y : Int32) (n i j : Nat) (hn6 : n ≤ 6) (hi : i < n) (hj : j < n) (ei : x = nI i) (ej : y = nI j) (hh : hasOk n (a 12)) : Met l yX2_canLend (ws_ yX2_canLend cX2_canLend 3 (some .boolean)) ({ frames := 0, cells := 0, slots := 0, locals := 0 }) (mPre dC dI ct A ex o q g a [.ref o, .int x, .int y]) (vp_Si (fun r => r = (b2i (lcan i j ((a 12), (a 13), (a 14), (a 15), (a 16)))))) 0 0 (fun _ => False) := by
  refine Met.ofW (cc := cX2_canLend) (maxL := 3) (ret := (some .boolean)) (by decide) rfl ?_
  intro p e s m args below meth c s₁ B hml hv
  obtain ⟨rfl, hP, hK, hD⟩ := hv
  have hx := B.exec
  have hb := B.bytes
  have hr := B.returns
  have hts := atoms_spec (ws := ws_ yX2_canLend cX2_canLend 3 (some .boolean)) B.pre
  have hts : ∀ w ∈ lw_all, w.before _ s = true := fun w h => hts w (List.mem_cons_of_mem _ h)
  have hown : s.vm.findClass RX2 = some m.cls := findClass_of_methodNamed B.named
  have hlocks := B.notSynchronized
  have hS : va_S A s.heap s.heap [] := va_S.rf
  have hl := lv_entry ([.ref o, .int x, .int y]) (n := 3) (Nat.le_of_ble_eq_true rfl)
  rw [lg_entry_eq]
  generalize (lg_sl ([.ref o, .int x, .int y]) ++ List.replicate (3 - (lg_sl ([.ref o, .int x, .int y])).length) Slot.unset).toArray = ls at hl ⊢
  have hl : lv_has ls 3 [(0, .ref o), (1, .int x), (2, .int y)] := hl
  subst ei
  subst ej
  refine lv_iload_n hx hb dX2_canLend_0 rfl (lv_at hl 1 rfl) ?_
  refine lv_iload_n hx hb dX2_canLend_1 rfl (lv_at hl 2 rfl) ?_
  refine lv_icmp_eq (tgt := 37) hx hb dX2_canLend_2 (by decide) (fun c_1 => ?_) (fun c_1 => ?_)
  · skip
    have c_1 : i = j := (nI_eq (by omega) (by omega)).mp c_1
    refine lv_iconst (v := 0) hx hb dX2_canLend_37 (by decide) ?_
    exact W.zret (v := 0) hx hb hr rfl (fun t ht hW => ⟨0, rfl, (by first | rfl | (simp [lcan, b2i, c_1]; done)), ht⟩) (fun q h => by cases h) dX2_canLend_38
  · skip
    have c_1 : ¬ i = j := fun z => c_1 (by rw [z])
    refine lv_aload_n hx hb dX2_canLend_5 rfl (lv_at hl 0 rfl) ?_
    refine m_get (v := .ref (q 13)) hx hb hts hown hK hP 13 (by decide) rfl q997 rfl dX2_canLend_6 ?_
    refine lv_aload_n hx hb dX2_canLend_9 rfl (lv_at hl 0 rfl) ?_
    refine m_get (v := .ref (q 12)) hx hb hts hown hK hP 12 (by decide) rfl q996 rfl dX2_canLend_10 ?_
    refine lv_iload_n hx hb dX2_canLend_13 rfl (lv_at hl 1 rfl) ?_
    refine m_ild hx hb hK hP (mWa12 _ _ _ _ _ _) (a 12) rfl i rfl (by omega) (by decide) dX2_canLend_14 ?_
    refine m_ild hx hb hK hP (mWa13 _ _ _ _ _ _) (a 13) rfl (cix (a 12 i)) (hh i hi).1 (Nat.lt_of_lt_of_le (hh i hi).2 hn6) (by decide) dX2_canLend_15 ?_
    refine lv_if_eq (tgt := 37) hx hb dX2_canLend_16 (by decide) (fun c_2 => ?_) (fun c_2 => ?_)
    · skip
      refine lv_iconst (v := 0) hx hb dX2_canLend_37 (by decide) ?_
      exact W.zret (v := 0) hx hb hr rfl (fun t ht hW => ⟨0, rfl, (by first | rfl | (simp [lcan, b2i, c_1, c_2]; done)), ht⟩) (fun q h => by cases h) dX2_canLend_38
    · skip
      refine lv_aload_n hx hb dX2_canLend_19 rfl (lv_at hl 0 rfl) ?_
      refine m_get (v := .ref (q 13)) hx hb hts hown hK hP 13 (by decide) rfl q997 rfl dX2_canLend_20 ?_
      refine lv_aload_n hx hb dX2_canLend_23 rfl (lv_at hl 0 rfl) ?_
      refine m_get (v := .ref (q 12)) hx hb hts hown hK hP 12 (by decide) rfl q996 rfl dX2_canLend_24 ?_
      refine lv_iload_n hx hb dX2_canLend_27 rfl (lv_at hl 2 rfl) ?_
      refine m_ild hx hb hK hP (mWa12 _ _ _ _ _ _) (a 12) rfl j rfl (by omega) (by decide) dX2_canLend_28 ?_
      refine m_ild hx hb hK hP (mWa13 _ _ _ _ _ _) (a 13) rfl (cix (a 12 j)) (hh j hj).1 (Nat.lt_of_lt_of_le (hh j hj).2 hn6) (by decide) dX2_canLend_29 ?_
      refine lv_if_eq (tgt := 37) hx hb dX2_canLend_30 (by decide) (fun c_3 => ?_) (fun c_3 => ?_)
      · skip
        refine lv_iconst (v := 0) hx hb dX2_canLend_37 (by decide) ?_
        exact W.zret (v := 0) hx hb hr rfl (fun t ht hW => ⟨0, rfl, (by first | rfl | (simp [lcan, b2i, c_1, c_2, c_3]; done)), ht⟩) (fun q h => by cases h) dX2_canLend_38
      · skip
        refine lv_iconst (v := 1) hx hb dX2_canLend_33 (by decide) ?_
        refine lv_goto (tgt := 38) hx hb dX2_canLend_34 (by decide) ?_
        exact W.zret (v := 1) hx hb hr rfl (fun t ht hW => ⟨1, rfl, (by first | rfl | (simp [lcan, b2i, c_1, c_2, c_3]; done)), ht⟩) (fun q h => by cases h) dX2_canLend_38
set_option maxHeartbeats 4000000 in
set_option maxRecDepth 100000 in
theorem metX2_wearsOff (l : Launch) (dC : Nat → ClassId) (dI : Nat → Nat → Nat) (ct : Nat → ClassId) (A : Nat → Prop) (ex : va_W) (o : Nat) (q : Nat → Nat) (g : Nat → Int32) (a : Nat → Nat → Int32) (x : Int32) (j : Nat) (hj : j < 6) (ej : x = nI j) : Met l yX2_wearsOff (ws_ yX2_wearsOff cX2_wearsOff 2 none) ({ frames := 1, cells := 0, slots := 0, locals := 22 }) (mPre dC dI ct A ex o q g a [.ref o, .int x]) (va_Qv (fun (u : (Nat → Int32) × (Nat → Nat → Int32)) => u = (g, (va_up (va_up a 13 ((lwear (fun c => lastsV ((a 2) c) ((a 5) c)) j ((a 12), (a 13), (a 14), (a 15), (a 16))).2.1)) 14 ((lwear (fun c => lastsV ((a 2) c) ((a 5) c)) j ((a 12), (a 13), (a 14), (a 15), (a 16))).2.2.1)))) (mB dC dI ct A ex o q) A) 0 0 A := by
  refine Met.ofW (cc := cX2_wearsOff) (maxL := 2) (ret := none) (by decide) rfl ?_
  intro p e s m args below meth c s₁ B hml hv
  obtain ⟨rfl, hP, hK, hD⟩ := hv
  have hx := B.exec
  have hb := B.bytes
  have hr := B.returns
  have hts := atoms_spec (ws := ws_ yX2_wearsOff cX2_wearsOff 2 none) B.pre
  have hts : ∀ w ∈ lw_all, w.before _ s = true := fun w h => hts w (List.mem_cons_of_mem _ h)
  have hown : s.vm.findClass RX2 = some m.cls := findClass_of_methodNamed B.named
  have hlocks := B.notSynchronized
  have hS : va_S A s.heap s.heap [] := va_S.rf
  have hl := lv_entry ([.ref o, .int x]) (n := 2) (Nat.le_of_ble_eq_true rfl)
  rw [lg_entry_eq]
  generalize (lg_sl ([.ref o, .int x]) ++ List.replicate (2 - (lg_sl ([.ref o, .int x])).length) Slot.unset).toArray = ls at hl ⊢
  have hl : lv_has ls 2 [(0, .ref o), (1, .int x)] := hl
  subst ej
  refine lv_aload_n hx hb dX2_wearsOff_0 rfl (lv_at hl 0 rfl) ?_
  refine m_get (v := .ref (q 14)) hx hb hts hown hK hP 14 (by decide) rfl q998 rfl dX2_wearsOff_1 ?_
  refine lv_iload_n hx hb dX2_wearsOff_4 rfl (lv_at hl 1 rfl) ?_
  refine lv_dup2_11 hx hb dX2_wearsOff_5 rfl rfl ?_
  refine m_ild hx hb hK hP (mWa14 _ _ _ _ _ _) (a 14) rfl j rfl (by omega) (by decide) dX2_wearsOff_6 ?_
  refine lv_iconst (v := 1) hx hb dX2_wearsOff_7 (by decide) ?_
  refine lv_iadd hx hb dX2_wearsOff_8 ?_
  refine m_ist (x := (((a 14) j) + 1)) hx hb hK hP hD hS (mWa14 _ _ _ _ _ _) (mWs14 _ _ _ _ _ _) (a 14) rfl j rfl (by omega) (by decide) dX2_wearsOff_9 (fun H locs hP hD hS => ?_)
  refine lv_aload_n hx hb dX2_wearsOff_10 rfl (lv_at hl 0 rfl) ?_
  refine m_get (v := .ref (q 14)) hx hb hts hown hK hP 14 (by decide) rfl q998 rfl dX2_wearsOff_11 ?_
  refine lv_iload_n hx hb dX2_wearsOff_14 rfl (lv_at hl 1 rfl) ?_
  refine m_ild hx hb hK hP (mWa14 _ _ _ _ _ _) (upd (a 14) j (((a 14) j) + 1)) rfl j rfl (by omega) (by decide) dX2_wearsOff_15 ?_
  refine lv_aload_n hx hb dX2_wearsOff_16 rfl (lv_at hl 0 rfl) ?_
  refine lv_iload_n hx hb dX2_wearsOff_17 rfl (lv_at hl 1 rfl) ?_
  refine vp_callSi ((va_runV (As := [.int (nI j)]) (rest := [.int ((upd (a 14) j (((a 14) j) + 1)) j)]) ⟨hx, hb, hml, hown, hts⟩ (metX2_lastsOf l dC dI ct A ex o q g (va_up a 14 (upd (a 14) j (((a 14) j) + 1))) (nI j) j hj rfl) (cwV 1 hts (lw_V q1126 q1128 qs49 q74 q1129) rfl rfl rfl (by decide +kernel) ⟨Nat.le_of_ble_eq_true rfl, Nat.le_of_ble_eq_true rfl⟩) (mPV hK hP hD _) rfl rfl hl.1 rfl (lv_room (Nat.le_of_ble_eq_true rfl)) dX2_wearsOff_18 ⟨Nat.zero_le _, Nat.zero_le _⟩)).run (fun r hw => ?_)
  have hw : r = (lastsV ((a 2) j) ((a 5) j)) := hw
  subst hw
  refine lv_icmp_le (tgt := 41) hx hb dX2_wearsOff_21 (by decide) (fun c_1 => ?_) (fun c_1 => ?_)
  · skip
    rw [upd_s] at c_1
    exact W.vret hx hb hr (fun t ht hW => ⟨⟨(g, (va_up a 14 (upd (a 14) j (((a 14) j) + 1)))), rfl, (by simp only [lwear]; rw [if_pos c_1]; exact congrArg (fun z => (g, va_up z 14 _)) (va_up_id a 13).symm), by rw [ht]; exact hP, va_K.moved hW.alike hK, hD⟩, hS.F ht⟩) hS.2.2 dX2_wearsOff_41
  · skip
    rw [upd_s] at c_1
    refine lv_aload_n hx hb dX2_wearsOff_24 rfl (lv_at hl 0 rfl) ?_
    refine m_get (v := .ref (q 13)) hx hb hts hown hK hP 13 (by decide) rfl q997 rfl dX2_wearsOff_25 ?_
    refine lv_iload_n hx hb dX2_wearsOff_28 rfl (lv_at hl 1 rfl) ?_
    refine lv_dup2_11 hx hb dX2_wearsOff_29 rfl rfl ?_
    refine m_ild hx hb hK hP (mWa13 _ _ _ _ _ _) (a 13) rfl j rfl (by omega) (by decide) dX2_wearsOff_30 ?_
    refine lv_aload_n hx hb dX2_wearsOff_31 rfl (lv_at hl 0 rfl) ?_
    refine m_get (v := .ref (q 13)) hx hb hts hown hK hP 13 (by decide) rfl q997 rfl dX2_wearsOff_32 ?_
    refine lv_iload_n hx hb dX2_wearsOff_35 rfl (lv_at hl 1 rfl) ?_
    refine m_ild hx hb hK hP (mWa13 _ _ _ _ _ _) (a 13) rfl j rfl (by omega) (by decide) dX2_wearsOff_36 ?_
    refine lv_iconst (v := 1) hx hb dX2_wearsOff_37 (by decide) ?_
    refine lv_isub hx hb dX2_wearsOff_38 ?_
    refine lv_iand hx hb dX2_wearsOff_39 ?_
    refine m_ist (x := (((a 13) j) &&& (((a 13) j) - 1))) hx hb hK hP hD hS (mWa13 _ _ _ _ _ _) (mWs13 _ _ _ _ _ _) (a 13) rfl j rfl (by omega) (by decide) dX2_wearsOff_40 (fun H locs hP hD hS => ?_)
    have eW_2 : ∀  (za14 : Nat → Int32) (zn : Nat → Int32), mW ct o q g (va_up (va_up a 14 za14) 13 zn) ++ ex = mW ct o q g (va_up (va_up a 13 zn) 14 za14) ++ ex := fun _ _ => rfl
    have hP : va_P (dC, dI) clA (mW ct o q g (va_up (va_up a 13 (upd (a 13) j (((a 13) j) &&& (((a 13) j) - 1)))) 14 (upd (a 14) j (((a 14) j) + 1))) ++ ex) H := Eq.mp (congrArg (fun w => va_P (dC, dI) clA w H) (eW_2 (upd (a 14) j (((a 14) j) + 1)) (upd (a 13) j (((a 13) j) &&& (((a 13) j) - 1))))) hP
    have hD : va_D A (mW ct o q g (va_up (va_up a 13 (upd (a 13) j (((a 13) j) &&& (((a 13) j) - 1)))) 14 (upd (a 14) j (((a 14) j) + 1))) ++ ex) := Eq.mp (congrArg (fun w => va_D A w) (eW_2 (upd (a 14) j (((a 14) j) + 1)) (upd (a 13) j (((a 13) j) &&& (((a 13) j) - 1))))) hD
    exact W.vret hx hb hr (fun t ht hW => ⟨⟨(g, (va_up (va_up a 13 (upd (a 13) j (((a 13) j) &&& (((a 13) j) - 1)))) 14 (upd (a 14) j (((a 14) j) + 1)))), rfl, (by simp only [lwear]; rw [if_neg c_1]), by rw [ht]; exact hP, va_K.moved hW.alike hK, hD⟩, hS.F ht⟩) hS.2.2 dX2_wearsOff_41
set_option maxHeartbeats 4000000 in
set_option maxRecDepth 100000 in
theorem metX2_lend (l : Launch) (dC : Nat → ClassId) (dI : Nat → Nat → Nat) (ct : Nat → ClassId) (A : Nat → Prop) (ex : va_W) (o : Nat) (q : Nat → Nat) (g : Nat → Int32) (a : Nat → Nat → Int32) (x : Int32) (y : Int32) (n i j : Nat) (hn6 : n ≤ 6) (hi : i < n) (hj : j < n) (ei : x = nI i) (ej : y = nI j) (hh : hasOk n (a 12)) : Met l yX2_lend (ws_ yX2_lend cX2_lend 4 none) ({ frames := 2, cells := 0, slots := 0, locals := 43 }) (mPre dC dI ct A ex o q g a [.ref o, .int x, .int y]) (va_Qv (fun (u : (Nat → Int32) × (Nat → Nat → Int32)) => u = (g, (va_up (va_up (va_up (va_up (va_up a 12 ((llend (fuM (a 4)) (fun c => lastsV ((a 2) c) ((a 5) c)) i j ((a 12), (a 13), (a 14), (a 15), (a 16))).1)) 13 ((llend (fuM (a 4)) (fun c => lastsV ((a 2) c) ((a 5) c)) i j ((a 12), (a 13), (a 14), (a 15), (a 16))).2.1)) 14 ((llend (fuM (a 4)) (fun c => lastsV ((a 2) c) ((a 5) c)) i j ((a 12), (a 13), (a 14), (a 15), (a 16))).2.2.1)) 15 ((llend (fuM (a 4)) (fun c => lastsV ((a 2) c) ((a 5) c)) i j ((a 12), (a 13), (a 14), (a 15), (a 16))).2.2.2.1)) 16 ((llend (fuM (a 4)) (fun c => lastsV ((a 2) c) ((a 5) c)) i j ((a 12), (a 13), (a 14), (a 15), (a 16))).2.2.2.2)))) (mB dC dI ct A ex o q) A) 0 0 A := by
  refine Met.ofW (cc := cX2_lend) (maxL := 4) (ret := none) (by decide) rfl ?_
  intro p e s m args below meth c s₁ B hml hv
  obtain ⟨rfl, hP, hK, hD⟩ := hv
  have hx := B.exec
  have hb := B.bytes
  have hr := B.returns
  have hts := atoms_spec (ws := ws_ yX2_lend cX2_lend 4 none) B.pre
  have hts : ∀ w ∈ lw_all, w.before _ s = true := fun w h => hts w (List.mem_cons_of_mem _ h)
  have hown : s.vm.findClass RX2 = some m.cls := findClass_of_methodNamed B.named
  have hlocks := B.notSynchronized
  have hS : va_S A s.heap s.heap [] := va_S.rf
  have hl := lv_entry ([.ref o, .int x, .int y]) (n := 4) (Nat.le_of_ble_eq_true rfl)
  rw [lg_entry_eq]
  generalize (lg_sl ([.ref o, .int x, .int y]) ++ List.replicate (4 - (lg_sl ([.ref o, .int x, .int y])).length) Slot.unset).toArray = ls at hl ⊢
  have hl : lv_has ls 4 [(0, .ref o), (1, .int x), (2, .int y)] := hl
  subst ei
  subst ej
  have h1 : hasOk n (upd (upd (a 12) i (a 12 j)) j (a 12 i)) := hasOk_swap hh hi hj
  refine lv_aload_n hx hb dX2_lend_0 rfl (lv_at hl 0 rfl) ?_
  refine m_get (v := .ref (q 12)) hx hb hts hown hK hP 12 (by decide) rfl q996 rfl dX2_lend_1 ?_
  refine lv_iload_n hx hb dX2_lend_4 rfl (lv_at hl 1 rfl) ?_
  refine m_ild hx hb hK hP (mWa12 _ _ _ _ _ _) (a 12) rfl i rfl (by omega) (by decide) dX2_lend_5 ?_
  refine lv_istore_n (lv' := [(3, .int ((a 12) i)), (0, .ref o), (1, .int (nI i)), (2, .int (nI j))]) hx hb dX2_lend_6 rfl hl (by decide) rfl (fun ls hl => ?_)
  refine lv_aload_n hx hb dX2_lend_7 rfl (lv_at hl 1 rfl) ?_
  refine m_get (v := .ref (q 12)) hx hb hts hown hK hP 12 (by decide) rfl q996 rfl dX2_lend_8 ?_
  refine lv_iload_n hx hb dX2_lend_11 rfl (lv_at hl 2 rfl) ?_
  refine lv_aload_n hx hb dX2_lend_12 rfl (lv_at hl 1 rfl) ?_
  refine m_get (v := .ref (q 12)) hx hb hts hown hK hP 12 (by decide) rfl q996 rfl dX2_lend_13 ?_
  refine lv_iload_n hx hb dX2_lend_16 rfl (lv_at hl 3 rfl) ?_
  refine m_ild hx hb hK hP (mWa12 _ _ _ _ _ _) (a 12) rfl j rfl (by omega) (by decide) dX2_lend_17 ?_
  refine m_ist (x := ((a 12) j)) hx hb hK hP hD hS (mWa12 _ _ _ _ _ _) (mWs12 _ _ _ _ _ _) (a 12) rfl i rfl (by omega) (by decide) dX2_lend_18 (fun H locs hP hD hS => ?_)
  refine lv_aload_n hx hb dX2_lend_19 rfl (lv_at hl 1 rfl) ?_
  refine m_get (v := .ref (q 12)) hx hb hts hown hK hP 12 (by decide) rfl q996 rfl dX2_lend_20 ?_
  refine lv_iload_n hx hb dX2_lend_23 rfl (lv_at hl 3 rfl) ?_
  refine lv_iload_n hx hb dX2_lend_24 rfl (lv_at hl 0 rfl) ?_
  refine m_ist (x := ((a 12) i)) hx hb hK hP hD hS (mWa12 _ _ _ _ _ _) (mWs12 _ _ _ _ _ _) (upd (a 12) i ((a 12) j)) rfl j rfl (by omega) (by decide) dX2_lend_25 (fun H locs hP hD hS => ?_)
  have eW_1 : ∀  (za12 : Nat → Int32) (zn : Nat → Int32), mW ct o q g (va_up (va_up a 12 za12) 12 zn) ++ ex = mW ct o q g (va_up a 12 zn) ++ ex := fun _ _ => rfl
  have hP : va_P (dC, dI) clA (mW ct o q g (va_up a 12 (upd (upd (a 12) i ((a 12) j)) j ((a 12) i))) ++ ex) H := Eq.mp (congrArg (fun w => va_P (dC, dI) clA w H) (eW_1 (upd (a 12) i ((a 12) j)) (upd (upd (a 12) i ((a 12) j)) j ((a 12) i)))) hP
  have hD : va_D A (mW ct o q g (va_up a 12 (upd (upd (a 12) i ((a 12) j)) j ((a 12) i))) ++ ex) := Eq.mp (congrArg (fun w => va_D A w) (eW_1 (upd (a 12) i ((a 12) j)) (upd (upd (a 12) i ((a 12) j)) j ((a 12) i)))) hD
  refine lv_aload_n hx hb dX2_lend_26 rfl (lv_at hl 1 rfl) ?_
  refine lv_aload_n hx hb dX2_lend_27 rfl (lv_at hl 1 rfl) ?_
  refine m_get (v := .ref (q 12)) hx hb hts hown hK hP 12 (by decide) rfl q996 rfl dX2_lend_28 ?_
  refine lv_iload_n hx hb dX2_lend_31 rfl (lv_at hl 2 rfl) ?_
  refine m_ild hx hb hK hP (mWa12 _ _ _ _ _ _) (upd (upd (a 12) i ((a 12) j)) j ((a 12) i)) rfl i rfl (by omega) (by decide) dX2_lend_32 ?_
  refine va_callv (va_runV (As := [.int ((upd (upd (a 12) i ((a 12) j)) j ((a 12) i)) i)]) (rest := []) ⟨hx, hb, hml, hown, hts⟩ (metX2_wearsOff l dC dI ct A ex o q g (va_up a 12 (upd (upd (a 12) i ((a 12) j)) j ((a 12) i))) ((upd (upd (a 12) i ((a 12) j)) j ((a 12) i)) i) (cix ((upd (upd (a 12) i ((a 12) j)) j ((a 12) i)) i)) (Nat.lt_of_lt_of_le (h1 i hi).2 hn6) (h1 i hi).1) (cwV 1 hts (lw_V q1189 q1191 qs59 q74 q1192) rfl rfl rfl (by decide +kernel) ⟨Nat.le_of_ble_eq_true rfl, Nat.le_of_ble_eq_true rfl⟩) (mPV hK hP hD _) rfl rfl hl.1 rfl (lv_room (Nat.le_of_ble_eq_true rfl)) dX2_lend_33 ⟨Nat.zero_le _, Nat.zero_le _⟩) hS (fun q _ h => h) (fun q h => h) (fun u t H1 locs ht hvm hw hB hz1 hk1 hS => ?_)
  subst hw
  obtain ⟨hP, -, hD⟩ := hB
  rw [ht] at hP
  generalize H1 = H at hP hS ⊢
  have hP : va_P (dC, dI) clA (mW ct o q g (va_up (va_up (va_up a 12 (upd (upd (a 12) i ((a 12) j)) j ((a 12) i))) 13 ((lwear (fun c => lastsV ((a 2) c) ((a 5) c)) (cix ((upd (upd (a 12) i ((a 12) j)) j ((a 12) i)) i)) ((upd (upd (a 12) i ((a 12) j)) j ((a 12) i)), (a 13), (a 14), (a 15), (a 16))).2.1)) 14 ((lwear (fun c => lastsV ((a 2) c) ((a 5) c)) (cix ((upd (upd (a 12) i ((a 12) j)) j ((a 12) i)) i)) ((upd (upd (a 12) i ((a 12) j)) j ((a 12) i)), (a 13), (a 14), (a 15), (a 16))).2.2.1)) ++ ex) H := hP
  have hD : va_D A (mW ct o q g (va_up (va_up (va_up a 12 (upd (upd (a 12) i ((a 12) j)) j ((a 12) i))) 13 ((lwear (fun c => lastsV ((a 2) c) ((a 5) c)) (cix ((upd (upd (a 12) i ((a 12) j)) j ((a 12) i)) i)) ((upd (upd (a 12) i ((a 12) j)) j ((a 12) i)), (a 13), (a 14), (a 15), (a 16))).2.1)) 14 ((lwear (fun c => lastsV ((a 2) c) ((a 5) c)) (cix ((upd (upd (a 12) i ((a 12) j)) j ((a 12) i)) i)) ((upd (upd (a 12) i ((a 12) j)) j ((a 12) i)), (a 13), (a 14), (a 15), (a 16))).2.2.1)) ++ ex) := hD
  refine lv_aload_n hx hb dX2_lend_36 rfl (lv_at hl 1 rfl) ?_
  refine lv_aload_n hx hb dX2_lend_37 rfl (lv_at hl 1 rfl) ?_
  refine m_get (v := .ref (q 12)) hx hb hts hown hK hP 12 (by decide) rfl q996 rfl dX2_lend_38 ?_
  refine lv_iload_n hx hb dX2_lend_41 rfl (lv_at hl 3 rfl) ?_
  refine m_ild hx hb hK hP (mWa12 _ _ _ _ _ _) (upd (upd (a 12) i ((a 12) j)) j ((a 12) i)) rfl j rfl (by omega) (by decide) dX2_lend_42 ?_
  refine va_callv (va_runV (As := [.int ((upd (upd (a 12) i ((a 12) j)) j ((a 12) i)) j)]) (rest := []) ⟨hx, hb, hml, hown, hts⟩ (metX2_wearsOff l dC dI ct A ex o q g (va_up (va_up (va_up a 12 (upd (upd (a 12) i ((a 12) j)) j ((a 12) i))) 13 ((lwear (fun c => lastsV ((a 2) c) ((a 5) c)) (cix ((upd (upd (a 12) i ((a 12) j)) j ((a 12) i)) i)) ((upd (upd (a 12) i ((a 12) j)) j ((a 12) i)), (a 13), (a 14), (a 15), (a 16))).2.1)) 14 ((lwear (fun c => lastsV ((a 2) c) ((a 5) c)) (cix ((upd (upd (a 12) i ((a 12) j)) j ((a 12) i)) i)) ((upd (upd (a 12) i ((a 12) j)) j ((a 12) i)), (a 13), (a 14), (a 15), (a 16))).2.2.1)) ((upd (upd (a 12) i ((a 12) j)) j ((a 12) i)) j) (cix ((upd (upd (a 12) i ((a 12) j)) j ((a 12) i)) j)) (Nat.lt_of_lt_of_le (h1 j hj).2 hn6) (h1 j hj).1) (cwV 1 hts (lw_V q1189 q1191 qs59 q74 q1192) rfl rfl rfl (by decide +kernel) ⟨Nat.le_of_ble_eq_true rfl, Nat.le_of_ble_eq_true rfl⟩) (mPV hK hP hD _) rfl rfl hl.1 rfl (lv_room (Nat.le_of_ble_eq_true rfl)) dX2_lend_43 ⟨Nat.zero_le _, Nat.zero_le _⟩) hS (fun q _ h => h) (fun q h => h) (fun u t H1 locs ht hvm hw hB hz1 hk1 hS => ?_)
  subst hw
  obtain ⟨hP, -, hD⟩ := hB
  rw [ht] at hP
  generalize H1 = H at hP hS ⊢
  have hP : va_P (dC, dI) clA (mW ct o q g (va_up (va_up (va_up a 12 (upd (upd (a 12) i ((a 12) j)) j ((a 12) i))) 13 ((lwear (fun c => lastsV ((a 2) c) ((a 5) c)) (cix ((upd (upd (a 12) i ((a 12) j)) j ((a 12) i)) j)) ((upd (upd (a 12) i ((a 12) j)) j ((a 12) i)), (lwear (fun c => lastsV ((a 2) c) ((a 5) c)) (cix ((upd (upd (a 12) i ((a 12) j)) j ((a 12) i)) i)) ((upd (upd (a 12) i ((a 12) j)) j ((a 12) i)), (a 13), (a 14), (a 15), (a 16))).2.1, (lwear (fun c => lastsV ((a 2) c) ((a 5) c)) (cix ((upd (upd (a 12) i ((a 12) j)) j ((a 12) i)) i)) ((upd (upd (a 12) i ((a 12) j)) j ((a 12) i)), (a 13), (a 14), (a 15), (a 16))).2.2.1, (a 15), (a 16))).2.1)) 14 ((lwear (fun c => lastsV ((a 2) c) ((a 5) c)) (cix ((upd (upd (a 12) i ((a 12) j)) j ((a 12) i)) j)) ((upd (upd (a 12) i ((a 12) j)) j ((a 12) i)), (lwear (fun c => lastsV ((a 2) c) ((a 5) c)) (cix ((upd (upd (a 12) i ((a 12) j)) j ((a 12) i)) i)) ((upd (upd (a 12) i ((a 12) j)) j ((a 12) i)), (a 13), (a 14), (a 15), (a 16))).2.1, (lwear (fun c => lastsV ((a 2) c) ((a 5) c)) (cix ((upd (upd (a 12) i ((a 12) j)) j ((a 12) i)) i)) ((upd (upd (a 12) i ((a 12) j)) j ((a 12) i)), (a 13), (a 14), (a 15), (a 16))).2.2.1, (a 15), (a 16))).2.2.1)) ++ ex) H := hP
  have hD : va_D A (mW ct o q g (va_up (va_up (va_up a 12 (upd (upd (a 12) i ((a 12) j)) j ((a 12) i))) 13 ((lwear (fun c => lastsV ((a 2) c) ((a 5) c)) (cix ((upd (upd (a 12) i ((a 12) j)) j ((a 12) i)) j)) ((upd (upd (a 12) i ((a 12) j)) j ((a 12) i)), (lwear (fun c => lastsV ((a 2) c) ((a 5) c)) (cix ((upd (upd (a 12) i ((a 12) j)) j ((a 12) i)) i)) ((upd (upd (a 12) i ((a 12) j)) j ((a 12) i)), (a 13), (a 14), (a 15), (a 16))).2.1, (lwear (fun c => lastsV ((a 2) c) ((a 5) c)) (cix ((upd (upd (a 12) i ((a 12) j)) j ((a 12) i)) i)) ((upd (upd (a 12) i ((a 12) j)) j ((a 12) i)), (a 13), (a 14), (a 15), (a 16))).2.2.1, (a 15), (a 16))).2.1)) 14 ((lwear (fun c => lastsV ((a 2) c) ((a 5) c)) (cix ((upd (upd (a 12) i ((a 12) j)) j ((a 12) i)) j)) ((upd (upd (a 12) i ((a 12) j)) j ((a 12) i)), (lwear (fun c => lastsV ((a 2) c) ((a 5) c)) (cix ((upd (upd (a 12) i ((a 12) j)) j ((a 12) i)) i)) ((upd (upd (a 12) i ((a 12) j)) j ((a 12) i)), (a 13), (a 14), (a 15), (a 16))).2.1, (lwear (fun c => lastsV ((a 2) c) ((a 5) c)) (cix ((upd (upd (a 12) i ((a 12) j)) j ((a 12) i)) i)) ((upd (upd (a 12) i ((a 12) j)) j ((a 12) i)), (a 13), (a 14), (a 15), (a 16))).2.2.1, (a 15), (a 16))).2.2.1)) ++ ex) := hD
  refine lv_aload_n hx hb dX2_lend_46 rfl (lv_at hl 1 rfl) ?_
  refine lv_iload_n hx hb dX2_lend_47 rfl (lv_at hl 2 rfl) ?_
  refine va_callv (va_runV (As := [.int (nI i)]) (rest := []) ⟨hx, hb, hml, hown, hts⟩ (metX2_sees l dC dI ct A ex o q g (va_up (va_up (va_up a 12 (upd (upd (a 12) i ((a 12) j)) j ((a 12) i))) 13 ((lwear (fun c => lastsV ((a 2) c) ((a 5) c)) (cix ((upd (upd (a 12) i ((a 12) j)) j ((a 12) i)) j)) ((upd (upd (a 12) i ((a 12) j)) j ((a 12) i)), (lwear (fun c => lastsV ((a 2) c) ((a 5) c)) (cix ((upd (upd (a 12) i ((a 12) j)) j ((a 12) i)) i)) ((upd (upd (a 12) i ((a 12) j)) j ((a 12) i)), (a 13), (a 14), (a 15), (a 16))).2.1, (lwear (fun c => lastsV ((a 2) c) ((a 5) c)) (cix ((upd (upd (a 12) i ((a 12) j)) j ((a 12) i)) i)) ((upd (upd (a 12) i ((a 12) j)) j ((a 12) i)), (a 13), (a 14), (a 15), (a 16))).2.2.1, (a 15), (a 16))).2.1)) 14 ((lwear (fun c => lastsV ((a 2) c) ((a 5) c)) (cix ((upd (upd (a 12) i ((a 12) j)) j ((a 12) i)) j)) ((upd (upd (a 12) i ((a 12) j)) j ((a 12) i)), (lwear (fun c => lastsV ((a 2) c) ((a 5) c)) (cix ((upd (upd (a 12) i ((a 12) j)) j ((a 12) i)) i)) ((upd (upd (a 12) i ((a 12) j)) j ((a 12) i)), (a 13), (a 14), (a 15), (a 16))).2.1, (lwear (fun c => lastsV ((a 2) c) ((a 5) c)) (cix ((upd (upd (a 12) i ((a 12) j)) j ((a 12) i)) i)) ((upd (upd (a 12) i ((a 12) j)) j ((a 12) i)), (a 13), (a 14), (a 15), (a 16))).2.2.1, (a 15), (a 16))).2.2.1)) (nI i) n i hn6 hi rfl h1) (cwV 1 hts (lw_V q1162 q1164 qs53 q74 q1165) rfl rfl rfl (by decide +kernel) ⟨Nat.le_of_ble_eq_true rfl, Nat.le_of_ble_eq_true rfl⟩) (mPV hK hP hD _) rfl rfl hl.1 rfl (lv_room (Nat.le_of_ble_eq_true rfl)) dX2_lend_48 ⟨Nat.zero_le _, Nat.zero_le _⟩) hS (fun q _ h => h) (fun q h => h) (fun u t H1 locs ht hvm hw hB hz1 hk1 hS => ?_)
  subst hw
  obtain ⟨hP, -, hD⟩ := hB
  rw [ht] at hP
  generalize H1 = H at hP hS ⊢
  have hP : va_P (dC, dI) clA (mW ct o q g (va_up (va_up (va_up (va_up (va_up a 12 (upd (upd (a 12) i ((a 12) j)) j ((a 12) i))) 13 ((lwear (fun c => lastsV ((a 2) c) ((a 5) c)) (cix ((upd (upd (a 12) i ((a 12) j)) j ((a 12) i)) j)) ((upd (upd (a 12) i ((a 12) j)) j ((a 12) i)), (lwear (fun c => lastsV ((a 2) c) ((a 5) c)) (cix ((upd (upd (a 12) i ((a 12) j)) j ((a 12) i)) i)) ((upd (upd (a 12) i ((a 12) j)) j ((a 12) i)), (a 13), (a 14), (a 15), (a 16))).2.1, (lwear (fun c => lastsV ((a 2) c) ((a 5) c)) (cix ((upd (upd (a 12) i ((a 12) j)) j ((a 12) i)) i)) ((upd (upd (a 12) i ((a 12) j)) j ((a 12) i)), (a 13), (a 14), (a 15), (a 16))).2.2.1, (a 15), (a 16))).2.1)) 14 ((lwear (fun c => lastsV ((a 2) c) ((a 5) c)) (cix ((upd (upd (a 12) i ((a 12) j)) j ((a 12) i)) j)) ((upd (upd (a 12) i ((a 12) j)) j ((a 12) i)), (lwear (fun c => lastsV ((a 2) c) ((a 5) c)) (cix ((upd (upd (a 12) i ((a 12) j)) j ((a 12) i)) i)) ((upd (upd (a 12) i ((a 12) j)) j ((a 12) i)), (a 13), (a 14), (a 15), (a 16))).2.1, (lwear (fun c => lastsV ((a 2) c) ((a 5) c)) (cix ((upd (upd (a 12) i ((a 12) j)) j ((a 12) i)) i)) ((upd (upd (a 12) i ((a 12) j)) j ((a 12) i)), (a 13), (a 14), (a 15), (a 16))).2.2.1, (a 15), (a 16))).2.2.1)) 15 ((lsee (fuM (a 4)) i ((upd (upd (a 12) i ((a 12) j)) j ((a 12) i)), (lwear (fun c => lastsV ((a 2) c) ((a 5) c)) (cix ((upd (upd (a 12) i ((a 12) j)) j ((a 12) i)) j)) ((upd (upd (a 12) i ((a 12) j)) j ((a 12) i)), (lwear (fun c => lastsV ((a 2) c) ((a 5) c)) (cix ((upd (upd (a 12) i ((a 12) j)) j ((a 12) i)) i)) ((upd (upd (a 12) i ((a 12) j)) j ((a 12) i)), (a 13), (a 14), (a 15), (a 16))).2.1, (lwear (fun c => lastsV ((a 2) c) ((a 5) c)) (cix ((upd (upd (a 12) i ((a 12) j)) j ((a 12) i)) i)) ((upd (upd (a 12) i ((a 12) j)) j ((a 12) i)), (a 13), (a 14), (a 15), (a 16))).2.2.1, (a 15), (a 16))).2.1, (lwear (fun c => lastsV ((a 2) c) ((a 5) c)) (cix ((upd (upd (a 12) i ((a 12) j)) j ((a 12) i)) j)) ((upd (upd (a 12) i ((a 12) j)) j ((a 12) i)), (lwear (fun c => lastsV ((a 2) c) ((a 5) c)) (cix ((upd (upd (a 12) i ((a 12) j)) j ((a 12) i)) i)) ((upd (upd (a 12) i ((a 12) j)) j ((a 12) i)), (a 13), (a 14), (a 15), (a 16))).2.1, (lwear (fun c => lastsV ((a 2) c) ((a 5) c)) (cix ((upd (upd (a 12) i ((a 12) j)) j ((a 12) i)) i)) ((upd (upd (a 12) i ((a 12) j)) j ((a 12) i)), (a 13), (a 14), (a 15), (a 16))).2.2.1, (a 15), (a 16))).2.2.1, (a 15), (a 16))).2.2.2.1)) 16 ((lsee (fuM (a 4)) i ((upd (upd (a 12) i ((a 12) j)) j ((a 12) i)), (lwear (fun c => lastsV ((a 2) c) ((a 5) c)) (cix ((upd (upd (a 12) i ((a 12) j)) j ((a 12) i)) j)) ((upd (upd (a 12) i ((a 12) j)) j ((a 12) i)), (lwear (fun c => lastsV ((a 2) c) ((a 5) c)) (cix ((upd (upd (a 12) i ((a 12) j)) j ((a 12) i)) i)) ((upd (upd (a 12) i ((a 12) j)) j ((a 12) i)), (a 13), (a 14), (a 15), (a 16))).2.1, (lwear (fun c => lastsV ((a 2) c) ((a 5) c)) (cix ((upd (upd (a 12) i ((a 12) j)) j ((a 12) i)) i)) ((upd (upd (a 12) i ((a 12) j)) j ((a 12) i)), (a 13), (a 14), (a 15), (a 16))).2.2.1, (a 15), (a 16))).2.1, (lwear (fun c => lastsV ((a 2) c) ((a 5) c)) (cix ((upd (upd (a 12) i ((a 12) j)) j ((a 12) i)) j)) ((upd (upd (a 12) i ((a 12) j)) j ((a 12) i)), (lwear (fun c => lastsV ((a 2) c) ((a 5) c)) (cix ((upd (upd (a 12) i ((a 12) j)) j ((a 12) i)) i)) ((upd (upd (a 12) i ((a 12) j)) j ((a 12) i)), (a 13), (a 14), (a 15), (a 16))).2.1, (lwear (fun c => lastsV ((a 2) c) ((a 5) c)) (cix ((upd (upd (a 12) i ((a 12) j)) j ((a 12) i)) i)) ((upd (upd (a 12) i ((a 12) j)) j ((a 12) i)), (a 13), (a 14), (a 15), (a 16))).2.2.1, (a 15), (a 16))).2.2.1, (a 15), (a 16))).2.2.2.2)) ++ ex) H := hP
  have hD : va_D A (mW ct o q g (va_up (va_up (va_up (va_up (va_up a 12 (upd (upd (a 12) i ((a 12) j)) j ((a 12) i))) 13 ((lwear (fun c => lastsV ((a 2) c) ((a 5) c)) (cix ((upd (upd (a 12) i ((a 12) j)) j ((a 12) i)) j)) ((upd (upd (a 12) i ((a 12) j)) j ((a 12) i)), (lwear (fun c => lastsV ((a 2) c) ((a 5) c)) (cix ((upd (upd (a 12) i ((a 12) j)) j ((a 12) i)) i)) ((upd (upd (a 12) i ((a 12) j)) j ((a 12) i)), (a 13), (a 14), (a 15), (a 16))).2.1, (lwear (fun c => lastsV ((a 2) c) ((a 5) c)) (cix ((upd (upd (a 12) i ((a 12) j)) j ((a 12) i)) i)) ((upd (upd (a 12) i ((a 12) j)) j ((a 12) i)), (a 13), (a 14), (a 15), (a 16))).2.2.1, (a 15), (a 16))).2.1)) 14 ((lwear (fun c => lastsV ((a 2) c) ((a 5) c)) (cix ((upd (upd (a 12) i ((a 12) j)) j ((a 12) i)) j)) ((upd (upd (a 12) i ((a 12) j)) j ((a 12) i)), (lwear (fun c => lastsV ((a 2) c) ((a 5) c)) (cix ((upd (upd (a 12) i ((a 12) j)) j ((a 12) i)) i)) ((upd (upd (a 12) i ((a 12) j)) j ((a 12) i)), (a 13), (a 14), (a 15), (a 16))).2.1, (lwear (fun c => lastsV ((a 2) c) ((a 5) c)) (cix ((upd (upd (a 12) i ((a 12) j)) j ((a 12) i)) i)) ((upd (upd (a 12) i ((a 12) j)) j ((a 12) i)), (a 13), (a 14), (a 15), (a 16))).2.2.1, (a 15), (a 16))).2.2.1)) 15 ((lsee (fuM (a 4)) i ((upd (upd (a 12) i ((a 12) j)) j ((a 12) i)), (lwear (fun c => lastsV ((a 2) c) ((a 5) c)) (cix ((upd (upd (a 12) i ((a 12) j)) j ((a 12) i)) j)) ((upd (upd (a 12) i ((a 12) j)) j ((a 12) i)), (lwear (fun c => lastsV ((a 2) c) ((a 5) c)) (cix ((upd (upd (a 12) i ((a 12) j)) j ((a 12) i)) i)) ((upd (upd (a 12) i ((a 12) j)) j ((a 12) i)), (a 13), (a 14), (a 15), (a 16))).2.1, (lwear (fun c => lastsV ((a 2) c) ((a 5) c)) (cix ((upd (upd (a 12) i ((a 12) j)) j ((a 12) i)) i)) ((upd (upd (a 12) i ((a 12) j)) j ((a 12) i)), (a 13), (a 14), (a 15), (a 16))).2.2.1, (a 15), (a 16))).2.1, (lwear (fun c => lastsV ((a 2) c) ((a 5) c)) (cix ((upd (upd (a 12) i ((a 12) j)) j ((a 12) i)) j)) ((upd (upd (a 12) i ((a 12) j)) j ((a 12) i)), (lwear (fun c => lastsV ((a 2) c) ((a 5) c)) (cix ((upd (upd (a 12) i ((a 12) j)) j ((a 12) i)) i)) ((upd (upd (a 12) i ((a 12) j)) j ((a 12) i)), (a 13), (a 14), (a 15), (a 16))).2.1, (lwear (fun c => lastsV ((a 2) c) ((a 5) c)) (cix ((upd (upd (a 12) i ((a 12) j)) j ((a 12) i)) i)) ((upd (upd (a 12) i ((a 12) j)) j ((a 12) i)), (a 13), (a 14), (a 15), (a 16))).2.2.1, (a 15), (a 16))).2.2.1, (a 15), (a 16))).2.2.2.1)) 16 ((lsee (fuM (a 4)) i ((upd (upd (a 12) i ((a 12) j)) j ((a 12) i)), (lwear (fun c => lastsV ((a 2) c) ((a 5) c)) (cix ((upd (upd (a 12) i ((a 12) j)) j ((a 12) i)) j)) ((upd (upd (a 12) i ((a 12) j)) j ((a 12) i)), (lwear (fun c => lastsV ((a 2) c) ((a 5) c)) (cix ((upd (upd (a 12) i ((a 12) j)) j ((a 12) i)) i)) ((upd (upd (a 12) i ((a 12) j)) j ((a 12) i)), (a 13), (a 14), (a 15), (a 16))).2.1, (lwear (fun c => lastsV ((a 2) c) ((a 5) c)) (cix ((upd (upd (a 12) i ((a 12) j)) j ((a 12) i)) i)) ((upd (upd (a 12) i ((a 12) j)) j ((a 12) i)), (a 13), (a 14), (a 15), (a 16))).2.2.1, (a 15), (a 16))).2.1, (lwear (fun c => lastsV ((a 2) c) ((a 5) c)) (cix ((upd (upd (a 12) i ((a 12) j)) j ((a 12) i)) j)) ((upd (upd (a 12) i ((a 12) j)) j ((a 12) i)), (lwear (fun c => lastsV ((a 2) c) ((a 5) c)) (cix ((upd (upd (a 12) i ((a 12) j)) j ((a 12) i)) i)) ((upd (upd (a 12) i ((a 12) j)) j ((a 12) i)), (a 13), (a 14), (a 15), (a 16))).2.1, (lwear (fun c => lastsV ((a 2) c) ((a 5) c)) (cix ((upd (upd (a 12) i ((a 12) j)) j ((a 12) i)) i)) ((upd (upd (a 12) i ((a 12) j)) j ((a 12) i)), (a 13), (a 14), (a 15), (a 16))).2.2.1, (a 15), (a 16))).2.2.1, (a 15), (a 16))).2.2.2.2)) ++ ex) := hD
  refine lv_aload_n hx hb dX2_lend_51 rfl (lv_at hl 1 rfl) ?_
  refine lv_iload_n hx hb dX2_lend_52 rfl (lv_at hl 3 rfl) ?_
  refine va_callv (va_runV (As := [.int (nI j)]) (rest := []) ⟨hx, hb, hml, hown, hts⟩ (metX2_sees l dC dI ct A ex o q g (va_up (va_up (va_up (va_up (va_up a 12 (upd (upd (a 12) i ((a 12) j)) j ((a 12) i))) 13 ((lwear (fun c => lastsV ((a 2) c) ((a 5) c)) (cix ((upd (upd (a 12) i ((a 12) j)) j ((a 12) i)) j)) ((upd (upd (a 12) i ((a 12) j)) j ((a 12) i)), (lwear (fun c => lastsV ((a 2) c) ((a 5) c)) (cix ((upd (upd (a 12) i ((a 12) j)) j ((a 12) i)) i)) ((upd (upd (a 12) i ((a 12) j)) j ((a 12) i)), (a 13), (a 14), (a 15), (a 16))).2.1, (lwear (fun c => lastsV ((a 2) c) ((a 5) c)) (cix ((upd (upd (a 12) i ((a 12) j)) j ((a 12) i)) i)) ((upd (upd (a 12) i ((a 12) j)) j ((a 12) i)), (a 13), (a 14), (a 15), (a 16))).2.2.1, (a 15), (a 16))).2.1)) 14 ((lwear (fun c => lastsV ((a 2) c) ((a 5) c)) (cix ((upd (upd (a 12) i ((a 12) j)) j ((a 12) i)) j)) ((upd (upd (a 12) i ((a 12) j)) j ((a 12) i)), (lwear (fun c => lastsV ((a 2) c) ((a 5) c)) (cix ((upd (upd (a 12) i ((a 12) j)) j ((a 12) i)) i)) ((upd (upd (a 12) i ((a 12) j)) j ((a 12) i)), (a 13), (a 14), (a 15), (a 16))).2.1, (lwear (fun c => lastsV ((a 2) c) ((a 5) c)) (cix ((upd (upd (a 12) i ((a 12) j)) j ((a 12) i)) i)) ((upd (upd (a 12) i ((a 12) j)) j ((a 12) i)), (a 13), (a 14), (a 15), (a 16))).2.2.1, (a 15), (a 16))).2.2.1)) 15 ((lsee (fuM (a 4)) i ((upd (upd (a 12) i ((a 12) j)) j ((a 12) i)), (lwear (fun c => lastsV ((a 2) c) ((a 5) c)) (cix ((upd (upd (a 12) i ((a 12) j)) j ((a 12) i)) j)) ((upd (upd (a 12) i ((a 12) j)) j ((a 12) i)), (lwear (fun c => lastsV ((a 2) c) ((a 5) c)) (cix ((upd (upd (a 12) i ((a 12) j)) j ((a 12) i)) i)) ((upd (upd (a 12) i ((a 12) j)) j ((a 12) i)), (a 13), (a 14), (a 15), (a 16))).2.1, (lwear (fun c => lastsV ((a 2) c) ((a 5) c)) (cix ((upd (upd (a 12) i ((a 12) j)) j ((a 12) i)) i)) ((upd (upd (a 12) i ((a 12) j)) j ((a 12) i)), (a 13), (a 14), (a 15), (a 16))).2.2.1, (a 15), (a 16))).2.1, (lwear (fun c => lastsV ((a 2) c) ((a 5) c)) (cix ((upd (upd (a 12) i ((a 12) j)) j ((a 12) i)) j)) ((upd (upd (a 12) i ((a 12) j)) j ((a 12) i)), (lwear (fun c => lastsV ((a 2) c) ((a 5) c)) (cix ((upd (upd (a 12) i ((a 12) j)) j ((a 12) i)) i)) ((upd (upd (a 12) i ((a 12) j)) j ((a 12) i)), (a 13), (a 14), (a 15), (a 16))).2.1, (lwear (fun c => lastsV ((a 2) c) ((a 5) c)) (cix ((upd (upd (a 12) i ((a 12) j)) j ((a 12) i)) i)) ((upd (upd (a 12) i ((a 12) j)) j ((a 12) i)), (a 13), (a 14), (a 15), (a 16))).2.2.1, (a 15), (a 16))).2.2.1, (a 15), (a 16))).2.2.2.1)) 16 ((lsee (fuM (a 4)) i ((upd (upd (a 12) i ((a 12) j)) j ((a 12) i)), (lwear (fun c => lastsV ((a 2) c) ((a 5) c)) (cix ((upd (upd (a 12) i ((a 12) j)) j ((a 12) i)) j)) ((upd (upd (a 12) i ((a 12) j)) j ((a 12) i)), (lwear (fun c => lastsV ((a 2) c) ((a 5) c)) (cix ((upd (upd (a 12) i ((a 12) j)) j ((a 12) i)) i)) ((upd (upd (a 12) i ((a 12) j)) j ((a 12) i)), (a 13), (a 14), (a 15), (a 16))).2.1, (lwear (fun c => lastsV ((a 2) c) ((a 5) c)) (cix ((upd (upd (a 12) i ((a 12) j)) j ((a 12) i)) i)) ((upd (upd (a 12) i ((a 12) j)) j ((a 12) i)), (a 13), (a 14), (a 15), (a 16))).2.2.1, (a 15), (a 16))).2.1, (lwear (fun c => lastsV ((a 2) c) ((a 5) c)) (cix ((upd (upd (a 12) i ((a 12) j)) j ((a 12) i)) j)) ((upd (upd (a 12) i ((a 12) j)) j ((a 12) i)), (lwear (fun c => lastsV ((a 2) c) ((a 5) c)) (cix ((upd (upd (a 12) i ((a 12) j)) j ((a 12) i)) i)) ((upd (upd (a 12) i ((a 12) j)) j ((a 12) i)), (a 13), (a 14), (a 15), (a 16))).2.1, (lwear (fun c => lastsV ((a 2) c) ((a 5) c)) (cix ((upd (upd (a 12) i ((a 12) j)) j ((a 12) i)) i)) ((upd (upd (a 12) i ((a 12) j)) j ((a 12) i)), (a 13), (a 14), (a 15), (a 16))).2.2.1, (a 15), (a 16))).2.2.1, (a 15), (a 16))).2.2.2.2)) (nI j) n j hn6 hj rfl h1) (cwV 1 hts (lw_V q1162 q1164 qs53 q74 q1165) rfl rfl rfl (by decide +kernel) ⟨Nat.le_of_ble_eq_true rfl, Nat.le_of_ble_eq_true rfl⟩) (mPV hK hP hD _) rfl rfl hl.1 rfl (lv_room (Nat.le_of_ble_eq_true rfl)) dX2_lend_53 ⟨Nat.zero_le _, Nat.zero_le _⟩) hS (fun q _ h => h) (fun q h => h) (fun u t H1 locs ht hvm hw hB hz1 hk1 hS => ?_)
  subst hw
  obtain ⟨hP, -, hD⟩ := hB
  rw [ht] at hP
  generalize H1 = H at hP hS ⊢
  have hP : va_P (dC, dI) clA (mW ct o q g (va_up (va_up (va_up (va_up (va_up a 12 (upd (upd (a 12) i ((a 12) j)) j ((a 12) i))) 13 ((lwear (fun c => lastsV ((a 2) c) ((a 5) c)) (cix ((upd (upd (a 12) i ((a 12) j)) j ((a 12) i)) j)) ((upd (upd (a 12) i ((a 12) j)) j ((a 12) i)), (lwear (fun c => lastsV ((a 2) c) ((a 5) c)) (cix ((upd (upd (a 12) i ((a 12) j)) j ((a 12) i)) i)) ((upd (upd (a 12) i ((a 12) j)) j ((a 12) i)), (a 13), (a 14), (a 15), (a 16))).2.1, (lwear (fun c => lastsV ((a 2) c) ((a 5) c)) (cix ((upd (upd (a 12) i ((a 12) j)) j ((a 12) i)) i)) ((upd (upd (a 12) i ((a 12) j)) j ((a 12) i)), (a 13), (a 14), (a 15), (a 16))).2.2.1, (a 15), (a 16))).2.1)) 14 ((lwear (fun c => lastsV ((a 2) c) ((a 5) c)) (cix ((upd (upd (a 12) i ((a 12) j)) j ((a 12) i)) j)) ((upd (upd (a 12) i ((a 12) j)) j ((a 12) i)), (lwear (fun c => lastsV ((a 2) c) ((a 5) c)) (cix ((upd (upd (a 12) i ((a 12) j)) j ((a 12) i)) i)) ((upd (upd (a 12) i ((a 12) j)) j ((a 12) i)), (a 13), (a 14), (a 15), (a 16))).2.1, (lwear (fun c => lastsV ((a 2) c) ((a 5) c)) (cix ((upd (upd (a 12) i ((a 12) j)) j ((a 12) i)) i)) ((upd (upd (a 12) i ((a 12) j)) j ((a 12) i)), (a 13), (a 14), (a 15), (a 16))).2.2.1, (a 15), (a 16))).2.2.1)) 15 ((lsee (fuM (a 4)) j ((upd (upd (a 12) i ((a 12) j)) j ((a 12) i)), (lwear (fun c => lastsV ((a 2) c) ((a 5) c)) (cix ((upd (upd (a 12) i ((a 12) j)) j ((a 12) i)) j)) ((upd (upd (a 12) i ((a 12) j)) j ((a 12) i)), (lwear (fun c => lastsV ((a 2) c) ((a 5) c)) (cix ((upd (upd (a 12) i ((a 12) j)) j ((a 12) i)) i)) ((upd (upd (a 12) i ((a 12) j)) j ((a 12) i)), (a 13), (a 14), (a 15), (a 16))).2.1, (lwear (fun c => lastsV ((a 2) c) ((a 5) c)) (cix ((upd (upd (a 12) i ((a 12) j)) j ((a 12) i)) i)) ((upd (upd (a 12) i ((a 12) j)) j ((a 12) i)), (a 13), (a 14), (a 15), (a 16))).2.2.1, (a 15), (a 16))).2.1, (lwear (fun c => lastsV ((a 2) c) ((a 5) c)) (cix ((upd (upd (a 12) i ((a 12) j)) j ((a 12) i)) j)) ((upd (upd (a 12) i ((a 12) j)) j ((a 12) i)), (lwear (fun c => lastsV ((a 2) c) ((a 5) c)) (cix ((upd (upd (a 12) i ((a 12) j)) j ((a 12) i)) i)) ((upd (upd (a 12) i ((a 12) j)) j ((a 12) i)), (a 13), (a 14), (a 15), (a 16))).2.1, (lwear (fun c => lastsV ((a 2) c) ((a 5) c)) (cix ((upd (upd (a 12) i ((a 12) j)) j ((a 12) i)) i)) ((upd (upd (a 12) i ((a 12) j)) j ((a 12) i)), (a 13), (a 14), (a 15), (a 16))).2.2.1, (a 15), (a 16))).2.2.1, (lsee (fuM (a 4)) i ((upd (upd (a 12) i ((a 12) j)) j ((a 12) i)), (lwear (fun c => lastsV ((a 2) c) ((a 5) c)) (cix ((upd (upd (a 12) i ((a 12) j)) j ((a 12) i)) j)) ((upd (upd (a 12) i ((a 12) j)) j ((a 12) i)), (lwear (fun c => lastsV ((a 2) c) ((a 5) c)) (cix ((upd (upd (a 12) i ((a 12) j)) j ((a 12) i)) i)) ((upd (upd (a 12) i ((a 12) j)) j ((a 12) i)), (a 13), (a 14), (a 15), (a 16))).2.1, (lwear (fun c => lastsV ((a 2) c) ((a 5) c)) (cix ((upd (upd (a 12) i ((a 12) j)) j ((a 12) i)) i)) ((upd (upd (a 12) i ((a 12) j)) j ((a 12) i)), (a 13), (a 14), (a 15), (a 16))).2.2.1, (a 15), (a 16))).2.1, (lwear (fun c => lastsV ((a 2) c) ((a 5) c)) (cix ((upd (upd (a 12) i ((a 12) j)) j ((a 12) i)) j)) ((upd (upd (a 12) i ((a 12) j)) j ((a 12) i)), (lwear (fun c => lastsV ((a 2) c) ((a 5) c)) (cix ((upd (upd (a 12) i ((a 12) j)) j ((a 12) i)) i)) ((upd (upd (a 12) i ((a 12) j)) j ((a 12) i)), (a 13), (a 14), (a 15), (a 16))).2.1, (lwear (fun c => lastsV ((a 2) c) ((a 5) c)) (cix ((upd (upd (a 12) i ((a 12) j)) j ((a 12) i)) i)) ((upd (upd (a 12) i ((a 12) j)) j ((a 12) i)), (a 13), (a 14), (a 15), (a 16))).2.2.1, (a 15), (a 16))).2.2.1, (a 15), (a 16))).2.2.2.1, (lsee (fuM (a 4)) i ((upd (upd (a 12) i ((a 12) j)) j ((a 12) i)), (lwear (fun c => lastsV ((a 2) c) ((a 5) c)) (cix ((upd (upd (a 12) i ((a 12) j)) j ((a 12) i)) j)) ((upd (upd (a 12) i ((a 12) j)) j ((a 12) i)), (lwear (fun c => lastsV ((a 2) c) ((a 5) c)) (cix ((upd (upd (a 12) i ((a 12) j)) j ((a 12) i)) i)) ((upd (upd (a 12) i ((a 12) j)) j ((a 12) i)), (a 13), (a 14), (a 15), (a 16))).2.1, (lwear (fun c => lastsV ((a 2) c) ((a 5) c)) (cix ((upd (upd (a 12) i ((a 12) j)) j ((a 12) i)) i)) ((upd (upd (a 12) i ((a 12) j)) j ((a 12) i)), (a 13), (a 14), (a 15), (a 16))).2.2.1, (a 15), (a 16))).2.1, (lwear (fun c => lastsV ((a 2) c) ((a 5) c)) (cix ((upd (upd (a 12) i ((a 12) j)) j ((a 12) i)) j)) ((upd (upd (a 12) i ((a 12) j)) j ((a 12) i)), (lwear (fun c => lastsV ((a 2) c) ((a 5) c)) (cix ((upd (upd (a 12) i ((a 12) j)) j ((a 12) i)) i)) ((upd (upd (a 12) i ((a 12) j)) j ((a 12) i)), (a 13), (a 14), (a 15), (a 16))).2.1, (lwear (fun c => lastsV ((a 2) c) ((a 5) c)) (cix ((upd (upd (a 12) i ((a 12) j)) j ((a 12) i)) i)) ((upd (upd (a 12) i ((a 12) j)) j ((a 12) i)), (a 13), (a 14), (a 15), (a 16))).2.2.1, (a 15), (a 16))).2.2.1, (a 15), (a 16))).2.2.2.2)).2.2.2.1)) 16 ((lsee (fuM (a 4)) j ((upd (upd (a 12) i ((a 12) j)) j ((a 12) i)), (lwear (fun c => lastsV ((a 2) c) ((a 5) c)) (cix ((upd (upd (a 12) i ((a 12) j)) j ((a 12) i)) j)) ((upd (upd (a 12) i ((a 12) j)) j ((a 12) i)), (lwear (fun c => lastsV ((a 2) c) ((a 5) c)) (cix ((upd (upd (a 12) i ((a 12) j)) j ((a 12) i)) i)) ((upd (upd (a 12) i ((a 12) j)) j ((a 12) i)), (a 13), (a 14), (a 15), (a 16))).2.1, (lwear (fun c => lastsV ((a 2) c) ((a 5) c)) (cix ((upd (upd (a 12) i ((a 12) j)) j ((a 12) i)) i)) ((upd (upd (a 12) i ((a 12) j)) j ((a 12) i)), (a 13), (a 14), (a 15), (a 16))).2.2.1, (a 15), (a 16))).2.1, (lwear (fun c => lastsV ((a 2) c) ((a 5) c)) (cix ((upd (upd (a 12) i ((a 12) j)) j ((a 12) i)) j)) ((upd (upd (a 12) i ((a 12) j)) j ((a 12) i)), (lwear (fun c => lastsV ((a 2) c) ((a 5) c)) (cix ((upd (upd (a 12) i ((a 12) j)) j ((a 12) i)) i)) ((upd (upd (a 12) i ((a 12) j)) j ((a 12) i)), (a 13), (a 14), (a 15), (a 16))).2.1, (lwear (fun c => lastsV ((a 2) c) ((a 5) c)) (cix ((upd (upd (a 12) i ((a 12) j)) j ((a 12) i)) i)) ((upd (upd (a 12) i ((a 12) j)) j ((a 12) i)), (a 13), (a 14), (a 15), (a 16))).2.2.1, (a 15), (a 16))).2.2.1, (lsee (fuM (a 4)) i ((upd (upd (a 12) i ((a 12) j)) j ((a 12) i)), (lwear (fun c => lastsV ((a 2) c) ((a 5) c)) (cix ((upd (upd (a 12) i ((a 12) j)) j ((a 12) i)) j)) ((upd (upd (a 12) i ((a 12) j)) j ((a 12) i)), (lwear (fun c => lastsV ((a 2) c) ((a 5) c)) (cix ((upd (upd (a 12) i ((a 12) j)) j ((a 12) i)) i)) ((upd (upd (a 12) i ((a 12) j)) j ((a 12) i)), (a 13), (a 14), (a 15), (a 16))).2.1, (lwear (fun c => lastsV ((a 2) c) ((a 5) c)) (cix ((upd (upd (a 12) i ((a 12) j)) j ((a 12) i)) i)) ((upd (upd (a 12) i ((a 12) j)) j ((a 12) i)), (a 13), (a 14), (a 15), (a 16))).2.2.1, (a 15), (a 16))).2.1, (lwear (fun c => lastsV ((a 2) c) ((a 5) c)) (cix ((upd (upd (a 12) i ((a 12) j)) j ((a 12) i)) j)) ((upd (upd (a 12) i ((a 12) j)) j ((a 12) i)), (lwear (fun c => lastsV ((a 2) c) ((a 5) c)) (cix ((upd (upd (a 12) i ((a 12) j)) j ((a 12) i)) i)) ((upd (upd (a 12) i ((a 12) j)) j ((a 12) i)), (a 13), (a 14), (a 15), (a 16))).2.1, (lwear (fun c => lastsV ((a 2) c) ((a 5) c)) (cix ((upd (upd (a 12) i ((a 12) j)) j ((a 12) i)) i)) ((upd (upd (a 12) i ((a 12) j)) j ((a 12) i)), (a 13), (a 14), (a 15), (a 16))).2.2.1, (a 15), (a 16))).2.2.1, (a 15), (a 16))).2.2.2.1, (lsee (fuM (a 4)) i ((upd (upd (a 12) i ((a 12) j)) j ((a 12) i)), (lwear (fun c => lastsV ((a 2) c) ((a 5) c)) (cix ((upd (upd (a 12) i ((a 12) j)) j ((a 12) i)) j)) ((upd (upd (a 12) i ((a 12) j)) j ((a 12) i)), (lwear (fun c => lastsV ((a 2) c) ((a 5) c)) (cix ((upd (upd (a 12) i ((a 12) j)) j ((a 12) i)) i)) ((upd (upd (a 12) i ((a 12) j)) j ((a 12) i)), (a 13), (a 14), (a 15), (a 16))).2.1, (lwear (fun c => lastsV ((a 2) c) ((a 5) c)) (cix ((upd (upd (a 12) i ((a 12) j)) j ((a 12) i)) i)) ((upd (upd (a 12) i ((a 12) j)) j ((a 12) i)), (a 13), (a 14), (a 15), (a 16))).2.2.1, (a 15), (a 16))).2.1, (lwear (fun c => lastsV ((a 2) c) ((a 5) c)) (cix ((upd (upd (a 12) i ((a 12) j)) j ((a 12) i)) j)) ((upd (upd (a 12) i ((a 12) j)) j ((a 12) i)), (lwear (fun c => lastsV ((a 2) c) ((a 5) c)) (cix ((upd (upd (a 12) i ((a 12) j)) j ((a 12) i)) i)) ((upd (upd (a 12) i ((a 12) j)) j ((a 12) i)), (a 13), (a 14), (a 15), (a 16))).2.1, (lwear (fun c => lastsV ((a 2) c) ((a 5) c)) (cix ((upd (upd (a 12) i ((a 12) j)) j ((a 12) i)) i)) ((upd (upd (a 12) i ((a 12) j)) j ((a 12) i)), (a 13), (a 14), (a 15), (a 16))).2.2.1, (a 15), (a 16))).2.2.1, (a 15), (a 16))).2.2.2.2)).2.2.2.2)) ++ ex) H := hP
  have hD : va_D A (mW ct o q g (va_up (va_up (va_up (va_up (va_up a 12 (upd (upd (a 12) i ((a 12) j)) j ((a 12) i))) 13 ((lwear (fun c => lastsV ((a 2) c) ((a 5) c)) (cix ((upd (upd (a 12) i ((a 12) j)) j ((a 12) i)) j)) ((upd (upd (a 12) i ((a 12) j)) j ((a 12) i)), (lwear (fun c => lastsV ((a 2) c) ((a 5) c)) (cix ((upd (upd (a 12) i ((a 12) j)) j ((a 12) i)) i)) ((upd (upd (a 12) i ((a 12) j)) j ((a 12) i)), (a 13), (a 14), (a 15), (a 16))).2.1, (lwear (fun c => lastsV ((a 2) c) ((a 5) c)) (cix ((upd (upd (a 12) i ((a 12) j)) j ((a 12) i)) i)) ((upd (upd (a 12) i ((a 12) j)) j ((a 12) i)), (a 13), (a 14), (a 15), (a 16))).2.2.1, (a 15), (a 16))).2.1)) 14 ((lwear (fun c => lastsV ((a 2) c) ((a 5) c)) (cix ((upd (upd (a 12) i ((a 12) j)) j ((a 12) i)) j)) ((upd (upd (a 12) i ((a 12) j)) j ((a 12) i)), (lwear (fun c => lastsV ((a 2) c) ((a 5) c)) (cix ((upd (upd (a 12) i ((a 12) j)) j ((a 12) i)) i)) ((upd (upd (a 12) i ((a 12) j)) j ((a 12) i)), (a 13), (a 14), (a 15), (a 16))).2.1, (lwear (fun c => lastsV ((a 2) c) ((a 5) c)) (cix ((upd (upd (a 12) i ((a 12) j)) j ((a 12) i)) i)) ((upd (upd (a 12) i ((a 12) j)) j ((a 12) i)), (a 13), (a 14), (a 15), (a 16))).2.2.1, (a 15), (a 16))).2.2.1)) 15 ((lsee (fuM (a 4)) j ((upd (upd (a 12) i ((a 12) j)) j ((a 12) i)), (lwear (fun c => lastsV ((a 2) c) ((a 5) c)) (cix ((upd (upd (a 12) i ((a 12) j)) j ((a 12) i)) j)) ((upd (upd (a 12) i ((a 12) j)) j ((a 12) i)), (lwear (fun c => lastsV ((a 2) c) ((a 5) c)) (cix ((upd (upd (a 12) i ((a 12) j)) j ((a 12) i)) i)) ((upd (upd (a 12) i ((a 12) j)) j ((a 12) i)), (a 13), (a 14), (a 15), (a 16))).2.1, (lwear (fun c => lastsV ((a 2) c) ((a 5) c)) (cix ((upd (upd (a 12) i ((a 12) j)) j ((a 12) i)) i)) ((upd (upd (a 12) i ((a 12) j)) j ((a 12) i)), (a 13), (a 14), (a 15), (a 16))).2.2.1, (a 15), (a 16))).2.1, (lwear (fun c => lastsV ((a 2) c) ((a 5) c)) (cix ((upd (upd (a 12) i ((a 12) j)) j ((a 12) i)) j)) ((upd (upd (a 12) i ((a 12) j)) j ((a 12) i)), (lwear (fun c => lastsV ((a 2) c) ((a 5) c)) (cix ((upd (upd (a 12) i ((a 12) j)) j ((a 12) i)) i)) ((upd (upd (a 12) i ((a 12) j)) j ((a 12) i)), (a 13), (a 14), (a 15), (a 16))).2.1, (lwear (fun c => lastsV ((a 2) c) ((a 5) c)) (cix ((upd (upd (a 12) i ((a 12) j)) j ((a 12) i)) i)) ((upd (upd (a 12) i ((a 12) j)) j ((a 12) i)), (a 13), (a 14), (a 15), (a 16))).2.2.1, (a 15), (a 16))).2.2.1, (lsee (fuM (a 4)) i ((upd (upd (a 12) i ((a 12) j)) j ((a 12) i)), (lwear (fun c => lastsV ((a 2) c) ((a 5) c)) (cix ((upd (upd (a 12) i ((a 12) j)) j ((a 12) i)) j)) ((upd (upd (a 12) i ((a 12) j)) j ((a 12) i)), (lwear (fun c => lastsV ((a 2) c) ((a 5) c)) (cix ((upd (upd (a 12) i ((a 12) j)) j ((a 12) i)) i)) ((upd (upd (a 12) i ((a 12) j)) j ((a 12) i)), (a 13), (a 14), (a 15), (a 16))).2.1, (lwear (fun c => lastsV ((a 2) c) ((a 5) c)) (cix ((upd (upd (a 12) i ((a 12) j)) j ((a 12) i)) i)) ((upd (upd (a 12) i ((a 12) j)) j ((a 12) i)), (a 13), (a 14), (a 15), (a 16))).2.2.1, (a 15), (a 16))).2.1, (lwear (fun c => lastsV ((a 2) c) ((a 5) c)) (cix ((upd (upd (a 12) i ((a 12) j)) j ((a 12) i)) j)) ((upd (upd (a 12) i ((a 12) j)) j ((a 12) i)), (lwear (fun c => lastsV ((a 2) c) ((a 5) c)) (cix ((upd (upd (a 12) i ((a 12) j)) j ((a 12) i)) i)) ((upd (upd (a 12) i ((a 12) j)) j ((a 12) i)), (a 13), (a 14), (a 15), (a 16))).2.1, (lwear (fun c => lastsV ((a 2) c) ((a 5) c)) (cix ((upd (upd (a 12) i ((a 12) j)) j ((a 12) i)) i)) ((upd (upd (a 12) i ((a 12) j)) j ((a 12) i)), (a 13), (a 14), (a 15), (a 16))).2.2.1, (a 15), (a 16))).2.2.1, (a 15), (a 16))).2.2.2.1, (lsee (fuM (a 4)) i ((upd (upd (a 12) i ((a 12) j)) j ((a 12) i)), (lwear (fun c => lastsV ((a 2) c) ((a 5) c)) (cix ((upd (upd (a 12) i ((a 12) j)) j ((a 12) i)) j)) ((upd (upd (a 12) i ((a 12) j)) j ((a 12) i)), (lwear (fun c => lastsV ((a 2) c) ((a 5) c)) (cix ((upd (upd (a 12) i ((a 12) j)) j ((a 12) i)) i)) ((upd (upd (a 12) i ((a 12) j)) j ((a 12) i)), (a 13), (a 14), (a 15), (a 16))).2.1, (lwear (fun c => lastsV ((a 2) c) ((a 5) c)) (cix ((upd (upd (a 12) i ((a 12) j)) j ((a 12) i)) i)) ((upd (upd (a 12) i ((a 12) j)) j ((a 12) i)), (a 13), (a 14), (a 15), (a 16))).2.2.1, (a 15), (a 16))).2.1, (lwear (fun c => lastsV ((a 2) c) ((a 5) c)) (cix ((upd (upd (a 12) i ((a 12) j)) j ((a 12) i)) j)) ((upd (upd (a 12) i ((a 12) j)) j ((a 12) i)), (lwear (fun c => lastsV ((a 2) c) ((a 5) c)) (cix ((upd (upd (a 12) i ((a 12) j)) j ((a 12) i)) i)) ((upd (upd (a 12) i ((a 12) j)) j ((a 12) i)), (a 13), (a 14), (a 15), (a 16))).2.1, (lwear (fun c => lastsV ((a 2) c) ((a 5) c)) (cix ((upd (upd (a 12) i ((a 12) j)) j ((a 12) i)) i)) ((upd (upd (a 12) i ((a 12) j)) j ((a 12) i)), (a 13), (a 14), (a 15), (a 16))).2.2.1, (a 15), (a 16))).2.2.1, (a 15), (a 16))).2.2.2.2)).2.2.2.1)) 16 ((lsee (fuM (a 4)) j ((upd (upd (a 12) i ((a 12) j)) j ((a 12) i)), (lwear (fun c => lastsV ((a 2) c) ((a 5) c)) (cix ((upd (upd (a 12) i ((a 12) j)) j ((a 12) i)) j)) ((upd (upd (a 12) i ((a 12) j)) j ((a 12) i)), (lwear (fun c => lastsV ((a 2) c) ((a 5) c)) (cix ((upd (upd (a 12) i ((a 12) j)) j ((a 12) i)) i)) ((upd (upd (a 12) i ((a 12) j)) j ((a 12) i)), (a 13), (a 14), (a 15), (a 16))).2.1, (lwear (fun c => lastsV ((a 2) c) ((a 5) c)) (cix ((upd (upd (a 12) i ((a 12) j)) j ((a 12) i)) i)) ((upd (upd (a 12) i ((a 12) j)) j ((a 12) i)), (a 13), (a 14), (a 15), (a 16))).2.2.1, (a 15), (a 16))).2.1, (lwear (fun c => lastsV ((a 2) c) ((a 5) c)) (cix ((upd (upd (a 12) i ((a 12) j)) j ((a 12) i)) j)) ((upd (upd (a 12) i ((a 12) j)) j ((a 12) i)), (lwear (fun c => lastsV ((a 2) c) ((a 5) c)) (cix ((upd (upd (a 12) i ((a 12) j)) j ((a 12) i)) i)) ((upd (upd (a 12) i ((a 12) j)) j ((a 12) i)), (a 13), (a 14), (a 15), (a 16))).2.1, (lwear (fun c => lastsV ((a 2) c) ((a 5) c)) (cix ((upd (upd (a 12) i ((a 12) j)) j ((a 12) i)) i)) ((upd (upd (a 12) i ((a 12) j)) j ((a 12) i)), (a 13), (a 14), (a 15), (a 16))).2.2.1, (a 15), (a 16))).2.2.1, (lsee (fuM (a 4)) i ((upd (upd (a 12) i ((a 12) j)) j ((a 12) i)), (lwear (fun c => lastsV ((a 2) c) ((a 5) c)) (cix ((upd (upd (a 12) i ((a 12) j)) j ((a 12) i)) j)) ((upd (upd (a 12) i ((a 12) j)) j ((a 12) i)), (lwear (fun c => lastsV ((a 2) c) ((a 5) c)) (cix ((upd (upd (a 12) i ((a 12) j)) j ((a 12) i)) i)) ((upd (upd (a 12) i ((a 12) j)) j ((a 12) i)), (a 13), (a 14), (a 15), (a 16))).2.1, (lwear (fun c => lastsV ((a 2) c) ((a 5) c)) (cix ((upd (upd (a 12) i ((a 12) j)) j ((a 12) i)) i)) ((upd (upd (a 12) i ((a 12) j)) j ((a 12) i)), (a 13), (a 14), (a 15), (a 16))).2.2.1, (a 15), (a 16))).2.1, (lwear (fun c => lastsV ((a 2) c) ((a 5) c)) (cix ((upd (upd (a 12) i ((a 12) j)) j ((a 12) i)) j)) ((upd (upd (a 12) i ((a 12) j)) j ((a 12) i)), (lwear (fun c => lastsV ((a 2) c) ((a 5) c)) (cix ((upd (upd (a 12) i ((a 12) j)) j ((a 12) i)) i)) ((upd (upd (a 12) i ((a 12) j)) j ((a 12) i)), (a 13), (a 14), (a 15), (a 16))).2.1, (lwear (fun c => lastsV ((a 2) c) ((a 5) c)) (cix ((upd (upd (a 12) i ((a 12) j)) j ((a 12) i)) i)) ((upd (upd (a 12) i ((a 12) j)) j ((a 12) i)), (a 13), (a 14), (a 15), (a 16))).2.2.1, (a 15), (a 16))).2.2.1, (a 15), (a 16))).2.2.2.1, (lsee (fuM (a 4)) i ((upd (upd (a 12) i ((a 12) j)) j ((a 12) i)), (lwear (fun c => lastsV ((a 2) c) ((a 5) c)) (cix ((upd (upd (a 12) i ((a 12) j)) j ((a 12) i)) j)) ((upd (upd (a 12) i ((a 12) j)) j ((a 12) i)), (lwear (fun c => lastsV ((a 2) c) ((a 5) c)) (cix ((upd (upd (a 12) i ((a 12) j)) j ((a 12) i)) i)) ((upd (upd (a 12) i ((a 12) j)) j ((a 12) i)), (a 13), (a 14), (a 15), (a 16))).2.1, (lwear (fun c => lastsV ((a 2) c) ((a 5) c)) (cix ((upd (upd (a 12) i ((a 12) j)) j ((a 12) i)) i)) ((upd (upd (a 12) i ((a 12) j)) j ((a 12) i)), (a 13), (a 14), (a 15), (a 16))).2.2.1, (a 15), (a 16))).2.1, (lwear (fun c => lastsV ((a 2) c) ((a 5) c)) (cix ((upd (upd (a 12) i ((a 12) j)) j ((a 12) i)) j)) ((upd (upd (a 12) i ((a 12) j)) j ((a 12) i)), (lwear (fun c => lastsV ((a 2) c) ((a 5) c)) (cix ((upd (upd (a 12) i ((a 12) j)) j ((a 12) i)) i)) ((upd (upd (a 12) i ((a 12) j)) j ((a 12) i)), (a 13), (a 14), (a 15), (a 16))).2.1, (lwear (fun c => lastsV ((a 2) c) ((a 5) c)) (cix ((upd (upd (a 12) i ((a 12) j)) j ((a 12) i)) i)) ((upd (upd (a 12) i ((a 12) j)) j ((a 12) i)), (a 13), (a 14), (a 15), (a 16))).2.2.1, (a 15), (a 16))).2.2.1, (a 15), (a 16))).2.2.2.2)).2.2.2.2)) ++ ex) := hD
  exact W.vret hx hb hr (fun t ht hW => ⟨⟨(g, (va_up (va_up (va_up (va_up (va_up a 12 (upd (upd (a 12) i ((a 12) j)) j ((a 12) i))) 13 ((lwear (fun c => lastsV ((a 2) c) ((a 5) c)) (cix ((upd (upd (a 12) i ((a 12) j)) j ((a 12) i)) j)) ((upd (upd (a 12) i ((a 12) j)) j ((a 12) i)), (lwear (fun c => lastsV ((a 2) c) ((a 5) c)) (cix ((upd (upd (a 12) i ((a 12) j)) j ((a 12) i)) i)) ((upd (upd (a 12) i ((a 12) j)) j ((a 12) i)), (a 13), (a 14), (a 15), (a 16))).2.1, (lwear (fun c => lastsV ((a 2) c) ((a 5) c)) (cix ((upd (upd (a 12) i ((a 12) j)) j ((a 12) i)) i)) ((upd (upd (a 12) i ((a 12) j)) j ((a 12) i)), (a 13), (a 14), (a 15), (a 16))).2.2.1, (a 15), (a 16))).2.1)) 14 ((lwear (fun c => lastsV ((a 2) c) ((a 5) c)) (cix ((upd (upd (a 12) i ((a 12) j)) j ((a 12) i)) j)) ((upd (upd (a 12) i ((a 12) j)) j ((a 12) i)), (lwear (fun c => lastsV ((a 2) c) ((a 5) c)) (cix ((upd (upd (a 12) i ((a 12) j)) j ((a 12) i)) i)) ((upd (upd (a 12) i ((a 12) j)) j ((a 12) i)), (a 13), (a 14), (a 15), (a 16))).2.1, (lwear (fun c => lastsV ((a 2) c) ((a 5) c)) (cix ((upd (upd (a 12) i ((a 12) j)) j ((a 12) i)) i)) ((upd (upd (a 12) i ((a 12) j)) j ((a 12) i)), (a 13), (a 14), (a 15), (a 16))).2.2.1, (a 15), (a 16))).2.2.1)) 15 ((lsee (fuM (a 4)) j ((upd (upd (a 12) i ((a 12) j)) j ((a 12) i)), (lwear (fun c => lastsV ((a 2) c) ((a 5) c)) (cix ((upd (upd (a 12) i ((a 12) j)) j ((a 12) i)) j)) ((upd (upd (a 12) i ((a 12) j)) j ((a 12) i)), (lwear (fun c => lastsV ((a 2) c) ((a 5) c)) (cix ((upd (upd (a 12) i ((a 12) j)) j ((a 12) i)) i)) ((upd (upd (a 12) i ((a 12) j)) j ((a 12) i)), (a 13), (a 14), (a 15), (a 16))).2.1, (lwear (fun c => lastsV ((a 2) c) ((a 5) c)) (cix ((upd (upd (a 12) i ((a 12) j)) j ((a 12) i)) i)) ((upd (upd (a 12) i ((a 12) j)) j ((a 12) i)), (a 13), (a 14), (a 15), (a 16))).2.2.1, (a 15), (a 16))).2.1, (lwear (fun c => lastsV ((a 2) c) ((a 5) c)) (cix ((upd (upd (a 12) i ((a 12) j)) j ((a 12) i)) j)) ((upd (upd (a 12) i ((a 12) j)) j ((a 12) i)), (lwear (fun c => lastsV ((a 2) c) ((a 5) c)) (cix ((upd (upd (a 12) i ((a 12) j)) j ((a 12) i)) i)) ((upd (upd (a 12) i ((a 12) j)) j ((a 12) i)), (a 13), (a 14), (a 15), (a 16))).2.1, (lwear (fun c => lastsV ((a 2) c) ((a 5) c)) (cix ((upd (upd (a 12) i ((a 12) j)) j ((a 12) i)) i)) ((upd (upd (a 12) i ((a 12) j)) j ((a 12) i)), (a 13), (a 14), (a 15), (a 16))).2.2.1, (a 15), (a 16))).2.2.1, (lsee (fuM (a 4)) i ((upd (upd (a 12) i ((a 12) j)) j ((a 12) i)), (lwear (fun c => lastsV ((a 2) c) ((a 5) c)) (cix ((upd (upd (a 12) i ((a 12) j)) j ((a 12) i)) j)) ((upd (upd (a 12) i ((a 12) j)) j ((a 12) i)), (lwear (fun c => lastsV ((a 2) c) ((a 5) c)) (cix ((upd (upd (a 12) i ((a 12) j)) j ((a 12) i)) i)) ((upd (upd (a 12) i ((a 12) j)) j ((a 12) i)), (a 13), (a 14), (a 15), (a 16))).2.1, (lwear (fun c => lastsV ((a 2) c) ((a 5) c)) (cix ((upd (upd (a 12) i ((a 12) j)) j ((a 12) i)) i)) ((upd (upd (a 12) i ((a 12) j)) j ((a 12) i)), (a 13), (a 14), (a 15), (a 16))).2.2.1, (a 15), (a 16))).2.1, (lwear (fun c => lastsV ((a 2) c) ((a 5) c)) (cix ((upd (upd (a 12) i ((a 12) j)) j ((a 12) i)) j)) ((upd (upd (a 12) i ((a 12) j)) j ((a 12) i)), (lwear (fun c => lastsV ((a 2) c) ((a 5) c)) (cix ((upd (upd (a 12) i ((a 12) j)) j ((a 12) i)) i)) ((upd (upd (a 12) i ((a 12) j)) j ((a 12) i)), (a 13), (a 14), (a 15), (a 16))).2.1, (lwear (fun c => lastsV ((a 2) c) ((a 5) c)) (cix ((upd (upd (a 12) i ((a 12) j)) j ((a 12) i)) i)) ((upd (upd (a 12) i ((a 12) j)) j ((a 12) i)), (a 13), (a 14), (a 15), (a 16))).2.2.1, (a 15), (a 16))).2.2.1, (a 15), (a 16))).2.2.2.1, (lsee (fuM (a 4)) i ((upd (upd (a 12) i ((a 12) j)) j ((a 12) i)), (lwear (fun c => lastsV ((a 2) c) ((a 5) c)) (cix ((upd (upd (a 12) i ((a 12) j)) j ((a 12) i)) j)) ((upd (upd (a 12) i ((a 12) j)) j ((a 12) i)), (lwear (fun c => lastsV ((a 2) c) ((a 5) c)) (cix ((upd (upd (a 12) i ((a 12) j)) j ((a 12) i)) i)) ((upd (upd (a 12) i ((a 12) j)) j ((a 12) i)), (a 13), (a 14), (a 15), (a 16))).2.1, (lwear (fun c => lastsV ((a 2) c) ((a 5) c)) (cix ((upd (upd (a 12) i ((a 12) j)) j ((a 12) i)) i)) ((upd (upd (a 12) i ((a 12) j)) j ((a 12) i)), (a 13), (a 14), (a 15), (a 16))).2.2.1, (a 15), (a 16))).2.1, (lwear (fun c => lastsV ((a 2) c) ((a 5) c)) (cix ((upd (upd (a 12) i ((a 12) j)) j ((a 12) i)) j)) ((upd (upd (a 12) i ((a 12) j)) j ((a 12) i)), (lwear (fun c => lastsV ((a 2) c) ((a 5) c)) (cix ((upd (upd (a 12) i ((a 12) j)) j ((a 12) i)) i)) ((upd (upd (a 12) i ((a 12) j)) j ((a 12) i)), (a 13), (a 14), (a 15), (a 16))).2.1, (lwear (fun c => lastsV ((a 2) c) ((a 5) c)) (cix ((upd (upd (a 12) i ((a 12) j)) j ((a 12) i)) i)) ((upd (upd (a 12) i ((a 12) j)) j ((a 12) i)), (a 13), (a 14), (a 15), (a 16))).2.2.1, (a 15), (a 16))).2.2.1, (a 15), (a 16))).2.2.2.2)).2.2.2.1)) 16 ((lsee (fuM (a 4)) j ((upd (upd (a 12) i ((a 12) j)) j ((a 12) i)), (lwear (fun c => lastsV ((a 2) c) ((a 5) c)) (cix ((upd (upd (a 12) i ((a 12) j)) j ((a 12) i)) j)) ((upd (upd (a 12) i ((a 12) j)) j ((a 12) i)), (lwear (fun c => lastsV ((a 2) c) ((a 5) c)) (cix ((upd (upd (a 12) i ((a 12) j)) j ((a 12) i)) i)) ((upd (upd (a 12) i ((a 12) j)) j ((a 12) i)), (a 13), (a 14), (a 15), (a 16))).2.1, (lwear (fun c => lastsV ((a 2) c) ((a 5) c)) (cix ((upd (upd (a 12) i ((a 12) j)) j ((a 12) i)) i)) ((upd (upd (a 12) i ((a 12) j)) j ((a 12) i)), (a 13), (a 14), (a 15), (a 16))).2.2.1, (a 15), (a 16))).2.1, (lwear (fun c => lastsV ((a 2) c) ((a 5) c)) (cix ((upd (upd (a 12) i ((a 12) j)) j ((a 12) i)) j)) ((upd (upd (a 12) i ((a 12) j)) j ((a 12) i)), (lwear (fun c => lastsV ((a 2) c) ((a 5) c)) (cix ((upd (upd (a 12) i ((a 12) j)) j ((a 12) i)) i)) ((upd (upd (a 12) i ((a 12) j)) j ((a 12) i)), (a 13), (a 14), (a 15), (a 16))).2.1, (lwear (fun c => lastsV ((a 2) c) ((a 5) c)) (cix ((upd (upd (a 12) i ((a 12) j)) j ((a 12) i)) i)) ((upd (upd (a 12) i ((a 12) j)) j ((a 12) i)), (a 13), (a 14), (a 15), (a 16))).2.2.1, (a 15), (a 16))).2.2.1, (lsee (fuM (a 4)) i ((upd (upd (a 12) i ((a 12) j)) j ((a 12) i)), (lwear (fun c => lastsV ((a 2) c) ((a 5) c)) (cix ((upd (upd (a 12) i ((a 12) j)) j ((a 12) i)) j)) ((upd (upd (a 12) i ((a 12) j)) j ((a 12) i)), (lwear (fun c => lastsV ((a 2) c) ((a 5) c)) (cix ((upd (upd (a 12) i ((a 12) j)) j ((a 12) i)) i)) ((upd (upd (a 12) i ((a 12) j)) j ((a 12) i)), (a 13), (a 14), (a 15), (a 16))).2.1, (lwear (fun c => lastsV ((a 2) c) ((a 5) c)) (cix ((upd (upd (a 12) i ((a 12) j)) j ((a 12) i)) i)) ((upd (upd (a 12) i ((a 12) j)) j ((a 12) i)), (a 13), (a 14), (a 15), (a 16))).2.2.1, (a 15), (a 16))).2.1, (lwear (fun c => lastsV ((a 2) c) ((a 5) c)) (cix ((upd (upd (a 12) i ((a 12) j)) j ((a 12) i)) j)) ((upd (upd (a 12) i ((a 12) j)) j ((a 12) i)), (lwear (fun c => lastsV ((a 2) c) ((a 5) c)) (cix ((upd (upd (a 12) i ((a 12) j)) j ((a 12) i)) i)) ((upd (upd (a 12) i ((a 12) j)) j ((a 12) i)), (a 13), (a 14), (a 15), (a 16))).2.1, (lwear (fun c => lastsV ((a 2) c) ((a 5) c)) (cix ((upd (upd (a 12) i ((a 12) j)) j ((a 12) i)) i)) ((upd (upd (a 12) i ((a 12) j)) j ((a 12) i)), (a 13), (a 14), (a 15), (a 16))).2.2.1, (a 15), (a 16))).2.2.1, (a 15), (a 16))).2.2.2.1, (lsee (fuM (a 4)) i ((upd (upd (a 12) i ((a 12) j)) j ((a 12) i)), (lwear (fun c => lastsV ((a 2) c) ((a 5) c)) (cix ((upd (upd (a 12) i ((a 12) j)) j ((a 12) i)) j)) ((upd (upd (a 12) i ((a 12) j)) j ((a 12) i)), (lwear (fun c => lastsV ((a 2) c) ((a 5) c)) (cix ((upd (upd (a 12) i ((a 12) j)) j ((a 12) i)) i)) ((upd (upd (a 12) i ((a 12) j)) j ((a 12) i)), (a 13), (a 14), (a 15), (a 16))).2.1, (lwear (fun c => lastsV ((a 2) c) ((a 5) c)) (cix ((upd (upd (a 12) i ((a 12) j)) j ((a 12) i)) i)) ((upd (upd (a 12) i ((a 12) j)) j ((a 12) i)), (a 13), (a 14), (a 15), (a 16))).2.2.1, (a 15), (a 16))).2.1, (lwear (fun c => lastsV ((a 2) c) ((a 5) c)) (cix ((upd (upd (a 12) i ((a 12) j)) j ((a 12) i)) j)) ((upd (upd (a 12) i ((a 12) j)) j ((a 12) i)), (lwear (fun c => lastsV ((a 2) c) ((a 5) c)) (cix ((upd (upd (a 12) i ((a 12) j)) j ((a 12) i)) i)) ((upd (upd (a 12) i ((a 12) j)) j ((a 12) i)), (a 13), (a 14), (a 15), (a 16))).2.1, (lwear (fun c => lastsV ((a 2) c) ((a 5) c)) (cix ((upd (upd (a 12) i ((a 12) j)) j ((a 12) i)) i)) ((upd (upd (a 12) i ((a 12) j)) j ((a 12) i)), (a 13), (a 14), (a 15), (a 16))).2.2.1, (a 15), (a 16))).2.2.1, (a 15), (a 16))).2.2.2.2)).2.2.2.2))), rfl, (by first | rfl | (simp []; done)), by rw [ht]; exact hP, va_K.moved hW.alike hK, hD⟩, hS.F ht⟩) hS.2.2 dX2_lend_56
