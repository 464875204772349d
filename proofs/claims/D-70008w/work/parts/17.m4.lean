/-! THE MODEL: what bars cells -/
set_option maxHeartbeats 4000000 in
set_option maxRecDepth 100000 in
theorem metX2_cellsBarred (l : Launch) (dC : Nat → ClassId) (dI : Nat → Nat → Nat) (ct : Nat → ClassId) (A : Nat → Prop) (ex : va_W) (o : Nat) (q : Nat → Nat) (g : Nat → Int32) (a : Nat → Nat → Int32) (x : Int32) (lane : Int32) (i : Int32) (n : Int64) (k : Nat) (hk : k < 4) (ek : x = nI k) : Met l yX2_cellsBarred (ws_ yX2_cellsBarred cX2_cellsBarred 6 (some .int)) ({ frames := 1, cells := 0, slots := 0, locals := 23 }) (mPre dC dI ct A ex o q g a [.ref o, .int x, .int lane, .int i, .long n]) (va_Qi (fun (r : Int32) (u : (Nat → Int32) × (Nat → Nat → Int32)) => r = (if (barV ((a 25) k) ((a 26) k) lane i n) = 0 then 0 else (-10) - (barV ((a 25) k) ((a 26) k) lane i n)) ∧ u = ((upd g 0 (if (barV ((a 25) k) ((a 26) k) lane i n) = 0 then (g 0) else (barV ((a 25) k) ((a 26) k) lane i n))), a)) (mB dC dI ct A ex o q) A) 0 0 A := by
  refine Met.ofW (cc := cX2_cellsBarred) (maxL := 6) (ret := (some .int)) (by decide) rfl ?_
  intro p e s m args below meth c s₁ B hml hv
  obtain ⟨rfl, hP, hK, hD⟩ := hv
  have hx := B.exec
  have hb := B.bytes
  have hr := B.returns
  have hts := atoms_spec (ws := ws_ yX2_cellsBarred cX2_cellsBarred 6 (some .int)) B.pre
  have hts : ∀ w ∈ lw_all, w.before _ s = true := fun w h => hts w (List.mem_cons_of_mem _ h)
  have hown : s.vm.findClass RX2 = some m.cls := findClass_of_methodNamed B.named
  have hlocks := B.notSynchronized
  have hS : va_S A s.heap s.heap [] := va_S.rf
  have hl := lv_entry ([.ref o, .int x, .int lane, .int i, .long n]) (n := 6) (Nat.le_of_ble_eq_true rfl)
  rw [lg_entry_eq]
  generalize (lg_sl ([.ref o, .int x, .int lane, .int i, .long n]) ++ List.replicate (6 - (lg_sl ([.ref o, .int x, .int lane, .int i, .long n])).length) Slot.unset).toArray = ls at hl ⊢
  have hl : lv_has ls 6 [(0, .ref o), (1, .int x), (2, .int lane), (3, .int i), (4, .long n)] := hl
  subst ek
  refine lv_aload_n hx hb dX2_cellsBarred_0 rfl (lv_at hl 0 rfl) ?_
  refine m_get (v := .ref (q 25)) hx hb hts hown hK hP 25 (by decide) rfl q1009 rfl dX2_cellsBarred_1 ?_
  refine lv_iload_n hx hb dX2_cellsBarred_4 rfl (lv_at hl 1 rfl) ?_
  refine m_ild hx hb hK hP (mWa25 _ _ _ _ _ _) (a 25) rfl k rfl (by omega) (by decide) dX2_cellsBarred_5 ?_
  refine lv_if_lt (tgt := 25) hx hb dX2_cellsBarred_6 (by decide) (fun c_1 => ?_) (fun c_1 => ?_)
  · skip
    have c0 : ¬ 0 ≤ a 25 k := fun z => not_neg z c_1
    refine lv_aload_n hx hb dX2_cellsBarred_25 rfl (lv_at hl 0 rfl) ?_
    refine m_get (v := .ref (q 25)) hx hb hts hown hK hP 25 (by decide) rfl q1009 rfl dX2_cellsBarred_26 ?_
    refine lv_iload_n hx hb dX2_cellsBarred_29 rfl (lv_at hl 1 rfl) ?_
    refine m_ild hx hb hK hP (mWa25 _ _ _ _ _ _) (a 25) rfl k rfl (by omega) (by decide) dX2_cellsBarred_30 ?_
    refine lv_if_ge (tgt := 40) hx hb dX2_cellsBarred_31 (by decide) (fun c_2 => ?_) (fun c_2 => ?_)
    · skip
      exact absurd c_2 c0
    · skip
      have c1 := neg_of c_2
      refine lv_aload_n hx hb dX2_cellsBarred_34 rfl (lv_at hl 0 rfl) ?_
      refine lv_iconst (v := 1) hx hb dX2_cellsBarred_35 (by decide) ?_
      refine va_calli (va_runV (As := [.int 1]) (rest := []) ⟨hx, hb, hml, hown, hts⟩ (metX2_failed l dC dI ct A ex o q g a 1 ) (cwV 1 hts (lw_V q1095 q1097 qs43 q74 q1098) rfl rfl rfl (by decide +kernel) ⟨Nat.le_of_ble_eq_true rfl, Nat.le_of_ble_eq_true rfl⟩) (mPV hK hP hD _) rfl rfl hl.1 rfl (lv_room (Nat.le_of_ble_eq_true rfl)) dX2_cellsBarred_36 ⟨Nat.zero_le _, Nat.zero_le _⟩) hS (fun q _ h => h) (fun q h => h) (fun r u t H1 locs ht hvm hw hB hz1 hk1 hS => ?_)
      obtain ⟨hw, hw2⟩ := hw
      have hw : r = ((-10) - 1) := hw
      subst hw
      subst hw2
      obtain ⟨hP, -, hD⟩ := hB
      rw [ht] at hP
      generalize H1 = H at hP hS ⊢
      have hP : va_P (dC, dI) clA (mW ct o q (upd g 0 1) a ++ ex) H := hP
      have hD : va_D A (mW ct o q (upd g 0 1) a ++ ex) := hD
      exact W.iret (v := ((-10) - 1)) hx hb hr (fun t ht hW => ⟨⟨((-10) - 1), ((upd g 0 1), a), rfl, ⟨(by first | rfl | (simp [barV, upd_id, c_1, c0, c_2, c1]; done)), (by first | rfl | (simp [barV, upd_id, c_1, c0, c_2, c1]; done))⟩, by rw [ht]; exact hP, va_K.moved hW.alike hK, hD⟩, hS.F ht⟩) hS.2.2 dX2_cellsBarred_39
  · skip
    have c0 : 0 ≤ a 25 k := by rw [nneg_iff]; rw [neg_iff] at c_1; omega
    refine lv_aload_n hx hb dX2_cellsBarred_9 rfl (lv_at hl 0 rfl) ?_
    refine m_get (v := .ref (q 26)) hx hb hts hown hK hP 26 (by decide) rfl q1010 rfl dX2_cellsBarred_10 ?_
    refine lv_iload_n hx hb dX2_cellsBarred_13 rfl (lv_at hl 1 rfl) ?_
    refine m_ild hx hb hK hP (mWa26 _ _ _ _ _ _) (a 26) rfl k rfl (by omega) (by decide) dX2_cellsBarred_14 ?_
    refine lv_iload_n hx hb dX2_cellsBarred_15 rfl (lv_at hl 2 rfl) ?_
    refine lv_icmp_eq (tgt := 25) hx hb dX2_cellsBarred_16 (by decide) (fun c_3 => ?_) (fun c_3 => ?_)
    · skip
      refine lv_aload_n hx hb dX2_cellsBarred_25 rfl (lv_at hl 0 rfl) ?_
      refine m_get (v := .ref (q 25)) hx hb hts hown hK hP 25 (by decide) rfl q1009 rfl dX2_cellsBarred_26 ?_
      refine lv_iload_n hx hb dX2_cellsBarred_29 rfl (lv_at hl 1 rfl) ?_
      refine m_ild hx hb hK hP (mWa25 _ _ _ _ _ _) (a 25) rfl k rfl (by omega) (by decide) dX2_cellsBarred_30 ?_
      refine lv_if_ge (tgt := 40) hx hb dX2_cellsBarred_31 (by decide) (fun c_4 => ?_) (fun c_4 => ?_)
      · skip
        have c1 := not_neg c_4
        refine lv_lload hx hb dX2_cellsBarred_40 (lv_at hl 4 rfl) ?_
        refine lv_lconst (v := 0) hx hb dX2_cellsBarred_42 (by decide) ?_
        refine W.lcmp hx hb dX2_cellsBarred_43 ?_
        refine lc_ge (tgt := 53) hx hb dX2_cellsBarred_44 (by decide) (fun c_5 => ?_) (fun c_5 => ?_)
        · skip
          have c2 : ¬ n < 0 := Int64.not_lt.mpr c_5
          refine lv_iload_n hx hb dX2_cellsBarred_53 rfl (lv_at hl 3 rfl) ?_
          refine lv_lload hx hb dX2_cellsBarred_54 (lv_at hl 4 rfl) ?_
          refine lv_aload_n hx hb dX2_cellsBarred_56 rfl (lv_at hl 0 rfl) ?_
          refine m_get (v := .ref (q 25)) hx hb hts hown hK hP 25 (by decide) rfl q1009 rfl dX2_cellsBarred_57 ?_
          refine lv_iload_n hx hb dX2_cellsBarred_60 rfl (lv_at hl 1 rfl) ?_
          refine m_ild hx hb hK hP (mWa25 _ _ _ _ _ _) (a 25) rfl k rfl (by omega) (by decide) dX2_cellsBarred_61 ?_
          refine vp_callSi ((va_runS (As := [.int i, .long n, .int ((a 25) k)]) (rest := []) ⟨hx, hb, hml, hown, hts⟩ (metX2_isBeyond l i n ((a 25) k) ) (va_cwS 3 hts (lw_S q1099 q1100 q74 q1101) rfl rfl rfl (by decide +kernel) ⟨Nat.le_of_ble_eq_true rfl, Nat.le_of_ble_eq_true rfl⟩) (pcS _) rfl rfl hl.1 rfl (lv_room (Nat.le_of_ble_eq_true rfl)) dX2_cellsBarred_62 ⟨Nat.zero_le _, Nat.zero_le _⟩)).run (fun r hw => ?_)
          have hw : r = (b2i (isBey i n ((a 25) k))) := hw
          subst hw
          refine bz_eq (tgt := 76) hx hb dX2_cellsBarred_65 (by decide) (fun c_6 => ?_) (fun c_6 => ?_)
          · skip
            refine lv_iconst (v := 0) hx hb dX2_cellsBarred_76 (by decide) ?_
            exact W.iret (v := 0) hx hb hr (fun t ht hW => ⟨⟨0, (g, a), rfl, ⟨(by first | rfl | (simp [barV, upd_id, c_1, c0, c_3, c_4, c1, c_5, c2, c_6]; done)), (by first | rfl | (simp [barV, upd_id, c_1, c0, c_3, c_4, c1, c_5, c2, c_6]; done))⟩, by rw [ht]; exact hP, va_K.moved hW.alike hK, hD⟩, hS.F ht⟩) hS.2.2 dX2_cellsBarred_77
          · skip
            refine lv_aload_n hx hb dX2_cellsBarred_68 rfl (lv_at hl 0 rfl) ?_
            refine lv_iconst (v := 3) hx hb dX2_cellsBarred_69 (by decide) ?_
            refine va_calli (va_runV (As := [.int 3]) (rest := []) ⟨hx, hb, hml, hown, hts⟩ (metX2_failed l dC dI ct A ex o q g a 3 ) (cwV 1 hts (lw_V q1095 q1097 qs43 q74 q1098) rfl rfl rfl (by decide +kernel) ⟨Nat.le_of_ble_eq_true rfl, Nat.le_of_ble_eq_true rfl⟩) (mPV hK hP hD _) rfl rfl hl.1 rfl (lv_room (Nat.le_of_ble_eq_true rfl)) dX2_cellsBarred_70 ⟨Nat.zero_le _, Nat.zero_le _⟩) hS (fun q _ h => h) (fun q h => h) (fun r u t H1 locs ht hvm hw hB hz1 hk1 hS => ?_)
            obtain ⟨hw, hw2⟩ := hw
            have hw : r = ((-10) - 3) := hw
            subst hw
            subst hw2
            obtain ⟨hP, -, hD⟩ := hB
            rw [ht] at hP
            generalize H1 = H at hP hS ⊢
            have hP : va_P (dC, dI) clA (mW ct o q (upd g 0 3) a ++ ex) H := hP
            have hD : va_D A (mW ct o q (upd g 0 3) a ++ ex) := hD
            refine lv_goto (tgt := 77) hx hb dX2_cellsBarred_73 (by decide) ?_
            exact W.iret (v := ((-10) - 3)) hx hb hr (fun t ht hW => ⟨⟨((-10) - 3), ((upd g 0 3), a), rfl, ⟨(by first | rfl | (simp [barV, upd_id, c_1, c0, c_3, c_4, c1, c_5, c2, c_6]; done)), (by first | rfl | (simp [barV, upd_id, c_1, c0, c_3, c_4, c1, c_5, c2, c_6]; done))⟩, by rw [ht]; exact hP, va_K.moved hW.alike hK, hD⟩, hS.F ht⟩) hS.2.2 dX2_cellsBarred_77
        · skip
          have c2 : n < 0 := Int64.not_le.mp c_5
          refine lv_aload_n hx hb dX2_cellsBarred_47 rfl (lv_at hl 0 rfl) ?_
          refine lv_iconst (v := 4) hx hb dX2_cellsBarred_48 (by decide) ?_
          refine va_calli (va_runV (As := [.int 4]) (rest := []) ⟨hx, hb, hml, hown, hts⟩ (metX2_failed l dC dI ct A ex o q g a 4 ) (cwV 1 hts (lw_V q1095 q1097 qs43 q74 q1098) rfl rfl rfl (by decide +kernel) ⟨Nat.le_of_ble_eq_true rfl, Nat.le_of_ble_eq_true rfl⟩) (mPV hK hP hD _) rfl rfl hl.1 rfl (lv_room (Nat.le_of_ble_eq_true rfl)) dX2_cellsBarred_49 ⟨Nat.zero_le _, Nat.zero_le _⟩) hS (fun q _ h => h) (fun q h => h) (fun r u t H1 locs ht hvm hw hB hz1 hk1 hS => ?_)
          obtain ⟨hw, hw2⟩ := hw
          have hw : r = ((-10) - 4) := hw
          subst hw
          subst hw2
          obtain ⟨hP, -, hD⟩ := hB
          rw [ht] at hP
          generalize H1 = H at hP hS ⊢
          have hP : va_P (dC, dI) clA (mW ct o q (upd g 0 4) a ++ ex) H := hP
          have hD : va_D A (mW ct o q (upd g 0 4) a ++ ex) := hD
          exact W.iret (v := ((-10) - 4)) hx hb hr (fun t ht hW => ⟨⟨((-10) - 4), ((upd g 0 4), a), rfl, ⟨(by first | rfl | (simp [barV, upd_id, c_1, c0, c_3, c_4, c1, c_5, c2]; done)), (by first | rfl | (simp [barV, upd_id, c_1, c0, c_3, c_4, c1, c_5, c2]; done))⟩, by rw [ht]; exact hP, va_K.moved hW.alike hK, hD⟩, hS.F ht⟩) hS.2.2 dX2_cellsBarred_52
      · skip
        exact absurd c0 c_4
    · skip
      refine lv_aload_n hx hb dX2_cellsBarred_19 rfl (lv_at hl 0 rfl) ?_
      refine lv_iconst (v := 2) hx hb dX2_cellsBarred_20 (by decide) ?_
      refine va_calli (va_runV (As := [.int 2]) (rest := []) ⟨hx, hb, hml, hown, hts⟩ (metX2_failed l dC dI ct A ex o q g a 2 ) (cwV 1 hts (lw_V q1095 q1097 qs43 q74 q1098) rfl rfl rfl (by decide +kernel) ⟨Nat.le_of_ble_eq_true rfl, Nat.le_of_ble_eq_true rfl⟩) (mPV hK hP hD _) rfl rfl hl.1 rfl (lv_room (Nat.le_of_ble_eq_true rfl)) dX2_cellsBarred_21 ⟨Nat.zero_le _, Nat.zero_le _⟩) hS (fun q _ h => h) (fun q h => h) (fun r u t H1 locs ht hvm hw hB hz1 hk1 hS => ?_)
      obtain ⟨hw, hw2⟩ := hw
      have hw : r = ((-10) - 2) := hw
      subst hw
      subst hw2
      obtain ⟨hP, -, hD⟩ := hB
      rw [ht] at hP
      generalize H1 = H at hP hS ⊢
      have hP : va_P (dC, dI) clA (mW ct o q (upd g 0 2) a ++ ex) H := hP
      have hD : va_D A (mW ct o q (upd g 0 2) a ++ ex) := hD
      exact W.iret (v := ((-10) - 2)) hx hb hr (fun t ht hW => ⟨⟨((-10) - 2), ((upd g 0 2), a), rfl, ⟨(by first | rfl | (simp [barV, upd_id, c_1, c0, c_3]; done)), (by first | rfl | (simp [barV, upd_id, c_1, c0, c_3]; done))⟩, by rw [ht]; exact hP, va_K.moved hW.alike hK, hD⟩, hS.F ht⟩) hS.2.2 dX2_cellsBarred_24
set_option maxHeartbeats 4000000 in
set_option maxRecDepth 100000 in
theorem metX2_pairsBarred (l : Launch) (dC : Nat → ClassId) (dI : Nat → Nat → Nat) (ct : Nat → ClassId) (A : Nat → Prop) (ex : va_W) (o : Nat) (q : Nat → Nat) (g : Nat → Int32) (a : Nat → Nat → Int32) (x : Int32) (lane : Int32) (i : Int32) (y : Int32) (n k N : Nat) (hn6 : n ≤ 6) (hn : g 1 = nI n) (hk : k < 4) (ek : x = nI k) (eN : y = nI N) (hN : N ≤ 20) (hz : szOk (a 25)) : Met l yX2_pairsBarred (ws_ yX2_pairsBarred cX2_pairsBarred 7 (some .int)) ({ frames := 2, cells := 0, slots := 0, locals := 48 }) (mPre dC dI ct A ex o q g a [.ref o, .int x, .int lane, .int i, .int y]) (va_Qi (fun (r : Int32) (u : (Nat → Int32) × (Nat → Nat → Int32)) => r = (if (barV ((a 25) k) ((a 26) k) lane i (lN (2 * N))) = 0 then (if (allP n (fun t => (a 27) (60 * k + cix i + t)) (2 * N)) = true then 0 else (-1)) else (-10) - (barV ((a 25) k) ((a 26) k) lane i (lN (2 * N)))) ∧ u = ((upd g 0 (if (barV ((a 25) k) ((a 26) k) lane i (lN (2 * N))) = 0 then 0 else (barV ((a 25) k) ((a 26) k) lane i (lN (2 * N))))), a)) (mB dC dI ct A ex o q) A) 0 0 A := by
  refine Met.ofW (cc := cX2_pairsBarred) (maxL := 7) (ret := (some .int)) (by decide) rfl ?_
  intro p e s m args below meth c s₁ B hml hv
  obtain ⟨rfl, hP, hK, hD⟩ := hv
  have hx := B.exec
  have hb := B.bytes
  have hr := B.returns
  have hts := atoms_spec (ws := ws_ yX2_pairsBarred cX2_pairsBarred 7 (some .int)) B.pre
  have hts : ∀ w ∈ lw_all, w.before _ s = true := fun w h => hts w (List.mem_cons_of_mem _ h)
  have hown : s.vm.findClass RX2 = some m.cls := findClass_of_methodNamed B.named
  have hlocks := B.notSynchronized
  have hS : va_S A s.heap s.heap [] := va_S.rf
  have hl := lv_entry ([.ref o, .int x, .int lane, .int i, .int y]) (n := 7) (Nat.le_of_ble_eq_true rfl)
  rw [lg_entry_eq]
  generalize (lg_sl ([.ref o, .int x, .int lane, .int i, .int y]) ++ List.replicate (7 - (lg_sl ([.ref o, .int x, .int lane, .int i, .int y])).length) Slot.unset).toArray = ls at hl ⊢
  have hl : lv_has ls 7 [(0, .ref o), (1, .int x), (2, .int lane), (3, .int i), (4, .int y)] := hl
  subst ek
  subst eN
  refine lv_aload_n hx hb dX2_pairsBarred_0 rfl (lv_at hl 0 rfl) ?_
  refine lv_iload_n hx hb dX2_pairsBarred_1 rfl (lv_at hl 1 rfl) ?_
  refine lv_iload_n hx hb dX2_pairsBarred_2 rfl (lv_at hl 2 rfl) ?_
  refine lv_iload_n hx hb dX2_pairsBarred_3 rfl (lv_at hl 3 rfl) ?_
  refine lv_ldc2 (v := 2) hx hb hown (hts _ q1090) dX2_pairsBarred_4 ?_
  refine lv_iload hx hb dX2_pairsBarred_7 (lv_at hl 4 rfl) ?_
  refine lv_i2l (v := (Int32.toInt64 (nI N))) hx hb dX2_pairsBarred_9 rfl ?_
  refine lv_lmul hx hb dX2_pairsBarred_10 ?_
  rw [mul2L' (N := N) (by omega)]
  refine va_calli (va_runV (As := [.int (nI k), .int lane, .int i, .long (lN (2 * N))]) (rest := []) ⟨hx, hb, hml, hown, hts⟩ (metX2_cellsBarred l dC dI ct A ex o q g a (nI k) lane i (lN (2 * N)) k hk rfl) (cwV 4 hts (lw_V q1091 q1093 qs42 q74 q1094) rfl rfl rfl (by decide +kernel) ⟨Nat.le_of_ble_eq_true rfl, Nat.le_of_ble_eq_true rfl⟩) (mPV hK hP hD _) rfl rfl hl.1 rfl (lv_room (Nat.le_of_ble_eq_true rfl)) dX2_pairsBarred_11 ⟨Nat.zero_le _, Nat.zero_le _⟩) hS (fun q _ h => h) (fun q h => h) (fun r u t H1 locs ht hvm hw hB hz1 hk1 hS => ?_)
  obtain ⟨hw, hw2⟩ := hw
  have hw : r = (if (barV ((a 25) k) ((a 26) k) lane i (lN (2 * N))) = 0 then 0 else (-10) - (barV ((a 25) k) ((a 26) k) lane i (lN (2 * N)))) := hw
  subst hw
  subst hw2
  obtain ⟨hP, -, hD⟩ := hB
  rw [ht] at hP
  generalize H1 = H at hP hS ⊢
  have hP : va_P (dC, dI) clA (mW ct o q (upd g 0 (if (barV ((a 25) k) ((a 26) k) lane i (lN (2 * N))) = 0 then (g 0) else (barV ((a 25) k) ((a 26) k) lane i (lN (2 * N))))) a ++ ex) H := hP
  have hD : va_D A (mW ct o q (upd g 0 (if (barV ((a 25) k) ((a 26) k) lane i (lN (2 * N))) = 0 then (g 0) else (barV ((a 25) k) ((a 26) k) lane i (lN (2 * N))))) a ++ ex) := hD
  refine lv_istore (lv' := [(5, .int (if (barV ((a 25) k) ((a 26) k) lane i (lN (2 * N))) = 0 then 0 else (-10) - (barV ((a 25) k) ((a 26) k) lane i (lN (2 * N))))), (0, .ref o), (1, .int (nI k)), (2, .int lane), (3, .int i), (4, .int (nI N))]) hx hb dX2_pairsBarred_14 hl (by decide) rfl (fun ls hl => ?_)
  refine lv_iload hx hb dX2_pairsBarred_16 (lv_at hl 0 rfl) ?_
  refine lv_if_ge (tgt := 24) hx hb dX2_pairsBarred_18 (by decide) (fun c_1 => ?_) (fun c_1 => ?_)
  · skip
    have cB : (barV (a 25 k) (a 26 k) lane i (lN (2 * N))) = 0 := (barN (barV_le _ _ _ _ _)).mp c_1
    obtain ⟨b1, b2, b3, b4, b5⟩ := barV_0 cB (by rw [lN_toInt (by omega)]; omega)
    rw [lN_toInt (by omega)] at b5
    have b6 := hz k hk
    obtain ⟨ei, hi0⟩ := nI_of0 b3
    have g0e : upd g 0 (if (barV (a 25 k) (a 26 k) lane i (lN (2 * N))) = 0 then g 0 else (barV (a 25 k) (a 26 k) lane i (lN (2 * N)))) = g := by rw [if_pos cB]; exact upd_id g 0
    rw [g0e] at hP hD
    refine lv_iconst (v := 0) hx hb dX2_pairsBarred_24 (by decide) ?_
    refine lv_istore (lv' := [(6, .int 0), (5, .int (if (barV ((a 25) k) ((a 26) k) lane i (lN (2 * N))) = 0 then 0 else (-10) - (barV ((a 25) k) ((a 26) k) lane i (lN (2 * N))))), (0, .ref o), (1, .int (nI k)), (2, .int lane), (3, .int i), (4, .int (nI N))]) hx hb dX2_pairsBarred_25 hl (by decide) rfl (fun ls hl => ?_)
    have loop1 : ∀ (f1 : Nat) (tt : Nat), tt ≤ 2 * N → 2 * N + 1 ≤ tt + f1 → allP n (fun t => a 27 (60 * k + cix i + t)) tt = true → ∀ (H : Heap) (locs : List Loc), va_P (dC, dI) clA (mW ct o q g a ++ ex) H → va_D A (mW ct o q g a ++ ex) → va_S A s.heap H locs → ∀ (ls : Array Slot), lv_has ls 7 [(6, .int (nI tt)), (4, .int (nI N)), (3, .int i), (1, .int (nI k)), (0, .ref o)] → W p l e (headSpec (ws_ yX2_pairsBarred cX2_pairsBarred 7 (some .int)) ({ frames := 2, cells := 0, slots := 0, locals := 48 })).room s m ([.ref o, .int (nI k), .int lane, .int i, .int (nI N)] : List Value).toArray below meth c H locs 0 0 (MQ below (va_Qi (fun (r : Int32) (u : (Nat → Int32) × (Nat → Nat → Int32)) => r = (if (barV ((a 25) k) ((a 26) k) lane i (lN (2 * N))) = 0 then (if (allP n (fun t => (a 27) (60 * k + cix i + t)) (2 * N)) = true then 0 else (-1)) else (-10) - (barV ((a 25) k) ((a 26) k) lane i (lN (2 * N)))) ∧ u = ((upd g 0 (if (barV ((a 25) k) ((a 26) k) lane i (lN (2 * N))) = 0 then 0 else (barV ((a 25) k) ((a 26) k) lane i (lN (2 * N))))), a)) (mB dC dI ct A ex o q) A) ([.ref o, .int (nI k), .int lane, .int i, .int (nI N)] : List Value).toArray s 0 0 A) (F0 m 27 ls []) := by
      intro f1
      induction f1 with
      | zero => intro tt ht hf hall; exact False.elim (by omega)
      | succ f1 ih1 =>
        intro tt ht hf hall H locs hP hD hS ls hl
        refine lv_iload hx hb dX2_pairsBarred_27 (lv_at hl 0 rfl) ?_
        refine lv_iconst (v := 2) hx hb dX2_pairsBarred_29 (by decide) ?_
        refine lv_iload hx hb dX2_pairsBarred_30 (lv_at hl 1 rfl) ?_
        refine lv_imul hx hb dX2_pairsBarred_32 ?_
        rw [nI_mul2 N]
        refine lv_icmp_ge (tgt := 69) hx hb dX2_pairsBarred_33 (by decide) (fun c_2 => ?_) (fun c_2 => ?_)
        · skip
          have hge : tt = (2 * N) := by exact Nat.le_antisymm (by omega) ((nI_leI (by omega) (by omega)).mp c_2)
          refine lv_aload_n hx hb dX2_pairsBarred_69 rfl (lv_at hl 4 rfl) ?_
          refine lv_iconst (v := 0) hx hb dX2_pairsBarred_70 (by decide) ?_
          refine va_calli (va_runV (As := [.int 0]) (rest := []) ⟨hx, hb, hml, hown, hts⟩ (metX2_refused l dC dI ct A ex o q g a 0 ) (cwV 1 hts (lw_V q1086 q1088 qs41 q74 q1089) rfl rfl rfl (by decide +kernel) ⟨Nat.le_of_ble_eq_true rfl, Nat.le_of_ble_eq_true rfl⟩) (mPV hK hP hD _) rfl rfl hl.1 rfl (lv_room (Nat.le_of_ble_eq_true rfl)) dX2_pairsBarred_71 ⟨Nat.zero_le _, Nat.zero_le _⟩) hS (fun q _ h => h) (fun q h => h) (fun r u t H1 locs ht hvm hw hB hz1 hk1 hS => ?_)
          obtain ⟨hw, hw2⟩ := hw
          have hw : r = 0 := hw
          subst hw
          subst hw2
          obtain ⟨hP, -, hD⟩ := hB
          rw [ht] at hP
          generalize H1 = H at hP hS ⊢
          have hP : va_P (dC, dI) clA (mW ct o q (upd g 0 0) a ++ ex) H := hP
          have hD : va_D A (mW ct o q (upd g 0 0) a ++ ex) := hD
          exact W.iret (v := 0) hx hb hr (fun t ht hW => ⟨⟨0, ((upd g 0 0), a), rfl, ⟨(by rw [if_pos cB, if_pos]; rw [← hge]; exact hall), (by rw [if_pos cB])⟩, by rw [ht]; exact hP, va_K.moved hW.alike hK, hD⟩, hS.F ht⟩) hS.2.2 dX2_pairsBarred_74
        · skip
          have hlt : tt < (2 * N) := by exact Nat.lt_of_not_le (fun z => c_2 ((nI_leI (by omega) (by omega)).mpr z))
          refine lv_aload_n hx hb dX2_pairsBarred_36 rfl (lv_at hl 4 rfl) ?_
          refine lv_aload_n hx hb dX2_pairsBarred_37 rfl (lv_at hl 4 rfl) ?_
          refine m_get (v := .ref (q 27)) hx hb hts hown hK hP 27 (by decide) rfl q1011 rfl dX2_pairsBarred_38 ?_
          refine lv_bipush (v := 60) hx hb dX2_pairsBarred_41 (by decide) ?_
          refine lv_iload_n hx hb dX2_pairsBarred_43 rfl (lv_at hl 3 rfl) ?_
          refine lv_imul hx hb dX2_pairsBarred_44 ?_
          refine lv_iload_n hx hb dX2_pairsBarred_45 rfl (lv_at hl 2 rfl) ?_
          refine lv_iadd hx hb dX2_pairsBarred_46 ?_
          refine lv_iload hx hb dX2_pairsBarred_47 (lv_at hl 0 rfl) ?_
          refine lv_iadd hx hb dX2_pairsBarred_49 ?_
          refine m_ild hx hb hK hP (mWa27 _ _ _ _ _ _) (a 27) rfl (60 * k + cix i + tt) (by rw [← ix_60t, ← ei]) (by omega) (by decide) dX2_pairsBarred_50 ?_
          refine vp_callSi ((va_runV (As := [.int ((a 27) (60 * k + cix i + tt))]) (rest := []) ⟨hx, hb, hml, hown, hts⟩ (metX2_noPerson l dC dI ct A ex o q g a ((a 27) (60 * k + cix i + tt)) n hn6 hn) (cwV 1 hts (lw_V q1122 q1124 qs48 q74 q1125) rfl rfl rfl (by decide +kernel) ⟨Nat.le_of_ble_eq_true rfl, Nat.le_of_ble_eq_true rfl⟩) (mPV hK hP hD _) rfl rfl hl.1 rfl (lv_room (Nat.le_of_ble_eq_true rfl)) dX2_pairsBarred_51 ⟨Nat.zero_le _, Nat.zero_le _⟩)).run (fun r hw => ?_)
          have hw : r = (b2i (!(inP ((a 27) (60 * k + cix i + tt)) n))) := hw
          subst hw
          refine bz_eq (tgt := 63) hx hb dX2_pairsBarred_54 (by decide) (fun c_3 => ?_) (fun c_3 => ?_)
          · skip
            refine lv_iinc (v := (nI (tt + 1))) (lv' := [(6, .int (nI (tt + 1))), (4, .int (nI N)), (3, .int i), (1, .int (nI k)), (0, .ref o)]) hx hb dX2_pairsBarred_63 hl (k := 0) rfl (nI_1 tt) (by decide) rfl (fun ls hl => ?_)
            refine lv_goto (tgt := 27) hx hb dX2_pairsBarred_66 (by decide) ?_
            exact ih1 (tt + 1) (by omega) (by omega) (by show (_ && _) = true; rw [hall]; simpa using c_3) _ _ hP hD hS _ (lv_sub hl [0, 1, 2, 3, 4] rfl)
          · skip
            refine lv_aload_n hx hb dX2_pairsBarred_57 rfl (lv_at hl 4 rfl) ?_
            refine lv_iconst (v := (-1)) hx hb dX2_pairsBarred_58 (by decide) ?_
            refine va_calli (va_runV (As := [.int (-1)]) (rest := []) ⟨hx, hb, hml, hown, hts⟩ (metX2_refused l dC dI ct A ex o q g a (-1) ) (cwV 1 hts (lw_V q1086 q1088 qs41 q74 q1089) rfl rfl rfl (by decide +kernel) ⟨Nat.le_of_ble_eq_true rfl, Nat.le_of_ble_eq_true rfl⟩) (mPV hK hP hD _) rfl rfl hl.1 rfl (lv_room (Nat.le_of_ble_eq_true rfl)) dX2_pairsBarred_59 ⟨Nat.zero_le _, Nat.zero_le _⟩) hS (fun q _ h => h) (fun q h => h) (fun r u t H1 locs ht hvm hw hB hz1 hk1 hS => ?_)
            obtain ⟨hw, hw2⟩ := hw
            have hw : r = (-1) := hw
            subst hw
            subst hw2
            obtain ⟨hP, -, hD⟩ := hB
            rw [ht] at hP
            generalize H1 = H at hP hS ⊢
            have hP : va_P (dC, dI) clA (mW ct o q (upd g 0 0) a ++ ex) H := hP
            have hD : va_D A (mW ct o q (upd g 0 0) a ++ ex) := hD
            exact W.iret (v := (-1)) hx hb hr (fun t ht hW => ⟨⟨(-1), ((upd g 0 0), a), rfl, ⟨(by rw [if_pos cB, if_neg]; rw [allP_not (t := tt) (by simpa using c_3) hlt]; decide), (by rw [if_pos cB])⟩, by rw [ht]; exact hP, va_K.moved hW.alike hK, hD⟩, hS.F ht⟩) hS.2.2 dX2_pairsBarred_62
    exact loop1 (2 * N + 1) 0 (by omega) (by omega) rfl _ _ hP hD hS _ (lv_sub hl [0, 6, 5, 3, 2] rfl)
  · skip
    refine lv_iload hx hb dX2_pairsBarred_21 (lv_at hl 0 rfl) ?_
    exact W.iret (v := (if (barV ((a 25) k) ((a 26) k) lane i (lN (2 * N))) = 0 then 0 else (-10) - (barV ((a 25) k) ((a 26) k) lane i (lN (2 * N))))) hx hb hr (fun t ht hW => ⟨⟨(if (barV ((a 25) k) ((a 26) k) lane i (lN (2 * N))) = 0 then 0 else (-10) - (barV ((a 25) k) ((a 26) k) lane i (lN (2 * N)))), ((upd g 0 (if (barV ((a 25) k) ((a 26) k) lane i (lN (2 * N))) = 0 then (g 0) else (barV ((a 25) k) ((a 26) k) lane i (lN (2 * N))))), a), rfl, ⟨(by have cB : ¬ (barV (a 25 k) (a 26 k) lane i (lN (2 * N))) = 0 := fun z => c_1 ((barN (barV_le _ _ _ _ _)).mpr z); rw [if_neg cB, if_neg cB]), (by have cB : ¬ (barV (a 25 k) (a 26 k) lane i (lN (2 * N))) = 0 := fun z => c_1 ((barN (barV_le _ _ _ _ _)).mpr z); rw [if_neg cB, if_neg cB])⟩, by rw [ht]; exact hP, va_K.moved hW.alike hK, hD⟩, hS.F ht⟩) hS.2.2 dX2_pairsBarred_23
set_option maxHeartbeats 4000000 in
set_option maxRecDepth 100000 in
theorem metX2_noCell (l : Launch) (dC : Nat → ClassId) (dI : Nat → Nat → Nat) (ct : Nat → ClassId) (A : Nat → Prop) (ex : va_W) (o : Nat) (q : Nat → Nat) (g : Nat → Int32) (a : Nat → Nat → Int32) (x : Int32) (i : Int32) (k : Nat) (hk : k < 4) (ek : x = nI k) : Met l yX2_noCell (ws_ yX2_noCell cX2_noCell 3 (some .int)) ({ frames := 1, cells := 0, slots := 0, locals := 25 }) (mPre dC dI ct A ex o q g a [.ref o, .int x, .int i]) (vp_Si (fun r => r = (nocV ((a 25) k) i))) 0 0 (fun _ => False) := by
  refine Met.ofW (cc := cX2_noCell) (maxL := 3) (ret := (some .int)) (by decide) rfl ?_
  intro p e s m args below meth c s₁ B hml hv
  obtain ⟨rfl, hP, hK, hD⟩ := hv
  have hx := B.exec
  have hb := B.bytes
  have hr := B.returns
  have hts := atoms_spec (ws := ws_ yX2_noCell cX2_noCell 3 (some .int)) B.pre
  have hts : ∀ w ∈ lw_all, w.before _ s = true := fun w h => hts w (List.mem_cons_of_mem _ h)
  have hown : s.vm.findClass RX2 = some m.cls := findClass_of_methodNamed B.named
  have hlocks := B.notSynchronized
  have hS : va_S A s.heap s.heap [] := va_S.rf
  have hl := lv_entry ([.ref o, .int x, .int i]) (n := 3) (Nat.le_of_ble_eq_true rfl)
  rw [lg_entry_eq]
  generalize (lg_sl ([.ref o, .int x, .int i]) ++ List.replicate (3 - (lg_sl ([.ref o, .int x, .int i])).length) Slot.unset).toArray = ls at hl ⊢
  have hl : lv_has ls 3 [(0, .ref o), (1, .int x), (2, .int i)] := hl
  subst ek
  refine lv_aload_n hx hb dX2_noCell_0 rfl (lv_at hl 0 rfl) ?_
  refine m_get (v := .ref (q 25)) hx hb hts hown hK hP 25 (by decide) rfl q1009 rfl dX2_noCell_1 ?_
  refine lv_iload_n hx hb dX2_noCell_4 rfl (lv_at hl 1 rfl) ?_
  refine m_ild hx hb hK hP (mWa25 _ _ _ _ _ _) (a 25) rfl k rfl (by omega) (by decide) dX2_noCell_5 ?_
  refine lv_if_ge (tgt := 13) hx hb dX2_noCell_6 (by decide) (fun c_1 => ?_) (fun c_1 => ?_)
  · skip
    have c1 := not_neg c_1
    refine lv_iload_n hx hb dX2_noCell_13 rfl (lv_at hl 2 rfl) ?_
    refine lv_i2l (v := (Int32.toInt64 i)) hx hb dX2_noCell_14 rfl ?_
    refine lv_lconst (v := 0) hx hb dX2_noCell_15 (by decide) ?_
    refine lv_aload_n hx hb dX2_noCell_16 rfl (lv_at hl 0 rfl) ?_
    refine m_get (v := .ref (q 25)) hx hb hts hown hK hP 25 (by decide) rfl q1009 rfl dX2_noCell_17 ?_
    refine lv_iload_n hx hb dX2_noCell_20 rfl (lv_at hl 1 rfl) ?_
    refine m_ild hx hb hK hP (mWa25 _ _ _ _ _ _) (a 25) rfl k rfl (by omega) (by decide) dX2_noCell_21 ?_
    refine lv_i2l (v := (Int32.toInt64 ((a 25) k))) hx hb dX2_noCell_22 rfl ?_
    refine lv_lconst (v := 1) hx hb dX2_noCell_23 (by decide) ?_
    refine lv_lsub hx hb dX2_noCell_24 ?_
    refine vp_callSi ((va_runS (As := [.long (Int32.toInt64 i), .long 0, .long ((Int32.toInt64 ((a 25) k)) - 1)]) (rest := []) ⟨hx, hb, hml, hown, hts⟩ (metX2_in l (Int32.toInt64 i) 0 ((Int32.toInt64 ((a 25) k)) - 1) ) (va_cwS 3 hts (lw_S q1083 q1084 q74 q1085) rfl rfl rfl (by decide +kernel) ⟨Nat.le_of_ble_eq_true rfl, Nat.le_of_ble_eq_true rfl⟩) (pcS _) rfl rfl hl.1 rfl (lv_room (Nat.le_of_ble_eq_true rfl)) dX2_noCell_25 ⟨Nat.zero_le _, Nat.zero_le _⟩)).run (fun r hw => ?_)
    have hw : r = (b2i (lin (Int32.toInt64 i) 0 ((Int32.toInt64 ((a 25) k)) - 1))) := hw
    subst hw
    refine bz_eq (tgt := 35) hx hb dX2_noCell_28 (by decide) (fun c_2 => ?_) (fun c_2 => ?_)
    · skip
      rw [lin_size _ _ c_1] at c_2
      refine lv_iconst (v := 3) hx hb dX2_noCell_35 (by decide) ?_
      exact W.iret (v := 3) hx hb hr (fun t ht hW => ⟨3, rfl, (by first | rfl | (simp [nocV, c_1, c1, c_2]; done)), ht⟩) (fun q h => by cases h) dX2_noCell_36
    · skip
      rw [lin_size _ _ c_1] at c_2
      refine lv_iconst (v := 0) hx hb dX2_noCell_31 (by decide) ?_
      refine lv_goto (tgt := 36) hx hb dX2_noCell_32 (by decide) ?_
      exact W.iret (v := 0) hx hb hr (fun t ht hW => ⟨0, rfl, (by first | rfl | (simp [nocV, c_1, c1, c_2]; done)), ht⟩) (fun q h => by cases h) dX2_noCell_36
  · skip
    have c1 := neg_of c_1
    refine lv_iconst (v := 1) hx hb dX2_noCell_9 (by decide) ?_
    refine lv_goto (tgt := 36) hx hb dX2_noCell_10 (by decide) ?_
    exact W.iret (v := 1) hx hb hr (fun t ht hW => ⟨1, rfl, (by first | rfl | (simp [nocV, c_1, c1]; done)), ht⟩) (fun q h => by cases h) dX2_noCell_36
