/-! LENT YOUTHS: put, cell -/
theorem inL {K : Nat} (h : K < 3) : inP (nI K) 3 = true := by rw [inP_nI (by omega)]; exact decide_eq_true h
set_option maxHeartbeats 4000000 in
set_option maxRecDepth 100000 in
theorem metX0_put_bad (l : Launch) (dC : Nat → ClassId) (dI : Nat → Nat → Nat) (ct : Nat → ClassId) (A : Nat → Prop) (ex : va_W) (o : Nat) (q : Nat → Nat) (ql qs : Nat) (md : Int32) (qe n : Nat) (y : Nat → Nat) (g : Nat → Int32) (a : Nat → Nat → Int32) (htr : l.stackTraces = false) (k : Int32) (i : Int32) (v : Int32) (hk4 : inP k 4 = false) : Met l yX0_put (wsW_ yX0_put cX0_put 7 (some .int) [((14 : Nat), (100 : Nat), (101 : Nat), (179 : Nat)), ((14 : Nat), (100 : Nat), (109 : Nat), (183 : Nat))]) ({ frames := 16, cells := 8, slots := 3000, locals := 12000 }) (sPre dC dI ct A ex o q (ql, qs, md, qe, n) y g a [.ref o, .int k, .int i, .int v]) (va_Qi (fun (r : Int32) (u : (Nat → Int32) × (Nat → Nat → Int32)) => r = (-1) ∧ u = ((upd g 0 0), a)) (fun u t => gB dC dI ct A ex o q (ql, qs, md, qe, n) y u t) A) 8 3000 A := by
  refine cx_MetW (cc := cX0_put) (maxL := 7) (ret := (some .int)) (hh := [((14 : Nat), (100 : Nat), (101 : Nat), (179 : Nat)), ((14 : Nat), (100 : Nat), (109 : Nat), (183 : Nat))]) (by decide) rfl ?_
  intro p e s m args below meth c s₁ B hml het hv
  obtain ⟨rfl, hP, hK, hD, hE, hE9, hA, hst, hI9⟩ := hv
  have hN9 := hE9.now
  have hx := B.exec
  have hb := B.bytes
  have hr := B.returns
  have hts := atoms_spec (ws := wsW_ yX0_put cX0_put 7 (some .int) [((14 : Nat), (100 : Nat), (101 : Nat), (179 : Nat)), ((14 : Nat), (100 : Nat), (109 : Nat), (183 : Nat))]) B.pre
  have hts : ∀ w ∈ lw_all, w.before _ s = true := fun w h => hts w (List.mem_cons_of_mem _ h)
  have hown : s.vm.findClass RX0 = some m.cls := findClass_of_methodNamed B.named
  have hlocks := B.notSynchronized
  have hS : va_S A s.heap s.heap [] := va_S.rf
  have hl := lv_entry ([.ref o, .int k, .int i, .int v]) (n := 7) (Nat.le_of_ble_eq_true rfl)
  rw [lg_entry_eq]
  generalize (lg_sl ([.ref o, .int k, .int i, .int v]) ++ List.replicate (7 - (lg_sl ([.ref o, .int k, .int i, .int v])).length) Slot.unset).toArray = ls at hl ⊢
  have hl : lv_has ls 7 [(0, .ref o), (1, .int k), (2, .int i), (3, .int v)] := hl
  refine lv_aload_n hx hb dX0_put_0 rfl (lv_at hl 0 rfl) ?_
  refine lv_iconst (v := 0) hx hb dX0_put_1 (by decide) ?_
  refine g_put (v := 0) hx hb hts hown hK hP hD hS 0 0 (by decide) rfl q144 rfl rfl (by decide +kernel) dX0_put_2 (fun H locs hP hD hS => ?_)
  refine lv_iload_n hx hb dX0_put_5 rfl (lv_at hl 1 rfl) ?_
  refine vp_callSi ((va_runS (As := [.int k]) (rest := []) ⟨hx, hb, hml, hown, hts⟩ (metX0_isSheet l k ) (va_cwS 1 hts (lw_S q376 q377 q69 q378) rfl rfl rfl (by decide +kernel) ⟨Nat.le_of_ble_eq_true rfl, Nat.le_of_ble_eq_true rfl⟩) (pcS _) rfl rfl hl.1 rfl (lv_room (Nat.le_of_ble_eq_true rfl)) dX0_put_6 ⟨Nat.le_of_ble_eq_true rfl, Nat.le_of_ble_eq_true rfl⟩)).run (fun r hw => ?_)
  have hw : r = (b2i (inP k 4)) := hw
  subst hw
  refine bz_ne (tgt := 14) hx hb dX0_put_9 (by decide) (fun c_1 => ?_) (fun c_1 => ?_)
  · skip
    exact False.elim (by rw [hk4] at c_1; cases c_1)
  · skip
    refine lv_iconst (v := (-1)) hx hb dX0_put_12 (by decide) ?_
    refine W.widen (k := 8) (n := 3000) (Nat.le_of_ble_eq_true rfl) (Nat.le_of_ble_eq_true rfl) ?_
    exact W.iret (v := (-1)) hx hb hr (fun t ht hW => ⟨⟨(-1), ((upd g 0 0), a), rfl, ⟨(by first | rfl | (simp [c_1]; done)), rfl⟩, by rw [ht]; exact hP, va_K.moved hW.alike hK, hD⟩, hS.F ht⟩) hS.2.2 dX0_put_13
set_option maxHeartbeats 4000000 in
set_option maxRecDepth 100000 in
theorem metX0_put_n (l : Launch) (dC : Nat → ClassId) (dI : Nat → Nat → Nat) (ct : Nat → ClassId) (A : Nat → Prop) (ex : va_W) (o : Nat) (q : Nat → Nat) (ql qs : Nat) (md : Int32) (qe n : Nat) (y : Nat → Nat) (g : Nat → Int32) (a : Nat → Nat → Int32) (htr : l.stackTraces = false) (K : Nat) (i : Int32) (v : Int32) (j0 : Nat) (pl : Nat → Nat) (hj0 : ex[j0]? = some (qs, .inl (ct 5, 4, .inr (.inr (.inr (.inr (fun j => some (pl j)))))))) (K : Nat) (hK4 : K < 4) (j1 : Nat) (hj1 : ex[j1]? = some (pl K, .inr (6, [.null]))) : Met l yX0_put (wsW_ yX0_put cX0_put 7 (some .int) [((14 : Nat), (100 : Nat), (101 : Nat), (179 : Nat)), ((14 : Nat), (100 : Nat), (109 : Nat), (183 : Nat))]) ({ frames := 16, cells := 8, slots := 3000, locals := 12000 }) (sPre dC dI ct A ex o q (ql, qs, md, qe, n) y g a [.ref o, .int (nI K), .int i, .int v]) (va_Qi (fun (r : Int32) (u : (Nat → Int32) × (Nat → Nat → Int32)) => r = (-11) ∧ u = ((upd g 0 1), a)) (fun u t => gB dC dI ct A ex o q (ql, qs, md, qe, n) y u t) A) 8 3000 A := by
  refine cx_MetW (cc := cX0_put) (maxL := 7) (ret := (some .int)) (hh := [((14 : Nat), (100 : Nat), (101 : Nat), (179 : Nat)), ((14 : Nat), (100 : Nat), (109 : Nat), (183 : Nat))]) (by decide) rfl ?_
  intro p e s m args below meth c s₁ B hml het hv
  obtain ⟨rfl, hP, hK, hD, hE, hE9, hA, hst, hI9⟩ := hv
  have hN9 := hE9.now
  have hx := B.exec
  have hb := B.bytes
  have hr := B.returns
  have hts := atoms_spec (ws := wsW_ yX0_put cX0_put 7 (some .int) [((14 : Nat), (100 : Nat), (101 : Nat), (179 : Nat)), ((14 : Nat), (100 : Nat), (109 : Nat), (183 : Nat))]) B.pre
  have hts : ∀ w ∈ lw_all, w.before _ s = true := fun w h => hts w (List.mem_cons_of_mem _ h)
  have hown : s.vm.findClass RX0 = some m.cls := findClass_of_methodNamed B.named
  have hlocks := B.notSynchronized
  have hS : va_S A s.heap s.heap [] := va_S.rf
  have hl := lv_entry ([.ref o, .int (nI K), .int i, .int v]) (n := 7) (Nat.le_of_ble_eq_true rfl)
  rw [lg_entry_eq]
  generalize (lg_sl ([.ref o, .int (nI K), .int i, .int v]) ++ List.replicate (7 - (lg_sl ([.ref o, .int (nI K), .int i, .int v])).length) Slot.unset).toArray = ls at hl ⊢
  have hl : lv_has ls 7 [(0, .ref o), (1, .int (nI K)), (2, .int i), (3, .int v)] := hl
  refine lv_aload_n hx hb dX0_put_0 rfl (lv_at hl 0 rfl) ?_
  refine lv_iconst (v := 0) hx hb dX0_put_1 (by decide) ?_
  refine g_put (v := 0) hx hb hts hown hK hP hD hS 0 0 (by decide) rfl q144 rfl rfl (by decide +kernel) dX0_put_2 (fun H locs hP hD hS => ?_)
  refine lv_iload_n hx hb dX0_put_5 rfl (lv_at hl 1 rfl) ?_
  refine vp_callSi ((va_runS (As := [.int (nI K)]) (rest := []) ⟨hx, hb, hml, hown, hts⟩ (metX0_isSheet l (nI K) ) (va_cwS 1 hts (lw_S q376 q377 q69 q378) rfl rfl rfl (by decide +kernel) ⟨Nat.le_of_ble_eq_true rfl, Nat.le_of_ble_eq_true rfl⟩) (pcS _) rfl rfl hl.1 rfl (lv_room (Nat.le_of_ble_eq_true rfl)) dX0_put_6 ⟨Nat.le_of_ble_eq_true rfl, Nat.le_of_ble_eq_true rfl⟩)).run (fun r hw => ?_)
  have hw : r = (b2i (inP (nI K) 4)) := hw
  subst hw
  refine bz_ne (tgt := 14) hx hb dX0_put_9 (by decide) (fun c_1 => ?_) (fun c_1 => ?_)
  · skip
    refine lv_aload_n hx hb dX0_put_14 rfl (lv_at hl 0 rfl) ?_
    refine g_get (v := .ref qs) hx hb hts hown hK hP 25 (by decide) rfl q174 rfl dX0_put_15 ?_
    refine lv_iload_n hx hb dX0_put_18 rfl (lv_at hl 1 rfl) ?_
    refine s_pla hx hb hK hP (xps n + j0) ((xG_ex j0).trans hj0) K hK4 dX0_put_19 ?_
    refine s_has hx hb hts hown hK hP hE (xps n + j1) ((xG_ex j1).trans hj1) dX0_put_20 ?_
    refine lv_astoreN (lv' := [(6, .null), (0, .ref o), (1, .int (nI K)), (2, .int i), (3, .int v)]) hx hb dX0_put_23 hl (by decide) rfl (fun ls hl => ?_)
    refine lv_aloadN hx hb dX0_put_25 (lv_at hl 0 rfl) ?_
    refine lv_instN hx hb dX0_put_27 ?_
    refine lv_if_eq (tgt := 49) hx hb dX0_put_30 (by decide) (fun c_2 => ?_) (fun c_2 => ?_)
    · skip
      refine lv_aload_n hx hb dX0_put_49 rfl (lv_at hl 1 rfl) ?_
      refine g_get (v := .ref qs) hx hb hts hown hK hP 25 (by decide) rfl q174 rfl dX0_put_50 ?_
      refine lv_iload_n hx hb dX0_put_53 rfl (lv_at hl 2 rfl) ?_
      refine s_pla hx hb hK hP (xps n + j0) ((xG_ex j0).trans hj0) K hK4 dX0_put_54 ?_
      refine s_has hx hb hts hown hK hP hE (xps n + j1) ((xG_ex j1).trans hj1) dX0_put_55 ?_
      refine lv_astoreN (lv' := [(6, .null), (0, .ref o), (1, .int (nI K)), (2, .int i), (3, .int v)]) hx hb dX0_put_58 hl (by decide) rfl (fun ls hl => ?_)
      refine lv_aloadN hx hb dX0_put_60 (lv_at hl 0 rfl) ?_
      refine lv_instN hx hb dX0_put_62 ?_
      refine lv_if_eq (tgt := 84) hx hb dX0_put_65 (by decide) (fun c_3 => ?_) (fun c_3 => ?_)
      · skip
        refine lv_aload_n hx hb dX0_put_84 rfl (lv_at hl 1 rfl) ?_
        refine g_get (v := .ref qs) hx hb hts hown hK hP 25 (by decide) rfl q174 rfl dX0_put_85 ?_
        refine lv_iload_n hx hb dX0_put_88 rfl (lv_at hl 2 rfl) ?_
        refine s_pla hx hb hK hP (xps n + j0) ((xG_ex j0).trans hj0) K hK4 dX0_put_89 ?_
        refine s_has hx hb hts hown hK hP hE (xps n + j1) ((xG_ex j1).trans hj1) dX0_put_90 ?_
        refine lv_castN hx hb dX0_put_93 ?_
        refine lv_iload_n hx hb dX0_put_96 rfl (lv_at hl 3 rfl) ?_
        refine lv_iload_n hx hb dX0_put_97 rfl (lv_at hl 4 rfl) ?_
        refine a_iastoreN hx hb (hml.trans hl.1.symm) htr hN9 (nst_lo hst hS) (Nat.le_of_ble_eq_true rfl) (Nat.le_of_ble_eq_true rfl) (Nat.le_of_ble_eq_true rfl) (Nat.le_of_ble_eq_true rfl) dX0_put_98 (fun H ce h1 h2 h3 h4 => ?_)
        generalize Array.size _ = x9 at h2 ⊢
        have hP := h1.P hP
        have hS := h1.S hS
        refine WT.caught (own := "LentYouths") hown h2 h4 (x := ⟨14, 100, 101, 179⟩) (rest := cxT [(14, 100, 109, 183)]) (nm := "java/lang/NullPointerException") ⟨rfl, by decide, hts _ q318⟩ h3 (va_asg _ _) [] (fun z hz => absurd hz List.not_mem_nil) het ?_
        refine W.eq (g2 := F0 m 101 ls [.ref x9]) rfl ?_
        refine lv_astore (lv' := [(4, .ref x9), (6, .null), (0, .ref o), (1, .int (nI K)), (2, .int i), (3, .int v)]) hx hb dX0_put_101 hl (by decide) rfl (fun ls hl => ?_)
        refine lv_aload_n hx hb dX0_put_103 rfl (lv_at hl 2 rfl) ?_
        refine lv_iconst (v := 1) hx hb dX0_put_104 (by decide) ?_
        refine va_calli (va_runV (As := [.int 1]) (rest := []) ⟨hx, hb, hml, hown, hts⟩ (metX0_faulty l dC dI ct A (peW ct o qe n y a ++ ex) o q ql qs md qe n (upd g 0 0) a 1 ) (cwV 1 hts (lw_V q581 q583 qs12 q69 q584) rfl rfl rfl (by decide +kernel) ⟨Nat.le_of_ble_eq_true rfl, Nat.le_of_ble_eq_true rfl⟩) (xPV hK hP hD hE _) rfl rfl hl.1 rfl (lv_room (Nat.le_of_ble_eq_true rfl)) dX0_put_105 ⟨Nat.le_of_ble_eq_true rfl, Nat.le_of_ble_eq_true rfl⟩) hS (fun q _ h => h) (fun q h => h) (fun r u t H1 locs ht hvm hw hB hz1 hk1 hS => ?_)
        obtain ⟨hw, hw2⟩ := hw
        have hw : r = ((-10) - 1) := hw
        subst hw
        subst hw2
        obtain ⟨hP, -, hD⟩ := hB
        rw [ht] at hP
        generalize H1 = H at hP hS ⊢
        have hP : va_P (dC, dI) clA (xG ct o q (ql, qs, md, qe, n) y (upd g 0 1) a ex) H := hP
        have hD : va_D A (xG ct o q (ql, qs, md, qe, n) y (upd g 0 1) a ex) := hD
        refine W.widen (k := 8) (n := 3000) (Nat.le_of_ble_eq_true rfl) (Nat.le_of_ble_eq_true rfl) ?_
        exact W.iret (v := ((-10) - 1)) hx hb hr (fun t ht hW => ⟨⟨((-10) - 1), ((upd g 0 1), a), rfl, ⟨(by first | rfl | (simp [c_1, c_2, c_3]; done)), rfl⟩, by rw [ht]; exact hP, va_K.moved hW.alike hK, hD⟩, hS.F ht⟩) hS.2.2 dX0_put_108
      · skip
        exact absurd c_3 (by decide)
    · skip
      exact absurd c_2 (by decide)
  · skip
    exact False.elim (by rw [inK hK4] at c_1; cases c_1)
set_option maxHeartbeats 4000000 in
set_option maxRecDepth 100000 in
theorem metX0_put_b (l : Launch) (dC : Nat → ClassId) (dI : Nat → Nat → Nat) (ct : Nat → ClassId) (A : Nat → Prop) (ex : va_W) (o : Nat) (q : Nat → Nat) (ql qs : Nat) (md : Int32) (qe n : Nat) (y : Nat → Nat) (g : Nat → Int32) (a : Nat → Nat → Int32) (htr : l.stackTraces = false) (K : Nat) (I : Nat) (v : Int32) (j0 : Nat) (pl : Nat → Nat) (hj0 : ex[j0]? = some (qs, .inl (ct 5, 4, .inr (.inr (.inr (.inr (fun j => some (pl j)))))))) (j2 ad N : Nat) (f : Nat → Int32) (hj2 : ex[j2]? = some (ad, .inl (ct 2, N, .inl f))) (hN : N ≤ 60) (K : Nat) (hK4 : K < 4) (j1 : Nat) (hj1 : ex[j1]? = some (pl K, .inr (6, [.ref ad]))) (hIN : I < N) : Met l yX0_put (wsW_ yX0_put cX0_put 7 (some .int) [((14 : Nat), (100 : Nat), (101 : Nat), (179 : Nat)), ((14 : Nat), (100 : Nat), (109 : Nat), (183 : Nat))]) ({ frames := 16, cells := 8, slots := 3000, locals := 12000 }) (sPre dC dI ct A ex o q (ql, qs, md, qe, n) y g a [.ref o, .int (nI K), .int (nI I), .int v]) (va_Qi (fun (r : Int32) (u : (Nat → Int32) × (Nat → Nat → Int32)) => r = 1 ∧ u = ((upd g 0 0), a)) (fun u t => gB dC dI ct A (ex.set j2 (ad, .inl (ct 2, N, .inl (upd f I ((v).toInt8.toInt32))))) o q (ql, qs, md, qe, n) y u t) A) 8 3000 A := by
  refine cx_MetW (cc := cX0_put) (maxL := 7) (ret := (some .int)) (hh := [((14 : Nat), (100 : Nat), (101 : Nat), (179 : Nat)), ((14 : Nat), (100 : Nat), (109 : Nat), (183 : Nat))]) (by decide) rfl ?_
  intro p e s m args below meth c s₁ B hml het hv
  obtain ⟨rfl, hP, hK, hD, hE, hE9, hA, hst, hI9⟩ := hv
  have hN9 := hE9.now
  have hx := B.exec
  have hb := B.bytes
  have hr := B.returns
  have hts := atoms_spec (ws := wsW_ yX0_put cX0_put 7 (some .int) [((14 : Nat), (100 : Nat), (101 : Nat), (179 : Nat)), ((14 : Nat), (100 : Nat), (109 : Nat), (183 : Nat))]) B.pre
  have hts : ∀ w ∈ lw_all, w.before _ s = true := fun w h => hts w (List.mem_cons_of_mem _ h)
  have hown : s.vm.findClass RX0 = some m.cls := findClass_of_methodNamed B.named
  have hlocks := B.notSynchronized
  have hS : va_S A s.heap s.heap [] := va_S.rf
  have hl := lv_entry ([.ref o, .int (nI K), .int (nI I), .int v]) (n := 7) (Nat.le_of_ble_eq_true rfl)
  rw [lg_entry_eq]
  generalize (lg_sl ([.ref o, .int (nI K), .int (nI I), .int v]) ++ List.replicate (7 - (lg_sl ([.ref o, .int (nI K), .int (nI I), .int v])).length) Slot.unset).toArray = ls at hl ⊢
  have hl : lv_has ls 7 [(0, .ref o), (1, .int (nI K)), (2, .int (nI I)), (3, .int v)] := hl
  refine lv_aload_n hx hb dX0_put_0 rfl (lv_at hl 0 rfl) ?_
  refine lv_iconst (v := 0) hx hb dX0_put_1 (by decide) ?_
  refine g_put (v := 0) hx hb hts hown hK hP hD hS 0 0 (by decide) rfl q144 rfl rfl (by decide +kernel) dX0_put_2 (fun H locs hP hD hS => ?_)
  refine lv_iload_n hx hb dX0_put_5 rfl (lv_at hl 1 rfl) ?_
  refine vp_callSi ((va_runS (As := [.int (nI K)]) (rest := []) ⟨hx, hb, hml, hown, hts⟩ (metX0_isSheet l (nI K) ) (va_cwS 1 hts (lw_S q376 q377 q69 q378) rfl rfl rfl (by decide +kernel) ⟨Nat.le_of_ble_eq_true rfl, Nat.le_of_ble_eq_true rfl⟩) (pcS _) rfl rfl hl.1 rfl (lv_room (Nat.le_of_ble_eq_true rfl)) dX0_put_6 ⟨Nat.le_of_ble_eq_true rfl, Nat.le_of_ble_eq_true rfl⟩)).run (fun r hw => ?_)
  have hw : r = (b2i (inP (nI K) 4)) := hw
  subst hw
  refine bz_ne (tgt := 14) hx hb dX0_put_9 (by decide) (fun c_1 => ?_) (fun c_1 => ?_)
  · skip
    refine lv_aload_n hx hb dX0_put_14 rfl (lv_at hl 0 rfl) ?_
    refine g_get (v := .ref qs) hx hb hts hown hK hP 25 (by decide) rfl q174 rfl dX0_put_15 ?_
    refine lv_iload_n hx hb dX0_put_18 rfl (lv_at hl 1 rfl) ?_
    refine s_pla hx hb hK hP (xps n + j0) ((xG_ex j0).trans hj0) K hK4 dX0_put_19 ?_
    refine s_has hx hb hts hown hK hP hE (xps n + j1) ((xG_ex j1).trans hj1) dX0_put_20 ?_
    refine lv_astore (lv' := [(6, .ref ad), (0, .ref o), (1, .int (nI K)), (2, .int (nI I)), (3, .int v)]) hx hb dX0_put_23 hl (by decide) rfl (fun ls hl => ?_)
    refine lv_aload hx hb dX0_put_25 (lv_at hl 0 rfl) ?_
    refine a_instY hx hb hown (hts _ q390) hP (xps n + j2) ((xG_ex j2).trans hj2) (a_nmb hK) dX0_put_27 ?_
    refine lv_if_eq (tgt := 49) hx hb dX0_put_30 (by decide) (fun c_2 => ?_) (fun c_2 => ?_)
    · skip
      exact absurd c_2 (by decide)
    · skip
      refine lv_aload hx hb dX0_put_33 (lv_at hl 0 rfl) ?_
      refine va_castA hx hb hown (hts _ q390) hP (xps n + j2) ((xG_ex j2).trans hj2) (a_nmb hK) dX0_put_35 ?_
      refine lv_astore (lv' := [(4, .ref ad), (6, .ref ad), (0, .ref o), (1, .int (nI K)), (2, .int (nI I)), (3, .int v)]) hx hb dX0_put_38 hl (by decide) rfl (fun ls hl => ?_)
      refine lv_aload hx hb dX0_put_40 (lv_at hl 0 rfl) ?_
      refine lv_iload_n hx hb dX0_put_42 rfl (lv_at hl 4 rfl) ?_
      refine lv_iload_n hx hb dX0_put_43 rfl (lv_at hl 5 rfl) ?_
      refine lv_i2b (v := (v).toInt8.toInt32) hx hb dX0_put_44 rfl ?_
      refine ar_bst (x := ((v).toInt8.toInt32)) hx hb hK hP hD hS (xps n + j2) 2 ((xG_ex j2).trans hj2) rfl I rfl hIN (by omega) (narB_c _) dX0_put_45 (fun H locs hP hD hS => ?_)
      rw [xG_exs] at hP hD
      refine lv_goto (tgt := 99) hx hb dX0_put_46 (by decide) ?_
      refine lv_iconst (v := 1) hx hb dX0_put_99 (by decide) ?_
      refine W.widen (k := 8) (n := 3000) (Nat.le_of_ble_eq_true rfl) (Nat.le_of_ble_eq_true rfl) ?_
      exact W.iret (v := 1) hx hb hr (fun t ht hW => ⟨⟨1, ((upd g 0 0), a), rfl, ⟨(by first | rfl | (simp [c_1, c_2]; done)), rfl⟩, by rw [ht]; exact hP, va_K.moved hW.alike hK, hD⟩, hS.F ht⟩) hS.2.2 dX0_put_100
  · skip
    exact False.elim (by rw [inK hK4] at c_1; cases c_1)
set_option maxHeartbeats 4000000 in
set_option maxRecDepth 100000 in
theorem metX0_put_xb (l : Launch) (dC : Nat → ClassId) (dI : Nat → Nat → Nat) (ct : Nat → ClassId) (A : Nat → Prop) (ex : va_W) (o : Nat) (q : Nat → Nat) (ql qs : Nat) (md : Int32) (qe n : Nat) (y : Nat → Nat) (g : Nat → Int32) (a : Nat → Nat → Int32) (htr : l.stackTraces = false) (K : Nat) (i : Int32) (v : Int32) (j0 : Nat) (pl : Nat → Nat) (hj0 : ex[j0]? = some (qs, .inl (ct 5, 4, .inr (.inr (.inr (.inr (fun j => some (pl j)))))))) (j2 ad N : Nat) (f : Nat → Int32) (hj2 : ex[j2]? = some (ad, .inl (ct 2, N, .inl f))) (hN : N ≤ 60) (K : Nat) (hK4 : K < 4) (j1 : Nat) (hj1 : ex[j1]? = some (pl K, .inr (6, [.ref ad]))) (hout : i < 0 ∨ N ≤ i.toNatClampNeg) : Met l yX0_put (wsW_ yX0_put cX0_put 7 (some .int) [((14 : Nat), (100 : Nat), (101 : Nat), (179 : Nat)), ((14 : Nat), (100 : Nat), (109 : Nat), (183 : Nat))]) ({ frames := 16, cells := 8, slots := 3000, locals := 12000 }) (sPre dC dI ct A ex o q (ql, qs, md, qe, n) y g a [.ref o, .int (nI K), .int i, .int v]) (va_Qi (fun (r : Int32) (u : (Nat → Int32) × (Nat → Nat → Int32)) => r = (-13) ∧ u = ((upd g 0 3), a)) (fun u t => gB dC dI ct A ex o q (ql, qs, md, qe, n) y u t) A) 8 3000 A := by
  refine cx_MetW (cc := cX0_put) (maxL := 7) (ret := (some .int)) (hh := [((14 : Nat), (100 : Nat), (101 : Nat), (179 : Nat)), ((14 : Nat), (100 : Nat), (109 : Nat), (183 : Nat))]) (by decide) rfl ?_
  intro p e s m args below meth c s₁ B hml het hv
  obtain ⟨rfl, hP, hK, hD, hE, hE9, hA, hst, hI9⟩ := hv
  have hN9 := hE9.now
  have hx := B.exec
  have hb := B.bytes
  have hr := B.returns
  have hts := atoms_spec (ws := wsW_ yX0_put cX0_put 7 (some .int) [((14 : Nat), (100 : Nat), (101 : Nat), (179 : Nat)), ((14 : Nat), (100 : Nat), (109 : Nat), (183 : Nat))]) B.pre
  have hts : ∀ w ∈ lw_all, w.before _ s = true := fun w h => hts w (List.mem_cons_of_mem _ h)
  have hown : s.vm.findClass RX0 = some m.cls := findClass_of_methodNamed B.named
  have hlocks := B.notSynchronized
  have hS : va_S A s.heap s.heap [] := va_S.rf
  have hl := lv_entry ([.ref o, .int (nI K), .int i, .int v]) (n := 7) (Nat.le_of_ble_eq_true rfl)
  rw [lg_entry_eq]
  generalize (lg_sl ([.ref o, .int (nI K), .int i, .int v]) ++ List.replicate (7 - (lg_sl ([.ref o, .int (nI K), .int i, .int v])).length) Slot.unset).toArray = ls at hl ⊢
  have hl : lv_has ls 7 [(0, .ref o), (1, .int (nI K)), (2, .int i), (3, .int v)] := hl
  refine lv_aload_n hx hb dX0_put_0 rfl (lv_at hl 0 rfl) ?_
  refine lv_iconst (v := 0) hx hb dX0_put_1 (by decide) ?_
  refine g_put (v := 0) hx hb hts hown hK hP hD hS 0 0 (by decide) rfl q144 rfl rfl (by decide +kernel) dX0_put_2 (fun H locs hP hD hS => ?_)
  refine lv_iload_n hx hb dX0_put_5 rfl (lv_at hl 1 rfl) ?_
  refine vp_callSi ((va_runS (As := [.int (nI K)]) (rest := []) ⟨hx, hb, hml, hown, hts⟩ (metX0_isSheet l (nI K) ) (va_cwS 1 hts (lw_S q376 q377 q69 q378) rfl rfl rfl (by decide +kernel) ⟨Nat.le_of_ble_eq_true rfl, Nat.le_of_ble_eq_true rfl⟩) (pcS _) rfl rfl hl.1 rfl (lv_room (Nat.le_of_ble_eq_true rfl)) dX0_put_6 ⟨Nat.le_of_ble_eq_true rfl, Nat.le_of_ble_eq_true rfl⟩)).run (fun r hw => ?_)
  have hw : r = (b2i (inP (nI K) 4)) := hw
  subst hw
  refine bz_ne (tgt := 14) hx hb dX0_put_9 (by decide) (fun c_1 => ?_) (fun c_1 => ?_)
  · skip
    refine lv_aload_n hx hb dX0_put_14 rfl (lv_at hl 0 rfl) ?_
    refine g_get (v := .ref qs) hx hb hts hown hK hP 25 (by decide) rfl q174 rfl dX0_put_15 ?_
    refine lv_iload_n hx hb dX0_put_18 rfl (lv_at hl 1 rfl) ?_
    refine s_pla hx hb hK hP (xps n + j0) ((xG_ex j0).trans hj0) K hK4 dX0_put_19 ?_
    refine s_has hx hb hts hown hK hP hE (xps n + j1) ((xG_ex j1).trans hj1) dX0_put_20 ?_
    refine lv_astore (lv' := [(6, .ref ad), (0, .ref o), (1, .int (nI K)), (2, .int i), (3, .int v)]) hx hb dX0_put_23 hl (by decide) rfl (fun ls hl => ?_)
    refine lv_aload hx hb dX0_put_25 (lv_at hl 0 rfl) ?_
    refine a_instY hx hb hown (hts _ q390) hP (xps n + j2) ((xG_ex j2).trans hj2) (a_nmb hK) dX0_put_27 ?_
    refine lv_if_eq (tgt := 49) hx hb dX0_put_30 (by decide) (fun c_2 => ?_) (fun c_2 => ?_)
    · skip
      exact absurd c_2 (by decide)
    · skip
      refine lv_aload hx hb dX0_put_33 (lv_at hl 0 rfl) ?_
      refine va_castA hx hb hown (hts _ q390) hP (xps n + j2) ((xG_ex j2).trans hj2) (a_nmb hK) dX0_put_35 ?_
      refine lv_astore (lv' := [(4, .ref ad), (6, .ref ad), (0, .ref o), (1, .int (nI K)), (2, .int i), (3, .int v)]) hx hb dX0_put_38 hl (by decide) rfl (fun ls hl => ?_)
      refine lv_aload hx hb dX0_put_40 (lv_at hl 0 rfl) ?_
      refine lv_iload_n hx hb dX0_put_42 rfl (lv_at hl 4 rfl) ?_
      refine lv_iload_n hx hb dX0_put_43 rfl (lv_at hl 5 rfl) ?_
      refine lv_i2b (v := (v).toInt8.toInt32) hx hb dX0_put_44 rfl ?_
      refine a_bastoreX hx hb (hml.trans hl.1.symm) htr hN9 (nst_lo hst hS) hK hP (xps n + j2) 2 ((xG_ex j2).trans hj2) rfl (by omega) hout (Nat.le_of_ble_eq_true rfl) (Nat.le_of_ble_eq_true rfl) (Nat.le_of_ble_eq_true rfl) (Nat.le_of_ble_eq_true rfl) dX0_put_45 (fun H ce h1 h2 h3 h4 => ?_)
      generalize _ + 2 = x9 at h2 ⊢
      have hP := h1.P hP
      have hS := h1.S hS
      refine WT.caught (own := "LentYouths") hown h2 h4 (x := ⟨14, 100, 109, 183⟩) (rest := cxT []) (nm := "java/lang/ArrayIndexOutOfBoundsException") ⟨rfl, by decide, hts _ q357⟩ h3 (va_asg _ _) [(⟨14, 100, 101, 179⟩, "java/lang/NullPointerException")] (fun z hz => by
          simp only [List.mem_cons, List.not_mem_nil, or_false] at hz
          rcases hz with rfl
          · exact Or.inr ⟨⟨rfl, by decide, hts _ q318⟩, cx_nc h3 (hN9.2.1 ("java/lang/ArrayIndexOutOfBoundsException", "java/lang/NullPointerException") (by decide))⟩) het ?_
      refine W.eq (g2 := F0 m 109 ls [.ref x9]) rfl ?_
      refine lv_astore (lv' := [(4, .ref x9), (6, .ref ad), (0, .ref o), (1, .int (nI K)), (2, .int i), (3, .int v)]) hx hb dX0_put_109 hl (by decide) rfl (fun ls hl => ?_)
      refine lv_aload_n hx hb dX0_put_111 rfl (lv_at hl 2 rfl) ?_
      refine lv_iconst (v := 3) hx hb dX0_put_112 (by decide) ?_
      refine va_calli (va_runV (As := [.int 3]) (rest := []) ⟨hx, hb, hml, hown, hts⟩ (metX0_faulty l dC dI ct A (peW ct o qe n y a ++ ex) o q ql qs md qe n (upd g 0 0) a 3 ) (cwV 1 hts (lw_V q581 q583 qs12 q69 q584) rfl rfl rfl (by decide +kernel) ⟨Nat.le_of_ble_eq_true rfl, Nat.le_of_ble_eq_true rfl⟩) (xPV hK hP hD hE _) rfl rfl hl.1 rfl (lv_room (Nat.le_of_ble_eq_true rfl)) dX0_put_113 ⟨Nat.le_of_ble_eq_true rfl, Nat.le_of_ble_eq_true rfl⟩) hS (fun q _ h => h) (fun q h => h) (fun r u t H1 locs ht hvm hw hB hz1 hk1 hS => ?_)
      obtain ⟨hw, hw2⟩ := hw
      have hw : r = ((-10) - 3) := hw
      subst hw
      subst hw2
      obtain ⟨hP, -, hD⟩ := hB
      rw [ht] at hP
      generalize H1 = H at hP hS ⊢
      have hP : va_P (dC, dI) clA (xG ct o q (ql, qs, md, qe, n) y (upd g 0 3) a ex) H := hP
      have hD : va_D A (xG ct o q (ql, qs, md, qe, n) y (upd g 0 3) a ex) := hD
      refine W.widen (k := 8) (n := 3000) (Nat.le_of_ble_eq_true rfl) (Nat.le_of_ble_eq_true rfl) ?_
      exact W.iret (v := ((-10) - 3)) hx hb hr (fun t ht hW => ⟨⟨((-10) - 3), ((upd g 0 3), a), rfl, ⟨(by first | rfl | (simp [c_1, c_2]; done)), rfl⟩, by rw [ht]; exact hP, va_K.moved hW.alike hK, hD⟩, hS.F ht⟩) hS.2.2 dX0_put_116
  · skip
    exact False.elim (by rw [inK hK4] at c_1; cases c_1)
set_option maxHeartbeats 4000000 in
set_option maxRecDepth 100000 in
theorem metX0_put_s (l : Launch) (dC : Nat → ClassId) (dI : Nat → Nat → Nat) (ct : Nat → ClassId) (A : Nat → Prop) (ex : va_W) (o : Nat) (q : Nat → Nat) (ql qs : Nat) (md : Int32) (qe n : Nat) (y : Nat → Nat) (g : Nat → Int32) (a : Nat → Nat → Int32) (htr : l.stackTraces = false) (K : Nat) (I : Nat) (v : Int32) (j0 : Nat) (pl : Nat → Nat) (hj0 : ex[j0]? = some (qs, .inl (ct 5, 4, .inr (.inr (.inr (.inr (fun j => some (pl j)))))))) (j2 ad N : Nat) (f : Nat → Int32) (hj2 : ex[j2]? = some (ad, .inl (ct 3, N, .inl f))) (hN : N ≤ 60) (K : Nat) (hK4 : K < 4) (j1 : Nat) (hj1 : ex[j1]? = some (pl K, .inr (6, [.ref ad]))) (hIN : I < N) : Met l yX0_put (wsW_ yX0_put cX0_put 7 (some .int) [((14 : Nat), (100 : Nat), (101 : Nat), (179 : Nat)), ((14 : Nat), (100 : Nat), (109 : Nat), (183 : Nat))]) ({ frames := 16, cells := 8, slots := 3000, locals := 12000 }) (sPre dC dI ct A ex o q (ql, qs, md, qe, n) y g a [.ref o, .int (nI K), .int (nI I), .int v]) (va_Qi (fun (r : Int32) (u : (Nat → Int32) × (Nat → Nat → Int32)) => r = 1 ∧ u = ((upd g 0 0), a)) (fun u t => gB dC dI ct A (ex.set j2 (ad, .inl (ct 3, N, .inl (upd f I ((v).toInt16.toInt32))))) o q (ql, qs, md, qe, n) y u t) A) 8 3000 A := by
  refine cx_MetW (cc := cX0_put) (maxL := 7) (ret := (some .int)) (hh := [((14 : Nat), (100 : Nat), (101 : Nat), (179 : Nat)), ((14 : Nat), (100 : Nat), (109 : Nat), (183 : Nat))]) (by decide) rfl ?_
  intro p e s m args below meth c s₁ B hml het hv
  obtain ⟨rfl, hP, hK, hD, hE, hE9, hA, hst, hI9⟩ := hv
  have hN9 := hE9.now
  have hx := B.exec
  have hb := B.bytes
  have hr := B.returns
  have hts := atoms_spec (ws := wsW_ yX0_put cX0_put 7 (some .int) [((14 : Nat), (100 : Nat), (101 : Nat), (179 : Nat)), ((14 : Nat), (100 : Nat), (109 : Nat), (183 : Nat))]) B.pre
  have hts : ∀ w ∈ lw_all, w.before _ s = true := fun w h => hts w (List.mem_cons_of_mem _ h)
  have hown : s.vm.findClass RX0 = some m.cls := findClass_of_methodNamed B.named
  have hlocks := B.notSynchronized
  have hS : va_S A s.heap s.heap [] := va_S.rf
  have hl := lv_entry ([.ref o, .int (nI K), .int (nI I), .int v]) (n := 7) (Nat.le_of_ble_eq_true rfl)
  rw [lg_entry_eq]
  generalize (lg_sl ([.ref o, .int (nI K), .int (nI I), .int v]) ++ List.replicate (7 - (lg_sl ([.ref o, .int (nI K), .int (nI I), .int v])).length) Slot.unset).toArray = ls at hl ⊢
  have hl : lv_has ls 7 [(0, .ref o), (1, .int (nI K)), (2, .int (nI I)), (3, .int v)] := hl
  refine lv_aload_n hx hb dX0_put_0 rfl (lv_at hl 0 rfl) ?_
  refine lv_iconst (v := 0) hx hb dX0_put_1 (by decide) ?_
  refine g_put (v := 0) hx hb hts hown hK hP hD hS 0 0 (by decide) rfl q144 rfl rfl (by decide +kernel) dX0_put_2 (fun H locs hP hD hS => ?_)
  refine lv_iload_n hx hb dX0_put_5 rfl (lv_at hl 1 rfl) ?_
  refine vp_callSi ((va_runS (As := [.int (nI K)]) (rest := []) ⟨hx, hb, hml, hown, hts⟩ (metX0_isSheet l (nI K) ) (va_cwS 1 hts (lw_S q376 q377 q69 q378) rfl rfl rfl (by decide +kernel) ⟨Nat.le_of_ble_eq_true rfl, Nat.le_of_ble_eq_true rfl⟩) (pcS _) rfl rfl hl.1 rfl (lv_room (Nat.le_of_ble_eq_true rfl)) dX0_put_6 ⟨Nat.le_of_ble_eq_true rfl, Nat.le_of_ble_eq_true rfl⟩)).run (fun r hw => ?_)
  have hw : r = (b2i (inP (nI K) 4)) := hw
  subst hw
  refine bz_ne (tgt := 14) hx hb dX0_put_9 (by decide) (fun c_1 => ?_) (fun c_1 => ?_)
  · skip
    refine lv_aload_n hx hb dX0_put_14 rfl (lv_at hl 0 rfl) ?_
    refine g_get (v := .ref qs) hx hb hts hown hK hP 25 (by decide) rfl q174 rfl dX0_put_15 ?_
    refine lv_iload_n hx hb dX0_put_18 rfl (lv_at hl 1 rfl) ?_
    refine s_pla hx hb hK hP (xps n + j0) ((xG_ex j0).trans hj0) K hK4 dX0_put_19 ?_
    refine s_has hx hb hts hown hK hP hE (xps n + j1) ((xG_ex j1).trans hj1) dX0_put_20 ?_
    refine lv_astore (lv' := [(6, .ref ad), (0, .ref o), (1, .int (nI K)), (2, .int (nI I)), (3, .int v)]) hx hb dX0_put_23 hl (by decide) rfl (fun ls hl => ?_)
    refine lv_aload hx hb dX0_put_25 (lv_at hl 0 rfl) ?_
    refine va_instNo (C := "[S") hx hb hown (hts _ q390) (hN9.2.1 ("[S", "[B") (by decide)) (a_recv hP ((xG_ex j2).trans hj2) (a_nms hK)) dX0_put_27 ?_
    refine lv_if_eq (tgt := 49) hx hb dX0_put_30 (by decide) (fun c_2 => ?_) (fun c_2 => ?_)
    · skip
      refine lv_aload_n hx hb dX0_put_49 rfl (lv_at hl 1 rfl) ?_
      refine g_get (v := .ref qs) hx hb hts hown hK hP 25 (by decide) rfl q174 rfl dX0_put_50 ?_
      refine lv_iload_n hx hb dX0_put_53 rfl (lv_at hl 2 rfl) ?_
      refine s_pla hx hb hK hP (xps n + j0) ((xG_ex j0).trans hj0) K hK4 dX0_put_54 ?_
      refine s_has hx hb hts hown hK hP hE (xps n + j1) ((xG_ex j1).trans hj1) dX0_put_55 ?_
      refine lv_astore (lv' := [(6, .ref ad), (0, .ref o), (1, .int (nI K)), (2, .int (nI I)), (3, .int v)]) hx hb dX0_put_58 hl (by decide) rfl (fun ls hl => ?_)
      refine lv_aload hx hb dX0_put_60 (lv_at hl 0 rfl) ?_
      refine a_instY hx hb hown (hts _ q391) hP (xps n + j2) ((xG_ex j2).trans hj2) (a_nms hK) dX0_put_62 ?_
      refine lv_if_eq (tgt := 84) hx hb dX0_put_65 (by decide) (fun c_3 => ?_) (fun c_3 => ?_)
      · skip
        exact absurd c_3 (by decide)
      · skip
        refine lv_aload hx hb dX0_put_68 (lv_at hl 0 rfl) ?_
        refine va_castA hx hb hown (hts _ q391) hP (xps n + j2) ((xG_ex j2).trans hj2) (a_nms hK) dX0_put_70 ?_
        refine lv_astore (lv' := [(5, .ref ad), (6, .ref ad), (0, .ref o), (1, .int (nI K)), (2, .int (nI I)), (3, .int v)]) hx hb dX0_put_73 hl (by decide) rfl (fun ls hl => ?_)
        refine lv_aload hx hb dX0_put_75 (lv_at hl 0 rfl) ?_
        refine lv_iload_n hx hb dX0_put_77 rfl (lv_at hl 4 rfl) ?_
        refine lv_iload_n hx hb dX0_put_78 rfl (lv_at hl 5 rfl) ?_
        refine lv_i2s (v := (v).toInt16.toInt32) hx hb dX0_put_79 rfl ?_
        refine ar_sst (x := ((v).toInt16.toInt32)) hx hb hK hP hD hS (xps n + j2) 3 ((xG_ex j2).trans hj2) rfl I rfl hIN (by omega) (narS_c _) dX0_put_80 (fun H locs hP hD hS => ?_)
        rw [xG_exs] at hP hD
        refine lv_goto (tgt := 99) hx hb dX0_put_81 (by decide) ?_
        refine lv_iconst (v := 1) hx hb dX0_put_99 (by decide) ?_
        refine W.widen (k := 8) (n := 3000) (Nat.le_of_ble_eq_true rfl) (Nat.le_of_ble_eq_true rfl) ?_
        exact W.iret (v := 1) hx hb hr (fun t ht hW => ⟨⟨1, ((upd g 0 0), a), rfl, ⟨(by first | rfl | (simp [c_1, c_2, c_3]; done)), rfl⟩, by rw [ht]; exact hP, va_K.moved hW.alike hK, hD⟩, hS.F ht⟩) hS.2.2 dX0_put_100
    · skip
      exact absurd c_2 (by decide)
  · skip
    exact False.elim (by rw [inK hK4] at c_1; cases c_1)
set_option maxHeartbeats 4000000 in
set_option maxRecDepth 100000 in
theorem metX0_put_xs (l : Launch) (dC : Nat → ClassId) (dI : Nat → Nat → Nat) (ct : Nat → ClassId) (A : Nat → Prop) (ex : va_W) (o : Nat) (q : Nat → Nat) (ql qs : Nat) (md : Int32) (qe n : Nat) (y : Nat → Nat) (g : Nat → Int32) (a : Nat → Nat → Int32) (htr : l.stackTraces = false) (K : Nat) (i : Int32) (v : Int32) (j0 : Nat) (pl : Nat → Nat) (hj0 : ex[j0]? = some (qs, .inl (ct 5, 4, .inr (.inr (.inr (.inr (fun j => some (pl j)))))))) (j2 ad N : Nat) (f : Nat → Int32) (hj2 : ex[j2]? = some (ad, .inl (ct 3, N, .inl f))) (hN : N ≤ 60) (K : Nat) (hK4 : K < 4) (j1 : Nat) (hj1 : ex[j1]? = some (pl K, .inr (6, [.ref ad]))) (hout : i < 0 ∨ N ≤ i.toNatClampNeg) : Met l yX0_put (wsW_ yX0_put cX0_put 7 (some .int) [((14 : Nat), (100 : Nat), (101 : Nat), (179 : Nat)), ((14 : Nat), (100 : Nat), (109 : Nat), (183 : Nat))]) ({ frames := 16, cells := 8, slots := 3000, locals := 12000 }) (sPre dC dI ct A ex o q (ql, qs, md, qe, n) y g a [.ref o, .int (nI K), .int i, .int v]) (va_Qi (fun (r : Int32) (u : (Nat → Int32) × (Nat → Nat → Int32)) => r = (-13) ∧ u = ((upd g 0 3), a)) (fun u t => gB dC dI ct A ex o q (ql, qs, md, qe, n) y u t) A) 8 3000 A := by
  refine cx_MetW (cc := cX0_put) (maxL := 7) (ret := (some .int)) (hh := [((14 : Nat), (100 : Nat), (101 : Nat), (179 : Nat)), ((14 : Nat), (100 : Nat), (109 : Nat), (183 : Nat))]) (by decide) rfl ?_
  intro p e s m args below meth c s₁ B hml het hv
  obtain ⟨rfl, hP, hK, hD, hE, hE9, hA, hst, hI9⟩ := hv
  have hN9 := hE9.now
  have hx := B.exec
  have hb := B.bytes
  have hr := B.returns
  have hts := atoms_spec (ws := wsW_ yX0_put cX0_put 7 (some .int) [((14 : Nat), (100 : Nat), (101 : Nat), (179 : Nat)), ((14 : Nat), (100 : Nat), (109 : Nat), (183 : Nat))]) B.pre
  have hts : ∀ w ∈ lw_all, w.before _ s = true := fun w h => hts w (List.mem_cons_of_mem _ h)
  have hown : s.vm.findClass RX0 = some m.cls := findClass_of_methodNamed B.named
  have hlocks := B.notSynchronized
  have hS : va_S A s.heap s.heap [] := va_S.rf
  have hl := lv_entry ([.ref o, .int (nI K), .int i, .int v]) (n := 7) (Nat.le_of_ble_eq_true rfl)
  rw [lg_entry_eq]
  generalize (lg_sl ([.ref o, .int (nI K), .int i, .int v]) ++ List.replicate (7 - (lg_sl ([.ref o, .int (nI K), .int i, .int v])).length) Slot.unset).toArray = ls at hl ⊢
  have hl : lv_has ls 7 [(0, .ref o), (1, .int (nI K)), (2, .int i), (3, .int v)] := hl
  refine lv_aload_n hx hb dX0_put_0 rfl (lv_at hl 0 rfl) ?_
  refine lv_iconst (v := 0) hx hb dX0_put_1 (by decide) ?_
  refine g_put (v := 0) hx hb hts hown hK hP hD hS 0 0 (by decide) rfl q144 rfl rfl (by decide +kernel) dX0_put_2 (fun H locs hP hD hS => ?_)
  refine lv_iload_n hx hb dX0_put_5 rfl (lv_at hl 1 rfl) ?_
  refine vp_callSi ((va_runS (As := [.int (nI K)]) (rest := []) ⟨hx, hb, hml, hown, hts⟩ (metX0_isSheet l (nI K) ) (va_cwS 1 hts (lw_S q376 q377 q69 q378) rfl rfl rfl (by decide +kernel) ⟨Nat.le_of_ble_eq_true rfl, Nat.le_of_ble_eq_true rfl⟩) (pcS _) rfl rfl hl.1 rfl (lv_room (Nat.le_of_ble_eq_true rfl)) dX0_put_6 ⟨Nat.le_of_ble_eq_true rfl, Nat.le_of_ble_eq_true rfl⟩)).run (fun r hw => ?_)
  have hw : r = (b2i (inP (nI K) 4)) := hw
  subst hw
  refine bz_ne (tgt := 14) hx hb dX0_put_9 (by decide) (fun c_1 => ?_) (fun c_1 => ?_)
  · skip
    refine lv_aload_n hx hb dX0_put_14 rfl (lv_at hl 0 rfl) ?_
    refine g_get (v := .ref qs) hx hb hts hown hK hP 25 (by decide) rfl q174 rfl dX0_put_15 ?_
    refine lv_iload_n hx hb dX0_put_18 rfl (lv_at hl 1 rfl) ?_
    refine s_pla hx hb hK hP (xps n + j0) ((xG_ex j0).trans hj0) K hK4 dX0_put_19 ?_
    refine s_has hx hb hts hown hK hP hE (xps n + j1) ((xG_ex j1).trans hj1) dX0_put_20 ?_
    refine lv_astore (lv' := [(6, .ref ad), (0, .ref o), (1, .int (nI K)), (2, .int i), (3, .int v)]) hx hb dX0_put_23 hl (by decide) rfl (fun ls hl => ?_)
    refine lv_aload hx hb dX0_put_25 (lv_at hl 0 rfl) ?_
    refine va_instNo (C := "[S") hx hb hown (hts _ q390) (hN9.2.1 ("[S", "[B") (by decide)) (a_recv hP ((xG_ex j2).trans hj2) (a_nms hK)) dX0_put_27 ?_
    refine lv_if_eq (tgt := 49) hx hb dX0_put_30 (by decide) (fun c_2 => ?_) (fun c_2 => ?_)
    · skip
      refine lv_aload_n hx hb dX0_put_49 rfl (lv_at hl 1 rfl) ?_
      refine g_get (v := .ref qs) hx hb hts hown hK hP 25 (by decide) rfl q174 rfl dX0_put_50 ?_
      refine lv_iload_n hx hb dX0_put_53 rfl (lv_at hl 2 rfl) ?_
      refine s_pla hx hb hK hP (xps n + j0) ((xG_ex j0).trans hj0) K hK4 dX0_put_54 ?_
      refine s_has hx hb hts hown hK hP hE (xps n + j1) ((xG_ex j1).trans hj1) dX0_put_55 ?_
      refine lv_astore (lv' := [(6, .ref ad), (0, .ref o), (1, .int (nI K)), (2, .int i), (3, .int v)]) hx hb dX0_put_58 hl (by decide) rfl (fun ls hl => ?_)
      refine lv_aload hx hb dX0_put_60 (lv_at hl 0 rfl) ?_
      refine a_instY hx hb hown (hts _ q391) hP (xps n + j2) ((xG_ex j2).trans hj2) (a_nms hK) dX0_put_62 ?_
      refine lv_if_eq (tgt := 84) hx hb dX0_put_65 (by decide) (fun c_3 => ?_) (fun c_3 => ?_)
      · skip
        exact absurd c_3 (by decide)
      · skip
        refine lv_aload hx hb dX0_put_68 (lv_at hl 0 rfl) ?_
        refine va_castA hx hb hown (hts _ q391) hP (xps n + j2) ((xG_ex j2).trans hj2) (a_nms hK) dX0_put_70 ?_
        refine lv_astore (lv' := [(5, .ref ad), (6, .ref ad), (0, .ref o), (1, .int (nI K)), (2, .int i), (3, .int v)]) hx hb dX0_put_73 hl (by decide) rfl (fun ls hl => ?_)
        refine lv_aload hx hb dX0_put_75 (lv_at hl 0 rfl) ?_
        refine lv_iload_n hx hb dX0_put_77 rfl (lv_at hl 4 rfl) ?_
        refine lv_iload_n hx hb dX0_put_78 rfl (lv_at hl 5 rfl) ?_
        refine lv_i2s (v := (v).toInt16.toInt32) hx hb dX0_put_79 rfl ?_
        refine a_sastoreX hx hb (hml.trans hl.1.symm) htr hN9 (nst_lo hst hS) hK hP (xps n + j2) 3 ((xG_ex j2).trans hj2) rfl (by omega) hout (Nat.le_of_ble_eq_true rfl) (Nat.le_of_ble_eq_true rfl) (Nat.le_of_ble_eq_true rfl) (Nat.le_of_ble_eq_true rfl) dX0_put_80 (fun H ce h1 h2 h3 h4 => ?_)
        generalize _ + 2 = x9 at h2 ⊢
        have hP := h1.P hP
        have hS := h1.S hS
        refine WT.caught (own := "LentYouths") hown h2 h4 (x := ⟨14, 100, 109, 183⟩) (rest := cxT []) (nm := "java/lang/ArrayIndexOutOfBoundsException") ⟨rfl, by decide, hts _ q357⟩ h3 (va_asg _ _) [(⟨14, 100, 101, 179⟩, "java/lang/NullPointerException")] (fun z hz => by
            simp only [List.mem_cons, List.not_mem_nil, or_false] at hz
            rcases hz with rfl
            · exact Or.inr ⟨⟨rfl, by decide, hts _ q318⟩, cx_nc h3 (hN9.2.1 ("java/lang/ArrayIndexOutOfBoundsException", "java/lang/NullPointerException") (by decide))⟩) het ?_
        refine W.eq (g2 := F0 m 109 ls [.ref x9]) rfl ?_
        refine lv_astore (lv' := [(4, .ref x9), (5, .ref ad), (6, .ref ad), (0, .ref o), (1, .int (nI K)), (2, .int i), (3, .int v)]) hx hb dX0_put_109 hl (by decide) rfl (fun ls hl => ?_)
        refine lv_aload_n hx hb dX0_put_111 rfl (lv_at hl 3 rfl) ?_
        refine lv_iconst (v := 3) hx hb dX0_put_112 (by decide) ?_
        refine va_calli (va_runV (As := [.int 3]) (rest := []) ⟨hx, hb, hml, hown, hts⟩ (metX0_faulty l dC dI ct A (peW ct o qe n y a ++ ex) o q ql qs md qe n (upd g 0 0) a 3 ) (cwV 1 hts (lw_V q581 q583 qs12 q69 q584) rfl rfl rfl (by decide +kernel) ⟨Nat.le_of_ble_eq_true rfl, Nat.le_of_ble_eq_true rfl⟩) (xPV hK hP hD hE _) rfl rfl hl.1 rfl (lv_room (Nat.le_of_ble_eq_true rfl)) dX0_put_113 ⟨Nat.le_of_ble_eq_true rfl, Nat.le_of_ble_eq_true rfl⟩) hS (fun q _ h => h) (fun q h => h) (fun r u t H1 locs ht hvm hw hB hz1 hk1 hS => ?_)
        obtain ⟨hw, hw2⟩ := hw
        have hw : r = ((-10) - 3) := hw
        subst hw
        subst hw2
        obtain ⟨hP, -, hD⟩ := hB
        rw [ht] at hP
        generalize H1 = H at hP hS ⊢
        have hP : va_P (dC, dI) clA (xG ct o q (ql, qs, md, qe, n) y (upd g 0 3) a ex) H := hP
        have hD : va_D A (xG ct o q (ql, qs, md, qe, n) y (upd g 0 3) a ex) := hD
        refine W.widen (k := 8) (n := 3000) (Nat.le_of_ble_eq_true rfl) (Nat.le_of_ble_eq_true rfl) ?_
        exact W.iret (v := ((-10) - 3)) hx hb hr (fun t ht hW => ⟨⟨((-10) - 3), ((upd g 0 3), a), rfl, ⟨(by first | rfl | (simp [c_1, c_2, c_3]; done)), rfl⟩, by rw [ht]; exact hP, va_K.moved hW.alike hK, hD⟩, hS.F ht⟩) hS.2.2 dX0_put_116
    · skip
      exact absurd c_2 (by decide)
  · skip
    exact False.elim (by rw [inK hK4] at c_1; cases c_1)
set_option maxHeartbeats 4000000 in
set_option maxRecDepth 100000 in
theorem metX0_put_i (l : Launch) (dC : Nat → ClassId) (dI : Nat → Nat → Nat) (ct : Nat → ClassId) (A : Nat → Prop) (ex : va_W) (o : Nat) (q : Nat → Nat) (ql qs : Nat) (md : Int32) (qe n : Nat) (y : Nat → Nat) (g : Nat → Int32) (a : Nat → Nat → Int32) (htr : l.stackTraces = false) (K : Nat) (I : Nat) (v : Int32) (j0 : Nat) (pl : Nat → Nat) (hj0 : ex[j0]? = some (qs, .inl (ct 5, 4, .inr (.inr (.inr (.inr (fun j => some (pl j)))))))) (j2 ad N : Nat) (f : Nat → Int32) (hj2 : ex[j2]? = some (ad, .inl (ct 0, N, .inl f))) (hN : N ≤ 60) (K : Nat) (hK4 : K < 4) (j1 : Nat) (hj1 : ex[j1]? = some (pl K, .inr (6, [.ref ad]))) (hIN : I < N) : Met l yX0_put (wsW_ yX0_put cX0_put 7 (some .int) [((14 : Nat), (100 : Nat), (101 : Nat), (179 : Nat)), ((14 : Nat), (100 : Nat), (109 : Nat), (183 : Nat))]) ({ frames := 16, cells := 8, slots := 3000, locals := 12000 }) (sPre dC dI ct A ex o q (ql, qs, md, qe, n) y g a [.ref o, .int (nI K), .int (nI I), .int v]) (va_Qi (fun (r : Int32) (u : (Nat → Int32) × (Nat → Nat → Int32)) => r = 1 ∧ u = ((upd g 0 0), a)) (fun u t => gB dC dI ct A (ex.set j2 (ad, .inl (ct 0, N, .inl (upd f I v)))) o q (ql, qs, md, qe, n) y u t) A) 8 3000 A := by
  refine cx_MetW (cc := cX0_put) (maxL := 7) (ret := (some .int)) (hh := [((14 : Nat), (100 : Nat), (101 : Nat), (179 : Nat)), ((14 : Nat), (100 : Nat), (109 : Nat), (183 : Nat))]) (by decide) rfl ?_
  intro p e s m args below meth c s₁ B hml het hv
  obtain ⟨rfl, hP, hK, hD, hE, hE9, hA, hst, hI9⟩ := hv
  have hN9 := hE9.now
  have hx := B.exec
  have hb := B.bytes
  have hr := B.returns
  have hts := atoms_spec (ws := wsW_ yX0_put cX0_put 7 (some .int) [((14 : Nat), (100 : Nat), (101 : Nat), (179 : Nat)), ((14 : Nat), (100 : Nat), (109 : Nat), (183 : Nat))]) B.pre
  have hts : ∀ w ∈ lw_all, w.before _ s = true := fun w h => hts w (List.mem_cons_of_mem _ h)
  have hown : s.vm.findClass RX0 = some m.cls := findClass_of_methodNamed B.named
  have hlocks := B.notSynchronized
  have hS : va_S A s.heap s.heap [] := va_S.rf
  have hl := lv_entry ([.ref o, .int (nI K), .int (nI I), .int v]) (n := 7) (Nat.le_of_ble_eq_true rfl)
  rw [lg_entry_eq]
  generalize (lg_sl ([.ref o, .int (nI K), .int (nI I), .int v]) ++ List.replicate (7 - (lg_sl ([.ref o, .int (nI K), .int (nI I), .int v])).length) Slot.unset).toArray = ls at hl ⊢
  have hl : lv_has ls 7 [(0, .ref o), (1, .int (nI K)), (2, .int (nI I)), (3, .int v)] := hl
  refine lv_aload_n hx hb dX0_put_0 rfl (lv_at hl 0 rfl) ?_
  refine lv_iconst (v := 0) hx hb dX0_put_1 (by decide) ?_
  refine g_put (v := 0) hx hb hts hown hK hP hD hS 0 0 (by decide) rfl q144 rfl rfl (by decide +kernel) dX0_put_2 (fun H locs hP hD hS => ?_)
  refine lv_iload_n hx hb dX0_put_5 rfl (lv_at hl 1 rfl) ?_
  refine vp_callSi ((va_runS (As := [.int (nI K)]) (rest := []) ⟨hx, hb, hml, hown, hts⟩ (metX0_isSheet l (nI K) ) (va_cwS 1 hts (lw_S q376 q377 q69 q378) rfl rfl rfl (by decide +kernel) ⟨Nat.le_of_ble_eq_true rfl, Nat.le_of_ble_eq_true rfl⟩) (pcS _) rfl rfl hl.1 rfl (lv_room (Nat.le_of_ble_eq_true rfl)) dX0_put_6 ⟨Nat.le_of_ble_eq_true rfl, Nat.le_of_ble_eq_true rfl⟩)).run (fun r hw => ?_)
  have hw : r = (b2i (inP (nI K) 4)) := hw
  subst hw
  refine bz_ne (tgt := 14) hx hb dX0_put_9 (by decide) (fun c_1 => ?_) (fun c_1 => ?_)
  · skip
    refine lv_aload_n hx hb dX0_put_14 rfl (lv_at hl 0 rfl) ?_
    refine g_get (v := .ref qs) hx hb hts hown hK hP 25 (by decide) rfl q174 rfl dX0_put_15 ?_
    refine lv_iload_n hx hb dX0_put_18 rfl (lv_at hl 1 rfl) ?_
    refine s_pla hx hb hK hP (xps n + j0) ((xG_ex j0).trans hj0) K hK4 dX0_put_19 ?_
    refine s_has hx hb hts hown hK hP hE (xps n + j1) ((xG_ex j1).trans hj1) dX0_put_20 ?_
    refine lv_astore (lv' := [(6, .ref ad), (0, .ref o), (1, .int (nI K)), (2, .int (nI I)), (3, .int v)]) hx hb dX0_put_23 hl (by decide) rfl (fun ls hl => ?_)
    refine lv_aload hx hb dX0_put_25 (lv_at hl 0 rfl) ?_
    refine va_instNo (C := "[I") hx hb hown (hts _ q390) (hN9.2.1 ("[I", "[B") (by decide)) (a_recv hP ((xG_ex j2).trans hj2) (a_nmi hK)) dX0_put_27 ?_
    refine lv_if_eq (tgt := 49) hx hb dX0_put_30 (by decide) (fun c_2 => ?_) (fun c_2 => ?_)
    · skip
      refine lv_aload_n hx hb dX0_put_49 rfl (lv_at hl 1 rfl) ?_
      refine g_get (v := .ref qs) hx hb hts hown hK hP 25 (by decide) rfl q174 rfl dX0_put_50 ?_
      refine lv_iload_n hx hb dX0_put_53 rfl (lv_at hl 2 rfl) ?_
      refine s_pla hx hb hK hP (xps n + j0) ((xG_ex j0).trans hj0) K hK4 dX0_put_54 ?_
      refine s_has hx hb hts hown hK hP hE (xps n + j1) ((xG_ex j1).trans hj1) dX0_put_55 ?_
      refine lv_astore (lv' := [(6, .ref ad), (0, .ref o), (1, .int (nI K)), (2, .int (nI I)), (3, .int v)]) hx hb dX0_put_58 hl (by decide) rfl (fun ls hl => ?_)
      refine lv_aload hx hb dX0_put_60 (lv_at hl 0 rfl) ?_
      refine va_instNo (C := "[I") hx hb hown (hts _ q391) (hN9.2.1 ("[I", "[S") (by decide)) (a_recv hP ((xG_ex j2).trans hj2) (a_nmi hK)) dX0_put_62 ?_
      refine lv_if_eq (tgt := 84) hx hb dX0_put_65 (by decide) (fun c_3 => ?_) (fun c_3 => ?_)
      · skip
        refine lv_aload_n hx hb dX0_put_84 rfl (lv_at hl 1 rfl) ?_
        refine g_get (v := .ref qs) hx hb hts hown hK hP 25 (by decide) rfl q174 rfl dX0_put_85 ?_
        refine lv_iload_n hx hb dX0_put_88 rfl (lv_at hl 2 rfl) ?_
        refine s_pla hx hb hK hP (xps n + j0) ((xG_ex j0).trans hj0) K hK4 dX0_put_89 ?_
        refine s_has hx hb hts hown hK hP hE (xps n + j1) ((xG_ex j1).trans hj1) dX0_put_90 ?_
        refine va_castA hx hb hown (hts _ q392) hP (xps n + j2) ((xG_ex j2).trans hj2) (a_nmi hK) dX0_put_93 ?_
        refine lv_iload_n hx hb dX0_put_96 rfl (lv_at hl 3 rfl) ?_
        refine lv_iload_n hx hb dX0_put_97 rfl (lv_at hl 4 rfl) ?_
        refine ar_ist (x := v) hx hb hK hP hD hS (xps n + j2) 0 ((xG_ex j2).trans hj2) rfl I rfl hIN (by omega) dX0_put_98 (fun H locs hP hD hS => ?_)
        rw [xG_exs] at hP hD
        refine lv_iconst (v := 1) hx hb dX0_put_99 (by decide) ?_
        refine W.widen (k := 8) (n := 3000) (Nat.le_of_ble_eq_true rfl) (Nat.le_of_ble_eq_true rfl) ?_
        exact W.iret (v := 1) hx hb hr (fun t ht hW => ⟨⟨1, ((upd g 0 0), a), rfl, ⟨(by first | rfl | (simp [c_1, c_2, c_3]; done)), rfl⟩, by rw [ht]; exact hP, va_K.moved hW.alike hK, hD⟩, hS.F ht⟩) hS.2.2 dX0_put_100
      · skip
        exact absurd c_3 (by decide)
    · skip
      exact absurd c_2 (by decide)
  · skip
    exact False.elim (by rw [inK hK4] at c_1; cases c_1)
set_option maxHeartbeats 4000000 in
set_option maxRecDepth 100000 in
theorem metX0_put_xi (l : Launch) (dC : Nat → ClassId) (dI : Nat → Nat → Nat) (ct : Nat → ClassId) (A : Nat → Prop) (ex : va_W) (o : Nat) (q : Nat → Nat) (ql qs : Nat) (md : Int32) (qe n : Nat) (y : Nat → Nat) (g : Nat → Int32) (a : Nat → Nat → Int32) (htr : l.stackTraces = false) (K : Nat) (i : Int32) (v : Int32) (j0 : Nat) (pl : Nat → Nat) (hj0 : ex[j0]? = some (qs, .inl (ct 5, 4, .inr (.inr (.inr (.inr (fun j => some (pl j)))))))) (j2 ad N : Nat) (f : Nat → Int32) (hj2 : ex[j2]? = some (ad, .inl (ct 0, N, .inl f))) (hN : N ≤ 60) (K : Nat) (hK4 : K < 4) (j1 : Nat) (hj1 : ex[j1]? = some (pl K, .inr (6, [.ref ad]))) (hout : i < 0 ∨ N ≤ i.toNatClampNeg) : Met l yX0_put (wsW_ yX0_put cX0_put 7 (some .int) [((14 : Nat), (100 : Nat), (101 : Nat), (179 : Nat)), ((14 : Nat), (100 : Nat), (109 : Nat), (183 : Nat))]) ({ frames := 16, cells := 8, slots := 3000, locals := 12000 }) (sPre dC dI ct A ex o q (ql, qs, md, qe, n) y g a [.ref o, .int (nI K), .int i, .int v]) (va_Qi (fun (r : Int32) (u : (Nat → Int32) × (Nat → Nat → Int32)) => r = (-13) ∧ u = ((upd g 0 3), a)) (fun u t => gB dC dI ct A ex o q (ql, qs, md, qe, n) y u t) A) 8 3000 A := by
  refine cx_MetW (cc := cX0_put) (maxL := 7) (ret := (some .int)) (hh := [((14 : Nat), (100 : Nat), (101 : Nat), (179 : Nat)), ((14 : Nat), (100 : Nat), (109 : Nat), (183 : Nat))]) (by decide) rfl ?_
  intro p e s m args below meth c s₁ B hml het hv
  obtain ⟨rfl, hP, hK, hD, hE, hE9, hA, hst, hI9⟩ := hv
  have hN9 := hE9.now
  have hx := B.exec
  have hb := B.bytes
  have hr := B.returns
  have hts := atoms_spec (ws := wsW_ yX0_put cX0_put 7 (some .int) [((14 : Nat), (100 : Nat), (101 : Nat), (179 : Nat)), ((14 : Nat), (100 : Nat), (109 : Nat), (183 : Nat))]) B.pre
  have hts : ∀ w ∈ lw_all, w.before _ s = true := fun w h => hts w (List.mem_cons_of_mem _ h)
  have hown : s.vm.findClass RX0 = some m.cls := findClass_of_methodNamed B.named
  have hlocks := B.notSynchronized
  have hS : va_S A s.heap s.heap [] := va_S.rf
  have hl := lv_entry ([.ref o, .int (nI K), .int i, .int v]) (n := 7) (Nat.le_of_ble_eq_true rfl)
  rw [lg_entry_eq]
  generalize (lg_sl ([.ref o, .int (nI K), .int i, .int v]) ++ List.replicate (7 - (lg_sl ([.ref o, .int (nI K), .int i, .int v])).length) Slot.unset).toArray = ls at hl ⊢
  have hl : lv_has ls 7 [(0, .ref o), (1, .int (nI K)), (2, .int i), (3, .int v)] := hl
  refine lv_aload_n hx hb dX0_put_0 rfl (lv_at hl 0 rfl) ?_
  refine lv_iconst (v := 0) hx hb dX0_put_1 (by decide) ?_
  refine g_put (v := 0) hx hb hts hown hK hP hD hS 0 0 (by decide) rfl q144 rfl rfl (by decide +kernel) dX0_put_2 (fun H locs hP hD hS => ?_)
  refine lv_iload_n hx hb dX0_put_5 rfl (lv_at hl 1 rfl) ?_
  refine vp_callSi ((va_runS (As := [.int (nI K)]) (rest := []) ⟨hx, hb, hml, hown, hts⟩ (metX0_isSheet l (nI K) ) (va_cwS 1 hts (lw_S q376 q377 q69 q378) rfl rfl rfl (by decide +kernel) ⟨Nat.le_of_ble_eq_true rfl, Nat.le_of_ble_eq_true rfl⟩) (pcS _) rfl rfl hl.1 rfl (lv_room (Nat.le_of_ble_eq_true rfl)) dX0_put_6 ⟨Nat.le_of_ble_eq_true rfl, Nat.le_of_ble_eq_true rfl⟩)).run (fun r hw => ?_)
  have hw : r = (b2i (inP (nI K) 4)) := hw
  subst hw
  refine bz_ne (tgt := 14) hx hb dX0_put_9 (by decide) (fun c_1 => ?_) (fun c_1 => ?_)
  · skip
    refine lv_aload_n hx hb dX0_put_14 rfl (lv_at hl 0 rfl) ?_
    refine g_get (v := .ref qs) hx hb hts hown hK hP 25 (by decide) rfl q174 rfl dX0_put_15 ?_
    refine lv_iload_n hx hb dX0_put_18 rfl (lv_at hl 1 rfl) ?_
    refine s_pla hx hb hK hP (xps n + j0) ((xG_ex j0).trans hj0) K hK4 dX0_put_19 ?_
    refine s_has hx hb hts hown hK hP hE (xps n + j1) ((xG_ex j1).trans hj1) dX0_put_20 ?_
    refine lv_astore (lv' := [(6, .ref ad), (0, .ref o), (1, .int (nI K)), (2, .int i), (3, .int v)]) hx hb dX0_put_23 hl (by decide) rfl (fun ls hl => ?_)
    refine lv_aload hx hb dX0_put_25 (lv_at hl 0 rfl) ?_
    refine va_instNo (C := "[I") hx hb hown (hts _ q390) (hN9.2.1 ("[I", "[B") (by decide)) (a_recv hP ((xG_ex j2).trans hj2) (a_nmi hK)) dX0_put_27 ?_
    refine lv_if_eq (tgt := 49) hx hb dX0_put_30 (by decide) (fun c_2 => ?_) (fun c_2 => ?_)
    · skip
      refine lv_aload_n hx hb dX0_put_49 rfl (lv_at hl 1 rfl) ?_
      refine g_get (v := .ref qs) hx hb hts hown hK hP 25 (by decide) rfl q174 rfl dX0_put_50 ?_
      refine lv_iload_n hx hb dX0_put_53 rfl (lv_at hl 2 rfl) ?_
      refine s_pla hx hb hK hP (xps n + j0) ((xG_ex j0).trans hj0) K hK4 dX0_put_54 ?_
      refine s_has hx hb hts hown hK hP hE (xps n + j1) ((xG_ex j1).trans hj1) dX0_put_55 ?_
      refine lv_astore (lv' := [(6, .ref ad), (0, .ref o), (1, .int (nI K)), (2, .int i), (3, .int v)]) hx hb dX0_put_58 hl (by decide) rfl (fun ls hl => ?_)
      refine lv_aload hx hb dX0_put_60 (lv_at hl 0 rfl) ?_
      refine va_instNo (C := "[I") hx hb hown (hts _ q391) (hN9.2.1 ("[I", "[S") (by decide)) (a_recv hP ((xG_ex j2).trans hj2) (a_nmi hK)) dX0_put_62 ?_
      refine lv_if_eq (tgt := 84) hx hb dX0_put_65 (by decide) (fun c_3 => ?_) (fun c_3 => ?_)
      · skip
        refine lv_aload_n hx hb dX0_put_84 rfl (lv_at hl 1 rfl) ?_
        refine g_get (v := .ref qs) hx hb hts hown hK hP 25 (by decide) rfl q174 rfl dX0_put_85 ?_
        refine lv_iload_n hx hb dX0_put_88 rfl (lv_at hl 2 rfl) ?_
        refine s_pla hx hb hK hP (xps n + j0) ((xG_ex j0).trans hj0) K hK4 dX0_put_89 ?_
        refine s_has hx hb hts hown hK hP hE (xps n + j1) ((xG_ex j1).trans hj1) dX0_put_90 ?_
        refine va_castA hx hb hown (hts _ q392) hP (xps n + j2) ((xG_ex j2).trans hj2) (a_nmi hK) dX0_put_93 ?_
        refine lv_iload_n hx hb dX0_put_96 rfl (lv_at hl 3 rfl) ?_
        refine lv_iload_n hx hb dX0_put_97 rfl (lv_at hl 4 rfl) ?_
        refine a_iastoreX hx hb (hml.trans hl.1.symm) htr hN9 (nst_lo hst hS) hK hP (xps n + j2) 0 ((xG_ex j2).trans hj2) rfl (by omega) hout (Nat.le_of_ble_eq_true rfl) (Nat.le_of_ble_eq_true rfl) (Nat.le_of_ble_eq_true rfl) (Nat.le_of_ble_eq_true rfl) dX0_put_98 (fun H ce h1 h2 h3 h4 => ?_)
        generalize _ + 2 = x9 at h2 ⊢
        have hP := h1.P hP
        have hS := h1.S hS
        refine WT.caught (own := "LentYouths") hown h2 h4 (x := ⟨14, 100, 109, 183⟩) (rest := cxT []) (nm := "java/lang/ArrayIndexOutOfBoundsException") ⟨rfl, by decide, hts _ q357⟩ h3 (va_asg _ _) [(⟨14, 100, 101, 179⟩, "java/lang/NullPointerException")] (fun z hz => by
            simp only [List.mem_cons, List.not_mem_nil, or_false] at hz
            rcases hz with rfl
            · exact Or.inr ⟨⟨rfl, by decide, hts _ q318⟩, cx_nc h3 (hN9.2.1 ("java/lang/ArrayIndexOutOfBoundsException", "java/lang/NullPointerException") (by decide))⟩) het ?_
        refine W.eq (g2 := F0 m 109 ls [.ref x9]) rfl ?_
        refine lv_astore (lv' := [(4, .ref x9), (6, .ref ad), (0, .ref o), (1, .int (nI K)), (2, .int i), (3, .int v)]) hx hb dX0_put_109 hl (by decide) rfl (fun ls hl => ?_)
        refine lv_aload_n hx hb dX0_put_111 rfl (lv_at hl 2 rfl) ?_
        refine lv_iconst (v := 3) hx hb dX0_put_112 (by decide) ?_
        refine va_calli (va_runV (As := [.int 3]) (rest := []) ⟨hx, hb, hml, hown, hts⟩ (metX0_faulty l dC dI ct A (peW ct o qe n y a ++ ex) o q ql qs md qe n (upd g 0 0) a 3 ) (cwV 1 hts (lw_V q581 q583 qs12 q69 q584) rfl rfl rfl (by decide +kernel) ⟨Nat.le_of_ble_eq_true rfl, Nat.le_of_ble_eq_true rfl⟩) (xPV hK hP hD hE _) rfl rfl hl.1 rfl (lv_room (Nat.le_of_ble_eq_true rfl)) dX0_put_113 ⟨Nat.le_of_ble_eq_true rfl, Nat.le_of_ble_eq_true rfl⟩) hS (fun q _ h => h) (fun q h => h) (fun r u t H1 locs ht hvm hw hB hz1 hk1 hS => ?_)
        obtain ⟨hw, hw2⟩ := hw
        have hw : r = ((-10) - 3) := hw
        subst hw
        subst hw2
        obtain ⟨hP, -, hD⟩ := hB
        rw [ht] at hP
        generalize H1 = H at hP hS ⊢
        have hP : va_P (dC, dI) clA (xG ct o q (ql, qs, md, qe, n) y (upd g 0 3) a ex) H := hP
        have hD : va_D A (xG ct o q (ql, qs, md, qe, n) y (upd g 0 3) a ex) := hD
        refine W.widen (k := 8) (n := 3000) (Nat.le_of_ble_eq_true rfl) (Nat.le_of_ble_eq_true rfl) ?_
        exact W.iret (v := ((-10) - 3)) hx hb hr (fun t ht hW => ⟨⟨((-10) - 3), ((upd g 0 3), a), rfl, ⟨(by first | rfl | (simp [c_1, c_2, c_3]; done)), rfl⟩, by rw [ht]; exact hP, va_K.moved hW.alike hK, hD⟩, hS.F ht⟩) hS.2.2 dX0_put_116
      · skip
        exact absurd c_3 (by decide)
    · skip
      exact absurd c_2 (by decide)
  · skip
    exact False.elim (by rw [inK hK4] at c_1; cases c_1)
set_option maxHeartbeats 4000000 in
set_option maxRecDepth 100000 in
theorem metX0_cell_bad (l : Launch) (dC : Nat → ClassId) (dI : Nat → Nat → Nat) (ct : Nat → ClassId) (A : Nat → Prop) (ex : va_W) (o : Nat) (q : Nat → Nat) (ql qs : Nat) (md : Int32) (qe n : Nat) (y : Nat → Nat) (g : Nat → Int32) (a : Nat → Nat → Int32) (htr : l.stackTraces = false) (k : Int32) (i : Int32) (lane : Int32) (hk4 : ¬ (inP k 4 = true ∧ inP lane 3 = true)) : Met l yX0_cell (wsW_ yX0_cell cX0_cell 5 (some .long) [((23 : Nat), (41 : Nat), (42 : Nat), (173 : Nat)), ((23 : Nat), (41 : Nat), (50 : Nat), (179 : Nat)), ((23 : Nat), (41 : Nat), (58 : Nat), (183 : Nat))]) ({ frames := 16, cells := 8, slots := 3000, locals := 12000 }) (sPre dC dI ct A ex o q (ql, qs, md, qe, n) y g a [.ref o, .int k, .int i, .int lane]) (va_Ql (fun (r : Int64) (u : (Nat → Int32) × (Nat → Nat → Int32)) => r = (-9223372036854775808) ∧ u = ((upd g 0 0), a)) (fun u t => gB dC dI ct A ex o q (ql, qs, md, qe, n) y u t) A) 8 3000 A := by
  refine cx_MetW (cc := cX0_cell) (maxL := 5) (ret := (some .long)) (hh := [((23 : Nat), (41 : Nat), (42 : Nat), (173 : Nat)), ((23 : Nat), (41 : Nat), (50 : Nat), (179 : Nat)), ((23 : Nat), (41 : Nat), (58 : Nat), (183 : Nat))]) (by decide) rfl ?_
  intro p e s m args below meth c s₁ B hml het hv
  obtain ⟨rfl, hP, hK, hD, hE, hE9, hA, hst, hI9⟩ := hv
  have hN9 := hE9.now
  have hx := B.exec
  have hb := B.bytes
  have hr := B.returns
  have hts := atoms_spec (ws := wsW_ yX0_cell cX0_cell 5 (some .long) [((23 : Nat), (41 : Nat), (42 : Nat), (173 : Nat)), ((23 : Nat), (41 : Nat), (50 : Nat), (179 : Nat)), ((23 : Nat), (41 : Nat), (58 : Nat), (183 : Nat))]) B.pre
  have hts : ∀ w ∈ lw_all, w.before _ s = true := fun w h => hts w (List.mem_cons_of_mem _ h)
  have hown : s.vm.findClass RX0 = some m.cls := findClass_of_methodNamed B.named
  have hlocks := B.notSynchronized
  have hS : va_S A s.heap s.heap [] := va_S.rf
  have hl := lv_entry ([.ref o, .int k, .int i, .int lane]) (n := 5) (Nat.le_of_ble_eq_true rfl)
  rw [lg_entry_eq]
  generalize (lg_sl ([.ref o, .int k, .int i, .int lane]) ++ List.replicate (5 - (lg_sl ([.ref o, .int k, .int i, .int lane])).length) Slot.unset).toArray = ls at hl ⊢
  have hl : lv_has ls 5 [(0, .ref o), (1, .int k), (2, .int i), (3, .int lane)] := hl
  refine lv_aload_n hx hb dX0_cell_0 rfl (lv_at hl 0 rfl) ?_
  refine lv_iconst (v := 0) hx hb dX0_cell_1 (by decide) ?_
  refine g_put (v := 0) hx hb hts hown hK hP hD hS 0 0 (by decide) rfl q144 rfl rfl (by decide +kernel) dX0_cell_2 (fun H locs hP hD hS => ?_)
  refine lv_iload_n hx hb dX0_cell_5 rfl (lv_at hl 1 rfl) ?_
  refine vp_callSi ((va_runS (As := [.int k]) (rest := []) ⟨hx, hb, hml, hown, hts⟩ (metX0_isSheet l k ) (va_cwS 1 hts (lw_S q376 q377 q69 q378) rfl rfl rfl (by decide +kernel) ⟨Nat.le_of_ble_eq_true rfl, Nat.le_of_ble_eq_true rfl⟩) (pcS _) rfl rfl hl.1 rfl (lv_room (Nat.le_of_ble_eq_true rfl)) dX0_cell_6 ⟨Nat.le_of_ble_eq_true rfl, Nat.le_of_ble_eq_true rfl⟩)).run (fun r hw => ?_)
  have hw : r = (b2i (inP k 4)) := hw
  subst hw
  refine bz_eq (tgt := 19) hx hb dX0_cell_9 (by decide) (fun c_1 => ?_) (fun c_1 => ?_)
  · skip
    refine lv_ldc2 (v := (-9223372036854775808)) hx hb hown (hts _ q846) dX0_cell_19 ?_
    refine W.widen (k := 8) (n := 3000) (Nat.le_of_ble_eq_true rfl) (Nat.le_of_ble_eq_true rfl) ?_
    exact W.lret (v := (-9223372036854775808)) hx hb hr (fun t ht hW => ⟨⟨(-9223372036854775808), ((upd g 0 0), a), rfl, ⟨(by first | rfl | (simp [c_1]; done)), rfl⟩, by rw [ht]; exact hP, va_K.moved hW.alike hK, hD⟩, hS.F ht⟩) hS.2.2 dX0_cell_22
  · skip
    refine lv_iload_n hx hb dX0_cell_12 rfl (lv_at hl 3 rfl) ?_
    refine vp_callSi ((va_runS (As := [.int lane]) (rest := []) ⟨hx, hb, hml, hown, hts⟩ (metX0_isLane l lane ) (va_cwS 1 hts (lw_S q383 q384 q69 q385) rfl rfl rfl (by decide +kernel) ⟨Nat.le_of_ble_eq_true rfl, Nat.le_of_ble_eq_true rfl⟩) (pcS _) rfl rfl hl.1 rfl (lv_room (Nat.le_of_ble_eq_true rfl)) dX0_cell_13 ⟨Nat.le_of_ble_eq_true rfl, Nat.le_of_ble_eq_true rfl⟩)).run (fun r hw => ?_)
    have hw : r = (b2i (inP lane 3)) := hw
    subst hw
    refine bz_ne (tgt := 23) hx hb dX0_cell_16 (by decide) (fun c_2 => ?_) (fun c_2 => ?_)
    · skip
      exact False.elim (by exact hk4 ⟨c_1, c_2⟩)
    · skip
      refine lv_ldc2 (v := (-9223372036854775808)) hx hb hown (hts _ q846) dX0_cell_19 ?_
      refine W.widen (k := 8) (n := 3000) (Nat.le_of_ble_eq_true rfl) (Nat.le_of_ble_eq_true rfl) ?_
      exact W.lret (v := (-9223372036854775808)) hx hb hr (fun t ht hW => ⟨⟨(-9223372036854775808), ((upd g 0 0), a), rfl, ⟨(by first | rfl | (simp [c_1, c_2]; done)), rfl⟩, by rw [ht]; exact hP, va_K.moved hW.alike hK, hD⟩, hS.F ht⟩) hS.2.2 dX0_cell_22
set_option maxHeartbeats 4000000 in
set_option maxRecDepth 100000 in
theorem metX0_cell_n (l : Launch) (dC : Nat → ClassId) (dI : Nat → Nat → Nat) (ct : Nat → ClassId) (A : Nat → Prop) (ex : va_W) (o : Nat) (q : Nat → Nat) (ql qs : Nat) (md : Int32) (qe n : Nat) (y : Nat → Nat) (g : Nat → Int32) (a : Nat → Nat → Int32) (htr : l.stackTraces = false) (K : Nat) (i : Int32) (lz : Nat) (j0 : Nat) (pl : Nat → Nat) (hj0 : ex[j0]? = some (qs, .inl (ct 5, 4, .inr (.inr (.inr (.inr (fun j => some (pl j)))))))) (K : Nat) (hK4 : K < 4) (j1 : Nat) (hj1 : ex[j1]? = some (pl K, .inr (6, [.null]))) (hlz : lz < 3) : Met l yX0_cell (wsW_ yX0_cell cX0_cell 5 (some .long) [((23 : Nat), (41 : Nat), (42 : Nat), (173 : Nat)), ((23 : Nat), (41 : Nat), (50 : Nat), (179 : Nat)), ((23 : Nat), (41 : Nat), (58 : Nat), (183 : Nat))]) ({ frames := 16, cells := 8, slots := 3000, locals := 12000 }) (sPre dC dI ct A ex o q (ql, qs, md, qe, n) y g a [.ref o, .int (nI K), .int i, .int (nI lz)]) (va_Ql (fun (r : Int64) (u : (Nat → Int32) × (Nat → Nat → Int32)) => r = (-9223372036854775808) ∧ u = ((upd g 0 1), a)) (fun u t => gB dC dI ct A ex o q (ql, qs, md, qe, n) y u t) A) 8 3000 A := by
  refine cx_MetW (cc := cX0_cell) (maxL := 5) (ret := (some .long)) (hh := [((23 : Nat), (41 : Nat), (42 : Nat), (173 : Nat)), ((23 : Nat), (41 : Nat), (50 : Nat), (179 : Nat)), ((23 : Nat), (41 : Nat), (58 : Nat), (183 : Nat))]) (by decide) rfl ?_
  intro p e s m args below meth c s₁ B hml het hv
  obtain ⟨rfl, hP, hK, hD, hE, hE9, hA, hst, hI9⟩ := hv
  have hN9 := hE9.now
  have hx := B.exec
  have hb := B.bytes
  have hr := B.returns
  have hts := atoms_spec (ws := wsW_ yX0_cell cX0_cell 5 (some .long) [((23 : Nat), (41 : Nat), (42 : Nat), (173 : Nat)), ((23 : Nat), (41 : Nat), (50 : Nat), (179 : Nat)), ((23 : Nat), (41 : Nat), (58 : Nat), (183 : Nat))]) B.pre
  have hts : ∀ w ∈ lw_all, w.before _ s = true := fun w h => hts w (List.mem_cons_of_mem _ h)
  have hown : s.vm.findClass RX0 = some m.cls := findClass_of_methodNamed B.named
  have hlocks := B.notSynchronized
  have hS : va_S A s.heap s.heap [] := va_S.rf
  have hl := lv_entry ([.ref o, .int (nI K), .int i, .int (nI lz)]) (n := 5) (Nat.le_of_ble_eq_true rfl)
  rw [lg_entry_eq]
  generalize (lg_sl ([.ref o, .int (nI K), .int i, .int (nI lz)]) ++ List.replicate (5 - (lg_sl ([.ref o, .int (nI K), .int i, .int (nI lz)])).length) Slot.unset).toArray = ls at hl ⊢
  have hl : lv_has ls 5 [(0, .ref o), (1, .int (nI K)), (2, .int i), (3, .int (nI lz))] := hl
  refine lv_aload_n hx hb dX0_cell_0 rfl (lv_at hl 0 rfl) ?_
  refine lv_iconst (v := 0) hx hb dX0_cell_1 (by decide) ?_
  refine g_put (v := 0) hx hb hts hown hK hP hD hS 0 0 (by decide) rfl q144 rfl rfl (by decide +kernel) dX0_cell_2 (fun H locs hP hD hS => ?_)
  refine lv_iload_n hx hb dX0_cell_5 rfl (lv_at hl 1 rfl) ?_
  refine vp_callSi ((va_runS (As := [.int (nI K)]) (rest := []) ⟨hx, hb, hml, hown, hts⟩ (metX0_isSheet l (nI K) ) (va_cwS 1 hts (lw_S q376 q377 q69 q378) rfl rfl rfl (by decide +kernel) ⟨Nat.le_of_ble_eq_true rfl, Nat.le_of_ble_eq_true rfl⟩) (pcS _) rfl rfl hl.1 rfl (lv_room (Nat.le_of_ble_eq_true rfl)) dX0_cell_6 ⟨Nat.le_of_ble_eq_true rfl, Nat.le_of_ble_eq_true rfl⟩)).run (fun r hw => ?_)
  have hw : r = (b2i (inP (nI K) 4)) := hw
  subst hw
  refine bz_eq (tgt := 19) hx hb dX0_cell_9 (by decide) (fun c_1 => ?_) (fun c_1 => ?_)
  · skip
    exact False.elim (by rw [inK hK4] at c_1; cases c_1)
  · skip
    refine lv_iload_n hx hb dX0_cell_12 rfl (lv_at hl 3 rfl) ?_
    refine vp_callSi ((va_runS (As := [.int (nI lz)]) (rest := []) ⟨hx, hb, hml, hown, hts⟩ (metX0_isLane l (nI lz) ) (va_cwS 1 hts (lw_S q383 q384 q69 q385) rfl rfl rfl (by decide +kernel) ⟨Nat.le_of_ble_eq_true rfl, Nat.le_of_ble_eq_true rfl⟩) (pcS _) rfl rfl hl.1 rfl (lv_room (Nat.le_of_ble_eq_true rfl)) dX0_cell_13 ⟨Nat.le_of_ble_eq_true rfl, Nat.le_of_ble_eq_true rfl⟩)).run (fun r hw => ?_)
    have hw : r = (b2i (inP (nI lz) 3)) := hw
    subst hw
    refine bz_ne (tgt := 23) hx hb dX0_cell_16 (by decide) (fun c_2 => ?_) (fun c_2 => ?_)
    · skip
      refine lv_aload_n hx hb dX0_cell_23 rfl (lv_at hl 0 rfl) ?_
      refine g_get (v := .ref qs) hx hb hts hown hK hP 25 (by decide) rfl q174 rfl dX0_cell_24 ?_
      refine lv_iload_n hx hb dX0_cell_27 rfl (lv_at hl 1 rfl) ?_
      refine s_pla hx hb hK hP (xps n + j0) ((xG_ex j0).trans hj0) K hK4 dX0_cell_28 ?_
      refine s_has hx hb hts hown hK hP hE (xps n + j1) ((xG_ex j1).trans hj1) dX0_cell_29 ?_
      refine lv_iload_n hx hb dX0_cell_32 rfl (lv_at hl 3 rfl) ?_
      refine va_csr ((va_runS (As := [.null, .int (nI lz)]) (rest := []) ⟨hx, hb, hml, hown, hts⟩ (metX0_asLane_n l dC dI ct A (xG ct o q (ql, qs, md, qe, n) y (upd g 0 0) a ex) lz hlz) (va_cwS 2 hts (lw_S q387 q388 q69 q389) rfl rfl rfl (by decide +kernel) ⟨Nat.le_of_ble_eq_true rfl, Nat.le_of_ble_eq_true rfl⟩) (aPS hK hP hE9 hS _) rfl rfl hl.1 rfl (lv_room (Nat.le_of_ble_eq_true rfl)) dX0_cell_33 ⟨Nat.le_of_ble_eq_true rfl, Nat.le_of_ble_eq_true rfl⟩)).run (fun _ _ => ?_)
      refine lv_iload_n hx hb dX0_cell_36 rfl (lv_at hl 2 rfl) ?_
      refine W.exCall (As := [.null, .int i]) (rest := []) ⟨hx, hb, hml, hown, hts⟩ (metX0_cellOf_n l dC dI ct A (xG ct o q (ql, qs, md, qe, n) y (upd g 0 0) a ex) htr i) (va_cwS 2 hts (lw_S q409 q410 q69 q411) rfl rfl rfl (by decide +kernel) ⟨Nat.le_of_ble_eq_true rfl, Nat.le_of_ble_eq_true rfl⟩) (aPS hK hP hE9 hS _) rfl hl.1 rfl (Nat.le_of_ble_eq_true rfl) dX0_cell_37 ⟨Nat.le_of_ble_eq_true rfl, Nat.le_of_ble_eq_true rfl⟩ (fun H x9 ce h1 h2 h3 h4 => ?_)
      have hP := h1.P hP
      have hS := h1.S hS
      refine WT.caught (own := "LentYouths") hown h2 h4 (x := ⟨23, 41, 50, 179⟩) (rest := cxT [(23, 41, 58, 183)]) (nm := "java/lang/NullPointerException") ⟨rfl, by decide, hts _ q318⟩ h3 (va_asg _ _) [(⟨23, 41, 42, 173⟩, "java/lang/ClassCastException")] (fun z hz => by
          simp only [List.mem_cons, List.not_mem_nil, or_false] at hz
          rcases hz with rfl
          · exact Or.inr ⟨⟨rfl, by decide, hts _ q232⟩, cx_nc h3 (hN9.2.1 ("java/lang/NullPointerException", "java/lang/ClassCastException") (by decide))⟩) het ?_
      refine W.eq (g2 := F0 m 50 ls [.ref x9]) rfl ?_
      refine lv_astore (lv' := [(4, .ref x9), (0, .ref o), (1, .int (nI K)), (2, .int i), (3, .int (nI lz))]) hx hb dX0_cell_50 hl (by decide) rfl (fun ls hl => ?_)
      refine lv_aload_n hx hb dX0_cell_52 rfl (lv_at hl 1 rfl) ?_
      refine lv_iconst (v := 1) hx hb dX0_cell_53 (by decide) ?_
      refine va_calll (va_runV (As := [.int 1]) (rest := []) ⟨hx, hb, hml, hown, hts⟩ (metX0_lost l dC dI ct A (peW ct o qe n y a ++ ex) o q ql qs md qe n (upd g 0 0) a 1 ) (cwV 1 hts (lw_V q851 q853 qs39 q69 q854) rfl rfl rfl (by decide +kernel) ⟨Nat.le_of_ble_eq_true rfl, Nat.le_of_ble_eq_true rfl⟩) (xPV hK hP hD hE _) rfl rfl hl.1 rfl (lv_room (Nat.le_of_ble_eq_true rfl)) dX0_cell_54 ⟨Nat.le_of_ble_eq_true rfl, Nat.le_of_ble_eq_true rfl⟩) hS (fun q _ h => h) (fun q h => h) (fun r u t H1 locs ht hvm hw hB hz1 hk1 hS => ?_)
      obtain ⟨hw, hw2⟩ := hw
      have hw : r = (-9223372036854775808) := hw
      subst hw
      subst hw2
      obtain ⟨hP, -, hD⟩ := hB
      rw [ht] at hP
      generalize H1 = H at hP hS ⊢
      have hP : va_P (dC, dI) clA (xG ct o q (ql, qs, md, qe, n) y (upd g 0 1) a ex) H := hP
      have hD : va_D A (xG ct o q (ql, qs, md, qe, n) y (upd g 0 1) a ex) := hD
      refine W.widen (k := 8) (n := 3000) (Nat.le_of_ble_eq_true rfl) (Nat.le_of_ble_eq_true rfl) ?_
      exact W.lret (v := (-9223372036854775808)) hx hb hr (fun t ht hW => ⟨⟨(-9223372036854775808), ((upd g 0 1), a), rfl, ⟨(by first | rfl | (simp [c_1, c_2]; done)), rfl⟩, by rw [ht]; exact hP, va_K.moved hW.alike hK, hD⟩, hS.F ht⟩) hS.2.2 dX0_cell_57
    · skip
      exact False.elim (by rw [inL hlz] at c_2; cases c_2)
set_option maxHeartbeats 4000000 in
set_option maxRecDepth 100000 in
theorem metX0_cell_C (l : Launch) (dC : Nat → ClassId) (dI : Nat → Nat → Nat) (ct : Nat → ClassId) (A : Nat → Prop) (ex : va_W) (o : Nat) (q : Nat → Nat) (ql qs : Nat) (md : Int32) (qe n : Nat) (y : Nat → Nat) (g : Nat → Int32) (a : Nat → Nat → Int32) (htr : l.stackTraces = false) (K : Nat) (i : Int32) (lz : Nat) (j0 : Nat) (pl : Nat → Nat) (hj0 : ex[j0]? = some (qs, .inl (ct 5, 4, .inr (.inr (.inr (.inr (fun j => some (pl j)))))))) (j2 ad N : Nat) (f : Nat → Int32) (lx : Nat) (hlx : lx < 3) (hj2 : ex[j2]? = some (ad, .inl (ct (lty lx), N, .inl f))) (hN : N ≤ 60) (K : Nat) (hK4 : K < 4) (j1 : Nat) (hj1 : ex[j1]? = some (pl K, .inr (6, [.ref ad]))) (hlz : lz < 3) (hne : lx ≠ lz) : Met l yX0_cell (wsW_ yX0_cell cX0_cell 5 (some .long) [((23 : Nat), (41 : Nat), (42 : Nat), (173 : Nat)), ((23 : Nat), (41 : Nat), (50 : Nat), (179 : Nat)), ((23 : Nat), (41 : Nat), (58 : Nat), (183 : Nat))]) ({ frames := 16, cells := 8, slots := 3000, locals := 12000 }) (sPre dC dI ct A ex o q (ql, qs, md, qe, n) y g a [.ref o, .int (nI K), .int i, .int (nI lz)]) (va_Ql (fun (r : Int64) (u : (Nat → Int32) × (Nat → Nat → Int32)) => r = (-9223372036854775808) ∧ u = ((upd g 0 2), a)) (fun u t => gB dC dI ct A ex o q (ql, qs, md, qe, n) y u t) A) 8 3000 A := by
  refine cx_MetW (cc := cX0_cell) (maxL := 5) (ret := (some .long)) (hh := [((23 : Nat), (41 : Nat), (42 : Nat), (173 : Nat)), ((23 : Nat), (41 : Nat), (50 : Nat), (179 : Nat)), ((23 : Nat), (41 : Nat), (58 : Nat), (183 : Nat))]) (by decide) rfl ?_
  intro p e s m args below meth c s₁ B hml het hv
  obtain ⟨rfl, hP, hK, hD, hE, hE9, hA, hst, hI9⟩ := hv
  have hN9 := hE9.now
  have hx := B.exec
  have hb := B.bytes
  have hr := B.returns
  have hts := atoms_spec (ws := wsW_ yX0_cell cX0_cell 5 (some .long) [((23 : Nat), (41 : Nat), (42 : Nat), (173 : Nat)), ((23 : Nat), (41 : Nat), (50 : Nat), (179 : Nat)), ((23 : Nat), (41 : Nat), (58 : Nat), (183 : Nat))]) B.pre
  have hts : ∀ w ∈ lw_all, w.before _ s = true := fun w h => hts w (List.mem_cons_of_mem _ h)
  have hown : s.vm.findClass RX0 = some m.cls := findClass_of_methodNamed B.named
  have hlocks := B.notSynchronized
  have hS : va_S A s.heap s.heap [] := va_S.rf
  have hl := lv_entry ([.ref o, .int (nI K), .int i, .int (nI lz)]) (n := 5) (Nat.le_of_ble_eq_true rfl)
  rw [lg_entry_eq]
  generalize (lg_sl ([.ref o, .int (nI K), .int i, .int (nI lz)]) ++ List.replicate (5 - (lg_sl ([.ref o, .int (nI K), .int i, .int (nI lz)])).length) Slot.unset).toArray = ls at hl ⊢
  have hl : lv_has ls 5 [(0, .ref o), (1, .int (nI K)), (2, .int i), (3, .int (nI lz))] := hl
  refine lv_aload_n hx hb dX0_cell_0 rfl (lv_at hl 0 rfl) ?_
  refine lv_iconst (v := 0) hx hb dX0_cell_1 (by decide) ?_
  refine g_put (v := 0) hx hb hts hown hK hP hD hS 0 0 (by decide) rfl q144 rfl rfl (by decide +kernel) dX0_cell_2 (fun H locs hP hD hS => ?_)
  refine lv_iload_n hx hb dX0_cell_5 rfl (lv_at hl 1 rfl) ?_
  refine vp_callSi ((va_runS (As := [.int (nI K)]) (rest := []) ⟨hx, hb, hml, hown, hts⟩ (metX0_isSheet l (nI K) ) (va_cwS 1 hts (lw_S q376 q377 q69 q378) rfl rfl rfl (by decide +kernel) ⟨Nat.le_of_ble_eq_true rfl, Nat.le_of_ble_eq_true rfl⟩) (pcS _) rfl rfl hl.1 rfl (lv_room (Nat.le_of_ble_eq_true rfl)) dX0_cell_6 ⟨Nat.le_of_ble_eq_true rfl, Nat.le_of_ble_eq_true rfl⟩)).run (fun r hw => ?_)
  have hw : r = (b2i (inP (nI K) 4)) := hw
  subst hw
  refine bz_eq (tgt := 19) hx hb dX0_cell_9 (by decide) (fun c_1 => ?_) (fun c_1 => ?_)
  · skip
    exact False.elim (by rw [inK hK4] at c_1; cases c_1)
  · skip
    refine lv_iload_n hx hb dX0_cell_12 rfl (lv_at hl 3 rfl) ?_
    refine vp_callSi ((va_runS (As := [.int (nI lz)]) (rest := []) ⟨hx, hb, hml, hown, hts⟩ (metX0_isLane l (nI lz) ) (va_cwS 1 hts (lw_S q383 q384 q69 q385) rfl rfl rfl (by decide +kernel) ⟨Nat.le_of_ble_eq_true rfl, Nat.le_of_ble_eq_true rfl⟩) (pcS _) rfl rfl hl.1 rfl (lv_room (Nat.le_of_ble_eq_true rfl)) dX0_cell_13 ⟨Nat.le_of_ble_eq_true rfl, Nat.le_of_ble_eq_true rfl⟩)).run (fun r hw => ?_)
    have hw : r = (b2i (inP (nI lz) 3)) := hw
    subst hw
    refine bz_ne (tgt := 23) hx hb dX0_cell_16 (by decide) (fun c_2 => ?_) (fun c_2 => ?_)
    · skip
      refine lv_aload_n hx hb dX0_cell_23 rfl (lv_at hl 0 rfl) ?_
      refine g_get (v := .ref qs) hx hb hts hown hK hP 25 (by decide) rfl q174 rfl dX0_cell_24 ?_
      refine lv_iload_n hx hb dX0_cell_27 rfl (lv_at hl 1 rfl) ?_
      refine s_pla hx hb hK hP (xps n + j0) ((xG_ex j0).trans hj0) K hK4 dX0_cell_28 ?_
      refine s_has hx hb hts hown hK hP hE (xps n + j1) ((xG_ex j1).trans hj1) dX0_cell_29 ?_
      refine lv_iload_n hx hb dX0_cell_32 rfl (lv_at hl 3 rfl) ?_
      refine W.exCall (As := [.ref ad, .int (nI lz)]) (rest := []) ⟨hx, hb, hml, hown, hts⟩ (metX0_asLane_x l dC dI ct A (xG ct o q (ql, qs, md, qe, n) y (upd g 0 0) a ex) htr (xps n + j2) ad N f lx hlx ((xG_ex j2).trans hj2) (by omega) lz hlz hne) (va_cwS 2 hts (lw_S q387 q388 q69 q389) rfl rfl rfl (by decide +kernel) ⟨Nat.le_of_ble_eq_true rfl, Nat.le_of_ble_eq_true rfl⟩) (aPS hK hP hE9 hS _) rfl hl.1 rfl (Nat.le_of_ble_eq_true rfl) dX0_cell_33 ⟨Nat.le_of_ble_eq_true rfl, Nat.le_of_ble_eq_true rfl⟩ (fun H x9 ce h1 h2 h3 h4 => ?_)
      have hP := h1.P hP
      have hS := h1.S hS
      refine WT.caught (own := "LentYouths") hown h2 h4 (x := ⟨23, 41, 42, 173⟩) (rest := cxT [(23, 41, 50, 179), (23, 41, 58, 183)]) (nm := "java/lang/ClassCastException") ⟨rfl, by decide, hts _ q232⟩ h3 (va_asg _ _) [] (fun z hz => absurd hz List.not_mem_nil) het ?_
      refine W.eq (g2 := F0 m 42 ls [.ref x9]) rfl ?_
      refine lv_astore (lv' := [(4, .ref x9), (0, .ref o), (1, .int (nI K)), (2, .int i), (3, .int (nI lz))]) hx hb dX0_cell_42 hl (by decide) rfl (fun ls hl => ?_)
      refine lv_aload_n hx hb dX0_cell_44 rfl (lv_at hl 1 rfl) ?_
      refine lv_iconst (v := 2) hx hb dX0_cell_45 (by decide) ?_
      refine va_calll (va_runV (As := [.int 2]) (rest := []) ⟨hx, hb, hml, hown, hts⟩ (metX0_lost l dC dI ct A (peW ct o qe n y a ++ ex) o q ql qs md qe n (upd g 0 0) a 2 ) (cwV 1 hts (lw_V q851 q853 qs39 q69 q854) rfl rfl rfl (by decide +kernel) ⟨Nat.le_of_ble_eq_true rfl, Nat.le_of_ble_eq_true rfl⟩) (xPV hK hP hD hE _) rfl rfl hl.1 rfl (lv_room (Nat.le_of_ble_eq_true rfl)) dX0_cell_46 ⟨Nat.le_of_ble_eq_true rfl, Nat.le_of_ble_eq_true rfl⟩) hS (fun q _ h => h) (fun q h => h) (fun r u t H1 locs ht hvm hw hB hz1 hk1 hS => ?_)
      obtain ⟨hw, hw2⟩ := hw
      have hw : r = (-9223372036854775808) := hw
      subst hw
      subst hw2
      obtain ⟨hP, -, hD⟩ := hB
      rw [ht] at hP
      generalize H1 = H at hP hS ⊢
      have hP : va_P (dC, dI) clA (xG ct o q (ql, qs, md, qe, n) y (upd g 0 2) a ex) H := hP
      have hD : va_D A (xG ct o q (ql, qs, md, qe, n) y (upd g 0 2) a ex) := hD
      refine W.widen (k := 8) (n := 3000) (Nat.le_of_ble_eq_true rfl) (Nat.le_of_ble_eq_true rfl) ?_
      exact W.lret (v := (-9223372036854775808)) hx hb hr (fun t ht hW => ⟨⟨(-9223372036854775808), ((upd g 0 2), a), rfl, ⟨(by first | rfl | (simp [c_1, c_2]; done)), rfl⟩, by rw [ht]; exact hP, va_K.moved hW.alike hK, hD⟩, hS.F ht⟩) hS.2.2 dX0_cell_49
    · skip
      exact False.elim (by rw [inL hlz] at c_2; cases c_2)
set_option maxHeartbeats 4000000 in
set_option maxRecDepth 100000 in
theorem metX0_cell_I (l : Launch) (dC : Nat → ClassId) (dI : Nat → Nat → Nat) (ct : Nat → ClassId) (A : Nat → Prop) (ex : va_W) (o : Nat) (q : Nat → Nat) (ql qs : Nat) (md : Int32) (qe n : Nat) (y : Nat → Nat) (g : Nat → Int32) (a : Nat → Nat → Int32) (htr : l.stackTraces = false) (K : Nat) (i : Int32) (lx : Nat) (j0 : Nat) (pl : Nat → Nat) (hj0 : ex[j0]? = some (qs, .inl (ct 5, 4, .inr (.inr (.inr (.inr (fun j => some (pl j)))))))) (j2 ad N : Nat) (f : Nat → Int32) (hlx : lx < 3) (hj2 : ex[j2]? = some (ad, .inl (ct (lty lx), N, .inl f))) (hN : N ≤ 60) (K : Nat) (hK4 : K < 4) (j1 : Nat) (hj1 : ex[j1]? = some (pl K, .inr (6, [.ref ad]))) (hout : i < 0 ∨ N ≤ i.toNatClampNeg) : Met l yX0_cell (wsW_ yX0_cell cX0_cell 5 (some .long) [((23 : Nat), (41 : Nat), (42 : Nat), (173 : Nat)), ((23 : Nat), (41 : Nat), (50 : Nat), (179 : Nat)), ((23 : Nat), (41 : Nat), (58 : Nat), (183 : Nat))]) ({ frames := 16, cells := 8, slots := 3000, locals := 12000 }) (sPre dC dI ct A ex o q (ql, qs, md, qe, n) y g a [.ref o, .int (nI K), .int i, .int (nI lx)]) (va_Ql (fun (r : Int64) (u : (Nat → Int32) × (Nat → Nat → Int32)) => r = (-9223372036854775808) ∧ u = ((upd g 0 3), a)) (fun u t => gB dC dI ct A ex o q (ql, qs, md, qe, n) y u t) A) 8 3000 A := by
  refine cx_MetW (cc := cX0_cell) (maxL := 5) (ret := (some .long)) (hh := [((23 : Nat), (41 : Nat), (42 : Nat), (173 : Nat)), ((23 : Nat), (41 : Nat), (50 : Nat), (179 : Nat)), ((23 : Nat), (41 : Nat), (58 : Nat), (183 : Nat))]) (by decide) rfl ?_
  intro p e s m args below meth c s₁ B hml het hv
  obtain ⟨rfl, hP, hK, hD, hE, hE9, hA, hst, hI9⟩ := hv
  have hN9 := hE9.now
  have hx := B.exec
  have hb := B.bytes
  have hr := B.returns
  have hts := atoms_spec (ws := wsW_ yX0_cell cX0_cell 5 (some .long) [((23 : Nat), (41 : Nat), (42 : Nat), (173 : Nat)), ((23 : Nat), (41 : Nat), (50 : Nat), (179 : Nat)), ((23 : Nat), (41 : Nat), (58 : Nat), (183 : Nat))]) B.pre
  have hts : ∀ w ∈ lw_all, w.before _ s = true := fun w h => hts w (List.mem_cons_of_mem _ h)
  have hown : s.vm.findClass RX0 = some m.cls := findClass_of_methodNamed B.named
  have hlocks := B.notSynchronized
  have hS : va_S A s.heap s.heap [] := va_S.rf
  have hl := lv_entry ([.ref o, .int (nI K), .int i, .int (nI lx)]) (n := 5) (Nat.le_of_ble_eq_true rfl)
  rw [lg_entry_eq]
  generalize (lg_sl ([.ref o, .int (nI K), .int i, .int (nI lx)]) ++ List.replicate (5 - (lg_sl ([.ref o, .int (nI K), .int i, .int (nI lx)])).length) Slot.unset).toArray = ls at hl ⊢
  have hl : lv_has ls 5 [(0, .ref o), (1, .int (nI K)), (2, .int i), (3, .int (nI lx))] := hl
  refine lv_aload_n hx hb dX0_cell_0 rfl (lv_at hl 0 rfl) ?_
  refine lv_iconst (v := 0) hx hb dX0_cell_1 (by decide) ?_
  refine g_put (v := 0) hx hb hts hown hK hP hD hS 0 0 (by decide) rfl q144 rfl rfl (by decide +kernel) dX0_cell_2 (fun H locs hP hD hS => ?_)
  refine lv_iload_n hx hb dX0_cell_5 rfl (lv_at hl 1 rfl) ?_
  refine vp_callSi ((va_runS (As := [.int (nI K)]) (rest := []) ⟨hx, hb, hml, hown, hts⟩ (metX0_isSheet l (nI K) ) (va_cwS 1 hts (lw_S q376 q377 q69 q378) rfl rfl rfl (by decide +kernel) ⟨Nat.le_of_ble_eq_true rfl, Nat.le_of_ble_eq_true rfl⟩) (pcS _) rfl rfl hl.1 rfl (lv_room (Nat.le_of_ble_eq_true rfl)) dX0_cell_6 ⟨Nat.le_of_ble_eq_true rfl, Nat.le_of_ble_eq_true rfl⟩)).run (fun r hw => ?_)
  have hw : r = (b2i (inP (nI K) 4)) := hw
  subst hw
  refine bz_eq (tgt := 19) hx hb dX0_cell_9 (by decide) (fun c_1 => ?_) (fun c_1 => ?_)
  · skip
    exact False.elim (by rw [inK hK4] at c_1; cases c_1)
  · skip
    refine lv_iload_n hx hb dX0_cell_12 rfl (lv_at hl 3 rfl) ?_
    refine vp_callSi ((va_runS (As := [.int (nI lx)]) (rest := []) ⟨hx, hb, hml, hown, hts⟩ (metX0_isLane l (nI lx) ) (va_cwS 1 hts (lw_S q383 q384 q69 q385) rfl rfl rfl (by decide +kernel) ⟨Nat.le_of_ble_eq_true rfl, Nat.le_of_ble_eq_true rfl⟩) (pcS _) rfl rfl hl.1 rfl (lv_room (Nat.le_of_ble_eq_true rfl)) dX0_cell_13 ⟨Nat.le_of_ble_eq_true rfl, Nat.le_of_ble_eq_true rfl⟩)).run (fun r hw => ?_)
    have hw : r = (b2i (inP (nI lx) 3)) := hw
    subst hw
    refine bz_ne (tgt := 23) hx hb dX0_cell_16 (by decide) (fun c_2 => ?_) (fun c_2 => ?_)
    · skip
      refine lv_aload_n hx hb dX0_cell_23 rfl (lv_at hl 0 rfl) ?_
      refine g_get (v := .ref qs) hx hb hts hown hK hP 25 (by decide) rfl q174 rfl dX0_cell_24 ?_
      refine lv_iload_n hx hb dX0_cell_27 rfl (lv_at hl 1 rfl) ?_
      refine s_pla hx hb hK hP (xps n + j0) ((xG_ex j0).trans hj0) K hK4 dX0_cell_28 ?_
      refine s_has hx hb hts hown hK hP hE (xps n + j1) ((xG_ex j1).trans hj1) dX0_cell_29 ?_
      refine lv_iload_n hx hb dX0_cell_32 rfl (lv_at hl 3 rfl) ?_
      refine va_csr ((va_runS (As := [.ref ad, .int (nI lx)]) (rest := []) ⟨hx, hb, hml, hown, hts⟩ (metX0_asLane l dC dI ct A (xG ct o q (ql, qs, md, qe, n) y (upd g 0 0) a ex) (xps n + j2) ad N f lx hlx ((xG_ex j2).trans hj2) (by omega)) (va_cwS 2 hts (lw_S q387 q388 q69 q389) rfl rfl rfl (by decide +kernel) ⟨Nat.le_of_ble_eq_true rfl, Nat.le_of_ble_eq_true rfl⟩) (aPS hK hP hE9 hS _) rfl rfl hl.1 rfl (lv_room (Nat.le_of_ble_eq_true rfl)) dX0_cell_33 ⟨Nat.le_of_ble_eq_true rfl, Nat.le_of_ble_eq_true rfl⟩)).run (fun _ _ => ?_)
      refine lv_iload_n hx hb dX0_cell_36 rfl (lv_at hl 2 rfl) ?_
      refine W.exCall (As := [.ref ad, .int i]) (rest := []) ⟨hx, hb, hml, hown, hts⟩ (metX0_cellOf_x l dC dI ct A (xG ct o q (ql, qs, md, qe, n) y (upd g 0 0) a ex) htr (xps n + j2) ad N f lx hlx ((xG_ex j2).trans hj2) (by omega) i hout) (va_cwS 2 hts (lw_S q409 q410 q69 q411) rfl rfl rfl (by decide +kernel) ⟨Nat.le_of_ble_eq_true rfl, Nat.le_of_ble_eq_true rfl⟩) (aPS hK hP hE9 hS _) rfl hl.1 rfl (Nat.le_of_ble_eq_true rfl) dX0_cell_37 ⟨Nat.le_of_ble_eq_true rfl, Nat.le_of_ble_eq_true rfl⟩ (fun H x9 ce h1 h2 h3 h4 => ?_)
      have hP := h1.P hP
      have hS := h1.S hS
      refine WT.caught (own := "LentYouths") hown h2 h4 (x := ⟨23, 41, 58, 183⟩) (rest := cxT []) (nm := "java/lang/ArrayIndexOutOfBoundsException") ⟨rfl, by decide, hts _ q357⟩ h3 (va_asg _ _) [(⟨23, 41, 42, 173⟩, "java/lang/ClassCastException"), (⟨23, 41, 50, 179⟩, "java/lang/NullPointerException")] (fun z hz => by
          simp only [List.mem_cons, List.not_mem_nil, or_false] at hz
          rcases hz with rfl | rfl
          · exact Or.inr ⟨⟨rfl, by decide, hts _ q232⟩, cx_nc h3 (hN9.2.1 ("java/lang/ArrayIndexOutOfBoundsException", "java/lang/ClassCastException") (by decide))⟩
          · exact Or.inr ⟨⟨rfl, by decide, hts _ q318⟩, cx_nc h3 (hN9.2.1 ("java/lang/ArrayIndexOutOfBoundsException", "java/lang/NullPointerException") (by decide))⟩) het ?_
      refine W.eq (g2 := F0 m 58 ls [.ref x9]) rfl ?_
      refine lv_astore (lv' := [(4, .ref x9), (0, .ref o), (1, .int (nI K)), (2, .int i), (3, .int (nI lx))]) hx hb dX0_cell_58 hl (by decide) rfl (fun ls hl => ?_)
      refine lv_aload_n hx hb dX0_cell_60 rfl (lv_at hl 1 rfl) ?_
      refine lv_iconst (v := 3) hx hb dX0_cell_61 (by decide) ?_
      refine va_calll (va_runV (As := [.int 3]) (rest := []) ⟨hx, hb, hml, hown, hts⟩ (metX0_lost l dC dI ct A (peW ct o qe n y a ++ ex) o q ql qs md qe n (upd g 0 0) a 3 ) (cwV 1 hts (lw_V q851 q853 qs39 q69 q854) rfl rfl rfl (by decide +kernel) ⟨Nat.le_of_ble_eq_true rfl, Nat.le_of_ble_eq_true rfl⟩) (xPV hK hP hD hE _) rfl rfl hl.1 rfl (lv_room (Nat.le_of_ble_eq_true rfl)) dX0_cell_62 ⟨Nat.le_of_ble_eq_true rfl, Nat.le_of_ble_eq_true rfl⟩) hS (fun q _ h => h) (fun q h => h) (fun r u t H1 locs ht hvm hw hB hz1 hk1 hS => ?_)
      obtain ⟨hw, hw2⟩ := hw
      have hw : r = (-9223372036854775808) := hw
      subst hw
      subst hw2
      obtain ⟨hP, -, hD⟩ := hB
      rw [ht] at hP
      generalize H1 = H at hP hS ⊢
      have hP : va_P (dC, dI) clA (xG ct o q (ql, qs, md, qe, n) y (upd g 0 3) a ex) H := hP
      have hD : va_D A (xG ct o q (ql, qs, md, qe, n) y (upd g 0 3) a ex) := hD
      refine W.widen (k := 8) (n := 3000) (Nat.le_of_ble_eq_true rfl) (Nat.le_of_ble_eq_true rfl) ?_
      exact W.lret (v := (-9223372036854775808)) hx hb hr (fun t ht hW => ⟨⟨(-9223372036854775808), ((upd g 0 3), a), rfl, ⟨(by first | rfl | (simp [c_1, c_2]; done)), rfl⟩, by rw [ht]; exact hP, va_K.moved hW.alike hK, hD⟩, hS.F ht⟩) hS.2.2 dX0_cell_65
    · skip
      exact False.elim (by rw [inL hlx] at c_2; cases c_2)
set_option maxHeartbeats 4000000 in
set_option maxRecDepth 100000 in
theorem metX0_cell_a (l : Launch) (dC : Nat → ClassId) (dI : Nat → Nat → Nat) (ct : Nat → ClassId) (A : Nat → Prop) (ex : va_W) (o : Nat) (q : Nat → Nat) (ql qs : Nat) (md : Int32) (qe n : Nat) (y : Nat → Nat) (g : Nat → Int32) (a : Nat → Nat → Int32) (htr : l.stackTraces = false) (K : Nat) (I : Nat) (lx : Nat) (j0 : Nat) (pl : Nat → Nat) (hj0 : ex[j0]? = some (qs, .inl (ct 5, 4, .inr (.inr (.inr (.inr (fun j => some (pl j)))))))) (j2 ad N : Nat) (f : Nat → Int32) (hlx : lx < 3) (hj2 : ex[j2]? = some (ad, .inl (ct (lty lx), N, .inl f))) (hN : N ≤ 60) (K : Nat) (hK4 : K < 4) (j1 : Nat) (hj1 : ex[j1]? = some (pl K, .inr (6, [.ref ad]))) (hIN : I < N) : Met l yX0_cell (wsW_ yX0_cell cX0_cell 5 (some .long) [((23 : Nat), (41 : Nat), (42 : Nat), (173 : Nat)), ((23 : Nat), (41 : Nat), (50 : Nat), (179 : Nat)), ((23 : Nat), (41 : Nat), (58 : Nat), (183 : Nat))]) ({ frames := 16, cells := 8, slots := 3000, locals := 12000 }) (sPre dC dI ct A ex o q (ql, qs, md, qe, n) y g a [.ref o, .int (nI K), .int (nI I), .int (nI lx)]) (va_Ql (fun (r : Int64) (u : (Nat → Int32) × (Nat → Nat → Int32)) => r = (f I).toInt64 ∧ u = ((upd g 0 0), a)) (fun u t => gB dC dI ct A ex o q (ql, qs, md, qe, n) y u t) A) 8 3000 A := by
  refine cx_MetW (cc := cX0_cell) (maxL := 5) (ret := (some .long)) (hh := [((23 : Nat), (41 : Nat), (42 : Nat), (173 : Nat)), ((23 : Nat), (41 : Nat), (50 : Nat), (179 : Nat)), ((23 : Nat), (41 : Nat), (58 : Nat), (183 : Nat))]) (by decide) rfl ?_
  intro p e s m args below meth c s₁ B hml het hv
  obtain ⟨rfl, hP, hK, hD, hE, hE9, hA, hst, hI9⟩ := hv
  have hN9 := hE9.now
  have hx := B.exec
  have hb := B.bytes
  have hr := B.returns
  have hts := atoms_spec (ws := wsW_ yX0_cell cX0_cell 5 (some .long) [((23 : Nat), (41 : Nat), (42 : Nat), (173 : Nat)), ((23 : Nat), (41 : Nat), (50 : Nat), (179 : Nat)), ((23 : Nat), (41 : Nat), (58 : Nat), (183 : Nat))]) B.pre
  have hts : ∀ w ∈ lw_all, w.before _ s = true := fun w h => hts w (List.mem_cons_of_mem _ h)
  have hown : s.vm.findClass RX0 = some m.cls := findClass_of_methodNamed B.named
  have hlocks := B.notSynchronized
  have hS : va_S A s.heap s.heap [] := va_S.rf
  have hl := lv_entry ([.ref o, .int (nI K), .int (nI I), .int (nI lx)]) (n := 5) (Nat.le_of_ble_eq_true rfl)
  rw [lg_entry_eq]
  generalize (lg_sl ([.ref o, .int (nI K), .int (nI I), .int (nI lx)]) ++ List.replicate (5 - (lg_sl ([.ref o, .int (nI K), .int (nI I), .int (nI lx)])).length) Slot.unset).toArray = ls at hl ⊢
  have hl : lv_has ls 5 [(0, .ref o), (1, .int (nI K)), (2, .int (nI I)), (3, .int (nI lx))] := hl
  refine lv_aload_n hx hb dX0_cell_0 rfl (lv_at hl 0 rfl) ?_
  refine lv_iconst (v := 0) hx hb dX0_cell_1 (by decide) ?_
  refine g_put (v := 0) hx hb hts hown hK hP hD hS 0 0 (by decide) rfl q144 rfl rfl (by decide +kernel) dX0_cell_2 (fun H locs hP hD hS => ?_)
  refine lv_iload_n hx hb dX0_cell_5 rfl (lv_at hl 1 rfl) ?_
  refine vp_callSi ((va_runS (As := [.int (nI K)]) (rest := []) ⟨hx, hb, hml, hown, hts⟩ (metX0_isSheet l (nI K) ) (va_cwS 1 hts (lw_S q376 q377 q69 q378) rfl rfl rfl (by decide +kernel) ⟨Nat.le_of_ble_eq_true rfl, Nat.le_of_ble_eq_true rfl⟩) (pcS _) rfl rfl hl.1 rfl (lv_room (Nat.le_of_ble_eq_true rfl)) dX0_cell_6 ⟨Nat.le_of_ble_eq_true rfl, Nat.le_of_ble_eq_true rfl⟩)).run (fun r hw => ?_)
  have hw : r = (b2i (inP (nI K) 4)) := hw
  subst hw
  refine bz_eq (tgt := 19) hx hb dX0_cell_9 (by decide) (fun c_1 => ?_) (fun c_1 => ?_)
  · skip
    exact False.elim (by rw [inK hK4] at c_1; cases c_1)
  · skip
    refine lv_iload_n hx hb dX0_cell_12 rfl (lv_at hl 3 rfl) ?_
    refine vp_callSi ((va_runS (As := [.int (nI lx)]) (rest := []) ⟨hx, hb, hml, hown, hts⟩ (metX0_isLane l (nI lx) ) (va_cwS 1 hts (lw_S q383 q384 q69 q385) rfl rfl rfl (by decide +kernel) ⟨Nat.le_of_ble_eq_true rfl, Nat.le_of_ble_eq_true rfl⟩) (pcS _) rfl rfl hl.1 rfl (lv_room (Nat.le_of_ble_eq_true rfl)) dX0_cell_13 ⟨Nat.le_of_ble_eq_true rfl, Nat.le_of_ble_eq_true rfl⟩)).run (fun r hw => ?_)
    have hw : r = (b2i (inP (nI lx) 3)) := hw
    subst hw
    refine bz_ne (tgt := 23) hx hb dX0_cell_16 (by decide) (fun c_2 => ?_) (fun c_2 => ?_)
    · skip
      refine lv_aload_n hx hb dX0_cell_23 rfl (lv_at hl 0 rfl) ?_
      refine g_get (v := .ref qs) hx hb hts hown hK hP 25 (by decide) rfl q174 rfl dX0_cell_24 ?_
      refine lv_iload_n hx hb dX0_cell_27 rfl (lv_at hl 1 rfl) ?_
      refine s_pla hx hb hK hP (xps n + j0) ((xG_ex j0).trans hj0) K hK4 dX0_cell_28 ?_
      refine s_has hx hb hts hown hK hP hE (xps n + j1) ((xG_ex j1).trans hj1) dX0_cell_29 ?_
      refine lv_iload_n hx hb dX0_cell_32 rfl (lv_at hl 3 rfl) ?_
      refine va_csr ((va_runS (As := [.ref ad, .int (nI lx)]) (rest := []) ⟨hx, hb, hml, hown, hts⟩ (metX0_asLane l dC dI ct A (xG ct o q (ql, qs, md, qe, n) y (upd g 0 0) a ex) (xps n + j2) ad N f lx hlx ((xG_ex j2).trans hj2) (by omega)) (va_cwS 2 hts (lw_S q387 q388 q69 q389) rfl rfl rfl (by decide +kernel) ⟨Nat.le_of_ble_eq_true rfl, Nat.le_of_ble_eq_true rfl⟩) (aPS hK hP hE9 hS _) rfl rfl hl.1 rfl (lv_room (Nat.le_of_ble_eq_true rfl)) dX0_cell_33 ⟨Nat.le_of_ble_eq_true rfl, Nat.le_of_ble_eq_true rfl⟩)).run (fun _ _ => ?_)
      refine lv_iload_n hx hb dX0_cell_36 rfl (lv_at hl 2 rfl) ?_
      refine vp_callSi ((va_runS (As := [.ref ad, .int (nI I)]) (rest := []) ⟨hx, hb, hml, hown, hts⟩ (metX0_cellOf l dC dI ct A (xG ct o q (ql, qs, md, qe, n) y (upd g 0 0) a ex) (xps n + j2) ad N f lx hlx ((xG_ex j2).trans hj2) (by omega) (nI I) I rfl hIN) (va_cwS 2 hts (lw_S q409 q410 q69 q411) rfl rfl rfl (by decide +kernel) ⟨Nat.le_of_ble_eq_true rfl, Nat.le_of_ble_eq_true rfl⟩) (aPS hK hP hE9 hS _) rfl rfl hl.1 rfl (lv_room (Nat.le_of_ble_eq_true rfl)) dX0_cell_37 ⟨Nat.le_of_ble_eq_true rfl, Nat.le_of_ble_eq_true rfl⟩)).run (fun r hw => ?_)
      have hw : r = (f I) := hw
      subst hw
      refine lv_i2l (v := (Int32.toInt64 (f I))) hx hb dX0_cell_40 rfl ?_
      refine W.widen (k := 8) (n := 3000) (Nat.le_of_ble_eq_true rfl) (Nat.le_of_ble_eq_true rfl) ?_
      exact W.lret (v := (Int32.toInt64 (f I))) hx hb hr (fun t ht hW => ⟨⟨(Int32.toInt64 (f I)), ((upd g 0 0), a), rfl, ⟨(by first | rfl | (simp [c_1, c_2]; done)), rfl⟩, by rw [ht]; exact hP, va_K.moved hW.alike hK, hD⟩, hS.F ht⟩) hS.2.2 dX0_cell_41
    · skip
      exact False.elim (by rw [inL hlx] at c_2; cases c_2)
