/-! THE MODEL: its methods on sheets -/
set_option maxHeartbeats 4000000 in
set_option maxRecDepth 100000 in
theorem metX2_sheet (l : Launch) (dC : Nat → ClassId) (dI : Nat → Nat → Nat) (ct : Nat → ClassId) (A : Nat → Prop) (ex : va_W) (o : Nat) (q : Nat → Nat) (g : Nat → Int32) (a : Nat → Nat → Int32) (x : Int32) (lane : Int32) (n : Int32)  : Met l yX2_sheet (ws_ yX2_sheet cX2_sheet 5 (some .int)) ({ frames := 2, cells := 0, slots := 0, locals := 45 }) (mPre dC dI ct A ex o q g a [.ref o, .int x, .int lane, .int n]) (va_Qi (fun (r : Int32) (u : (Nat → Int32) × (Nat → Nat → Int32)) => r = ((M_sheet g a x lane n)).1 ∧ u = ((M_sheet g a x lane n)).2) (mB dC dI ct A ex o q) A) 0 0 A := by
  refine Met.ofW (cc := cX2_sheet) (maxL := 5) (ret := (some .int)) (by decide) rfl ?_
  intro p e s m args below meth c s₁ B hml hv
  obtain ⟨rfl, hP, hK, hD⟩ := hv
  have hx := B.exec
  have hb := B.bytes
  have hr := B.returns
  have hts := atoms_spec (ws := ws_ yX2_sheet cX2_sheet 5 (some .int)) B.pre
  have hts : ∀ w ∈ lw_all, w.before _ s = true := fun w h => hts w (List.mem_cons_of_mem _ h)
  have hown : s.vm.findClass RX2 = some m.cls := findClass_of_methodNamed B.named
  have hlocks := B.notSynchronized
  have hS : va_S A s.heap s.heap [] := va_S.rf
  have hl := lv_entry ([.ref o, .int x, .int lane, .int n]) (n := 5) (Nat.le_of_ble_eq_true rfl)
  rw [lg_entry_eq]
  generalize (lg_sl ([.ref o, .int x, .int lane, .int n]) ++ List.replicate (5 - (lg_sl ([.ref o, .int x, .int lane, .int n])).length) Slot.unset).toArray = ls at hl ⊢
  have hl : lv_has ls 5 [(0, .ref o), (1, .int x), (2, .int lane), (3, .int n)] := hl
  refine lv_iload_n hx hb dX2_sheet_0 rfl (lv_at hl 1 rfl) ?_
  refine vp_callSi ((va_runS (As := [.int x]) (rest := []) ⟨hx, hb, hml, hown, hts⟩ (metX2_noSheet l x ) (va_cwS 1 hts (lw_S q1079 q1080 q74 q1081) rfl rfl rfl (by decide +kernel) ⟨Nat.le_of_ble_eq_true rfl, Nat.le_of_ble_eq_true rfl⟩) (pcS _) rfl rfl hl.1 rfl (lv_room (Nat.le_of_ble_eq_true rfl)) dX2_sheet_1 ⟨Nat.zero_le _, Nat.zero_le _⟩)).run (fun r hw => ?_)
  have hw : r = (b2i (!(inP x 4))) := hw
  subst hw
  refine bz_eq (tgt := 13) hx hb dX2_sheet_4 (by decide) (fun c_1 => ?_) (fun c_1 => ?_)
  · skip
    obtain ⟨K, hK4, ekK⟩ := inP_of (x := x) (n := 4) (by omega) (by simpa using c_1)
    subst ekK
    have eK : cix (nI K) = K := cix_nI (by omega)
    have bK : inP (nI K) 4 = true := by rw [inP_nI (by omega)]; exact decide_eq_true hK4
    refine lv_iload_n hx hb dX2_sheet_13 rfl (lv_at hl 2 rfl) ?_
    refine lv_i2l (v := (Int32.toInt64 lane)) hx hb dX2_sheet_14 rfl ?_
    refine lv_lconst (v := 0) hx hb dX2_sheet_15 (by decide) ?_
    refine lv_ldc2 (v := 2) hx hb hown (hts _ q1090) dX2_sheet_16 ?_
    refine vp_callSi ((va_runS (As := [.long (Int32.toInt64 lane), .long 0, .long 2]) (rest := []) ⟨hx, hb, hml, hown, hts⟩ (metX2_in l (Int32.toInt64 lane) 0 2 ) (va_cwS 3 hts (lw_S q1083 q1084 q74 q1085) rfl rfl rfl (by decide +kernel) ⟨Nat.le_of_ble_eq_true rfl, Nat.le_of_ble_eq_true rfl⟩) (pcS _) rfl rfl hl.1 rfl (lv_room (Nat.le_of_ble_eq_true rfl)) dX2_sheet_19 ⟨Nat.zero_le _, Nat.zero_le _⟩)).run (fun r hw => ?_)
    have hw : r = (b2i (lin (Int32.toInt64 lane) 0 2)) := hw
    subst hw
    refine bz_eq (tgt := 31) hx hb dX2_sheet_22 (by decide) (fun c_2 => ?_) (fun c_2 => ?_)
    · skip
      rw [lin_inP _ _ 3 (by decide)] at c_2
      refine lv_aload_n hx hb dX2_sheet_31 rfl (lv_at hl 0 rfl) ?_
      refine lv_bipush (v := (-2)) hx hb dX2_sheet_32 (by decide) ?_
      refine va_calli (va_runV (As := [.int (-2)]) (rest := []) ⟨hx, hb, hml, hown, hts⟩ (metX2_refused l dC dI ct A ex o q g a (-2) ) (cwV 1 hts (lw_V q1086 q1088 qs41 q74 q1089) rfl rfl rfl (by decide +kernel) ⟨Nat.le_of_ble_eq_true rfl, Nat.le_of_ble_eq_true rfl⟩) (mPV hK hP hD _) rfl rfl hl.1 rfl (lv_room (Nat.le_of_ble_eq_true rfl)) dX2_sheet_34 ⟨Nat.zero_le _, Nat.zero_le _⟩) hS (fun q _ h => h) (fun q h => h) (fun r u t H1 locs ht hvm hw hB hz1 hk1 hS => ?_)
      obtain ⟨hw, hw2⟩ := hw
      have hw : r = (-2) := hw
      subst hw
      subst hw2
      obtain ⟨hP, -, hD⟩ := hB
      rw [ht] at hP
      generalize H1 = H at hP hS ⊢
      have hP : va_P (dC, dI) clA (mW ct o q (upd g 0 0) a ++ ex) H := hP
      have hD : va_D A (mW ct o q (upd g 0 0) a ++ ex) := hD
      exact W.iret (v := (-2)) hx hb hr (fun t ht hW => ⟨⟨(-2), ((upd g 0 0), a), rfl, ⟨(by first | rfl | (simp [M_sheet, eK, c_1, bK, c_2]; done)), (by first | rfl | (simp [M_sheet, eK, c_1, bK, c_2]; done))⟩, by rw [ht]; exact hP, va_K.moved hW.alike hK, hD⟩, hS.F ht⟩) hS.2.2 dX2_sheet_37
    · skip
      rw [lin_inP _ _ 3 (by decide)] at c_2
      refine lv_iload_n hx hb dX2_sheet_25 rfl (lv_at hl 3 rfl) ?_
      refine lv_bipush (v := 60) hx hb dX2_sheet_26 (by decide) ?_
      refine lv_icmp_le (tgt := 38) hx hb dX2_sheet_28 (by decide) (fun c_3 => ?_) (fun c_3 => ?_)
      · skip
        refine lv_iload_n hx hb dX2_sheet_38 rfl (lv_at hl 3 rfl) ?_
        refine lv_if_ge (tgt := 48) hx hb dX2_sheet_39 (by decide) (fun c_4 => ?_) (fun c_4 => ?_)
        · skip
          obtain ⟨NN, hNN, eNN⟩ := nI_of2 (M := 60) (n := 60) rfl (not_neg c_4) c_3
          subst eNN
          have eN : cix (nI NN) = NN := cix_nI (by omega)
          refine lv_aload_n hx hb dX2_sheet_48 rfl (lv_at hl 0 rfl) ?_
          refine m_get (v := .ref (q 25)) hx hb hts hown hK hP 25 (by decide) rfl q1009 rfl dX2_sheet_49 ?_
          refine lv_iload_n hx hb dX2_sheet_52 rfl (lv_at hl 1 rfl) ?_
          refine lv_iload_n hx hb dX2_sheet_53 rfl (lv_at hl 3 rfl) ?_
          refine m_ist (x := (nI NN)) hx hb hK hP hD hS (mWa25 _ _ _ _ _ _) (mWs25 _ _ _ _ _ _) (a 25) rfl K rfl (by omega) (by decide) dX2_sheet_54 (fun H locs hP hD hS => ?_)
          refine lv_aload_n hx hb dX2_sheet_55 rfl (lv_at hl 0 rfl) ?_
          refine m_get (v := .ref (q 26)) hx hb hts hown hK hP 26 (by decide) rfl q1010 rfl dX2_sheet_56 ?_
          refine lv_iload_n hx hb dX2_sheet_59 rfl (lv_at hl 1 rfl) ?_
          refine lv_iload_n hx hb dX2_sheet_60 rfl (lv_at hl 2 rfl) ?_
          refine m_ist (x := lane) hx hb hK hP hD hS (mWa26 _ _ _ _ _ _) (mWs26 _ _ _ _ _ _) (a 26) rfl K rfl (by omega) (by decide) dX2_sheet_61 (fun H locs hP hD hS => ?_)
          refine lv_iconst (v := 0) hx hb dX2_sheet_62 (by decide) ?_
          refine lv_istore (lv' := [(4, .int 0), (0, .ref o), (1, .int (nI K)), (2, .int lane), (3, .int (nI NN))]) hx hb dX2_sheet_63 hl (by decide) rfl (fun ls hl => ?_)
          have loop1 : ∀ (f1 : Nat) (i : Nat), i ≤ NN → NN + 1 ≤ i + f1 → ∀ (H : Heap) (locs : List Loc), va_P (dC, dI) clA (mW ct o q g (va_up (va_up (va_up a 25 (upd (a 25) K (nI NN))) 26 (upd (a 26) K lane)) 27 (zeroF (60 * K) i (a 27))) ++ ex) H → va_D A (mW ct o q g (va_up (va_up (va_up a 25 (upd (a 25) K (nI NN))) 26 (upd (a 26) K lane)) 27 (zeroF (60 * K) i (a 27))) ++ ex) → va_S A s.heap H locs → ∀ (ls : Array Slot), lv_has ls 5 [(4, .int (nI i)), (3, .int (nI NN)), (1, .int (nI K)), (0, .ref o)] → W p l e (headSpec (ws_ yX2_sheet cX2_sheet 5 (some .int)) ({ frames := 2, cells := 0, slots := 0, locals := 45 })).room s m ([.ref o, .int (nI K), .int lane, .int (nI NN)] : List Value).toArray below meth c H locs 0 0 (MQ below (va_Qi (fun (r : Int32) (u : (Nat → Int32) × (Nat → Nat → Int32)) => r = ((M_sheet g a (nI K) lane (nI NN))).1 ∧ u = ((M_sheet g a (nI K) lane (nI NN))).2) (mB dC dI ct A ex o q) A) ([.ref o, .int (nI K), .int lane, .int (nI NN)] : List Value).toArray s 0 0 A) (F0 m 65 ls []) := by
            intro f1
            induction f1 with
            | zero => intro i hi hf; exact False.elim (by omega)
            | succ f1 ih1 =>
              intro i hi hf H locs hP hD hS ls hl
              refine lv_iload hx hb dX2_sheet_65 (lv_at hl 0 rfl) ?_
              refine lv_iload_n hx hb dX2_sheet_67 rfl (lv_at hl 1 rfl) ?_
              refine lv_icmp_ge (tgt := 90) hx hb dX2_sheet_68 (by decide) (fun c_5 => ?_) (fun c_5 => ?_)
              · skip
                have hge : i = NN := by exact Nat.le_antisymm (by omega) ((nI_leI (by omega) (by omega)).mp c_5)
                rw [hge] at hP hD
                refine lv_aload_n hx hb dX2_sheet_90 rfl (lv_at hl 3 rfl) ?_
                refine lv_iconst (v := 1) hx hb dX2_sheet_91 (by decide) ?_
                refine va_calli (va_runV (As := [.int 1]) (rest := []) ⟨hx, hb, hml, hown, hts⟩ (metX2_refused l dC dI ct A ex o q g (va_up (va_up (va_up a 25 (upd (a 25) K (nI NN))) 26 (upd (a 26) K lane)) 27 (zeroF (60 * K) NN (a 27))) 1 ) (cwV 1 hts (lw_V q1086 q1088 qs41 q74 q1089) rfl rfl rfl (by decide +kernel) ⟨Nat.le_of_ble_eq_true rfl, Nat.le_of_ble_eq_true rfl⟩) (mPV hK hP hD _) rfl rfl hl.1 rfl (lv_room (Nat.le_of_ble_eq_true rfl)) dX2_sheet_92 ⟨Nat.zero_le _, Nat.zero_le _⟩) hS (fun q _ h => h) (fun q h => h) (fun r u t H1 locs ht hvm hw hB hz1 hk1 hS => ?_)
                obtain ⟨hw, hw2⟩ := hw
                have hw : r = 1 := hw
                subst hw
                subst hw2
                obtain ⟨hP, -, hD⟩ := hB
                rw [ht] at hP
                generalize H1 = H at hP hS ⊢
                have hP : va_P (dC, dI) clA (mW ct o q (upd g 0 0) (va_up (va_up (va_up a 25 (upd (a 25) K (nI NN))) 26 (upd (a 26) K lane)) 27 (zeroF (60 * K) NN (a 27))) ++ ex) H := hP
                have hD : va_D A (mW ct o q (upd g 0 0) (va_up (va_up (va_up a 25 (upd (a 25) K (nI NN))) 26 (upd (a 26) K lane)) 27 (zeroF (60 * K) NN (a 27))) ++ ex) := hD
                exact W.iret (v := 1) hx hb hr (fun t ht hW => ⟨⟨1, ((upd g 0 0), (va_up (va_up (va_up a 25 (upd (a 25) K (nI NN))) 26 (upd (a 26) K lane)) 27 (zeroF (60 * K) NN (a 27)))), rfl, ⟨(by simp [M_sheet, eK, eN, c_1, bK, c_2, c_3, c_4, c_5]), (by simp [M_sheet, eK, eN, c_1, bK, c_2, c_3, c_4, c_5])⟩, by rw [ht]; exact hP, va_K.moved hW.alike hK, hD⟩, hS.F ht⟩) hS.2.2 dX2_sheet_95
              · skip
                have hlt : i < NN := by exact Nat.lt_of_not_le (fun z => c_5 ((nI_leI (by omega) (by omega)).mpr z))
                refine lv_aload_n hx hb dX2_sheet_71 rfl (lv_at hl 3 rfl) ?_
                refine m_get (v := .ref (q 27)) hx hb hts hown hK hP 27 (by decide) rfl q1011 rfl dX2_sheet_72 ?_
                refine lv_bipush (v := 60) hx hb dX2_sheet_75 (by decide) ?_
                refine lv_iload_n hx hb dX2_sheet_77 rfl (lv_at hl 2 rfl) ?_
                refine lv_imul hx hb dX2_sheet_78 ?_
                refine lv_iload hx hb dX2_sheet_79 (lv_at hl 0 rfl) ?_
                refine lv_iadd hx hb dX2_sheet_81 ?_
                refine lv_iconst (v := 0) hx hb dX2_sheet_82 (by decide) ?_
                refine m_ist (x := 0) hx hb hK hP hD hS (mWa27 _ _ _ _ _ _) (mWs27 _ _ _ _ _ _) (zeroF (60 * K) i (a 27)) rfl (60 * K + i) (ix_60 K i) (by omega) (by decide) dX2_sheet_83 (fun H locs hP hD hS => ?_)
                have eW_6 : ∀  (za25 : Nat → Int32) (za26 : Nat → Int32) (za27 : Nat → Int32) (zn : Nat → Int32), mW ct o q g (va_up (va_up (va_up (va_up a 25 za25) 26 za26) 27 za27) 27 zn) ++ ex = mW ct o q g (va_up (va_up (va_up a 25 za25) 26 za26) 27 zn) ++ ex := fun _ _ _ _ => rfl
                have hP : va_P (dC, dI) clA (mW ct o q g (va_up (va_up (va_up a 25 (upd (a 25) K (nI NN))) 26 (upd (a 26) K lane)) 27 (upd (zeroF (60 * K) i (a 27)) (60 * K + i) 0)) ++ ex) H := Eq.mp (congrArg (fun w => va_P (dC, dI) clA w H) (eW_6 (upd (a 25) K (nI NN)) (upd (a 26) K lane) (zeroF (60 * K) i (a 27)) (upd (zeroF (60 * K) i (a 27)) (60 * K + i) 0))) hP
                have hD : va_D A (mW ct o q g (va_up (va_up (va_up a 25 (upd (a 25) K (nI NN))) 26 (upd (a 26) K lane)) 27 (upd (zeroF (60 * K) i (a 27)) (60 * K + i) 0)) ++ ex) := Eq.mp (congrArg (fun w => va_D A w) (eW_6 (upd (a 25) K (nI NN)) (upd (a 26) K lane) (zeroF (60 * K) i (a 27)) (upd (zeroF (60 * K) i (a 27)) (60 * K + i) 0))) hD
                refine lv_iinc (v := (nI (i + 1))) (lv' := [(4, .int (nI (i + 1))), (3, .int (nI NN)), (1, .int (nI K)), (0, .ref o)]) hx hb dX2_sheet_84 hl (k := 0) rfl (nI_1 i) (by decide) rfl (fun ls hl => ?_)
                refine lv_goto (tgt := 65) hx hb dX2_sheet_87 (by decide) ?_
                have e_7 : (upd (zeroF (60 * K) i (a 27)) (60 * K + i) 0) = (zeroF (60 * K) (i + 1) (a 27)) := zeroF_s _ _ _
                rw [e_7] at hP hD
                exact ih1 (i + 1) (by omega) (by omega) _ _ hP hD hS _ (lv_sub hl [0, 1, 2, 3] rfl)
          exact loop1 (NN + 1) 0 (by omega) (by omega) _ _ (by rw [zeroF_0]; exact hP) (by rw [zeroF_0]; exact hD) hS _ (lv_sub hl [0, 4, 2, 1] rfl)
        · skip
          refine lv_aload_n hx hb dX2_sheet_42 rfl (lv_at hl 0 rfl) ?_
          refine lv_iconst (v := 4) hx hb dX2_sheet_43 (by decide) ?_
          refine va_calli (va_runV (As := [.int 4]) (rest := []) ⟨hx, hb, hml, hown, hts⟩ (metX2_failed l dC dI ct A ex o q g a 4 ) (cwV 1 hts (lw_V q1095 q1097 qs43 q74 q1098) rfl rfl rfl (by decide +kernel) ⟨Nat.le_of_ble_eq_true rfl, Nat.le_of_ble_eq_true rfl⟩) (mPV hK hP hD _) rfl rfl hl.1 rfl (lv_room (Nat.le_of_ble_eq_true rfl)) dX2_sheet_44 ⟨Nat.zero_le _, Nat.zero_le _⟩) hS (fun q _ h => h) (fun q h => h) (fun r u t H1 locs ht hvm hw hB hz1 hk1 hS => ?_)
          obtain ⟨hw, hw2⟩ := hw
          have hw : r = ((-10) - 4) := hw
          subst hw
          subst hw2
          obtain ⟨hP, -, hD⟩ := hB
          rw [ht] at hP
          generalize H1 = H at hP hS ⊢
          have hP : va_P (dC, dI) clA (mW ct o q (upd g 0 4) a ++ ex) H := hP
          have hD : va_D A (mW ct o q (upd g 0 4) a ++ ex) := hD
          exact W.iret (v := ((-10) - 4)) hx hb hr (fun t ht hW => ⟨⟨((-10) - 4), ((upd g 0 4), a), rfl, ⟨(by first | rfl | (simp [M_sheet, eK, c_1, bK, c_2, c_3, c_4]; done)), (by first | rfl | (simp [M_sheet, eK, c_1, bK, c_2, c_3, c_4]; done))⟩, by rw [ht]; exact hP, va_K.moved hW.alike hK, hD⟩, hS.F ht⟩) hS.2.2 dX2_sheet_47
      · skip
        refine lv_aload_n hx hb dX2_sheet_31 rfl (lv_at hl 0 rfl) ?_
        refine lv_bipush (v := (-2)) hx hb dX2_sheet_32 (by decide) ?_
        refine va_calli (va_runV (As := [.int (-2)]) (rest := []) ⟨hx, hb, hml, hown, hts⟩ (metX2_refused l dC dI ct A ex o q g a (-2) ) (cwV 1 hts (lw_V q1086 q1088 qs41 q74 q1089) rfl rfl rfl (by decide +kernel) ⟨Nat.le_of_ble_eq_true rfl, Nat.le_of_ble_eq_true rfl⟩) (mPV hK hP hD _) rfl rfl hl.1 rfl (lv_room (Nat.le_of_ble_eq_true rfl)) dX2_sheet_34 ⟨Nat.zero_le _, Nat.zero_le _⟩) hS (fun q _ h => h) (fun q h => h) (fun r u t H1 locs ht hvm hw hB hz1 hk1 hS => ?_)
        obtain ⟨hw, hw2⟩ := hw
        have hw : r = (-2) := hw
        subst hw
        subst hw2
        obtain ⟨hP, -, hD⟩ := hB
        rw [ht] at hP
        generalize H1 = H at hP hS ⊢
        have hP : va_P (dC, dI) clA (mW ct o q (upd g 0 0) a ++ ex) H := hP
        have hD : va_D A (mW ct o q (upd g 0 0) a ++ ex) := hD
        exact W.iret (v := (-2)) hx hb hr (fun t ht hW => ⟨⟨(-2), ((upd g 0 0), a), rfl, ⟨(by first | rfl | (simp [M_sheet, eK, c_1, bK, c_2, c_3]; done)), (by first | rfl | (simp [M_sheet, eK, c_1, bK, c_2, c_3]; done))⟩, by rw [ht]; exact hP, va_K.moved hW.alike hK, hD⟩, hS.F ht⟩) hS.2.2 dX2_sheet_37
  · skip
    refine lv_aload_n hx hb dX2_sheet_7 rfl (lv_at hl 0 rfl) ?_
    refine lv_iconst (v := (-1)) hx hb dX2_sheet_8 (by decide) ?_
    refine va_calli (va_runV (As := [.int (-1)]) (rest := []) ⟨hx, hb, hml, hown, hts⟩ (metX2_refused l dC dI ct A ex o q g a (-1) ) (cwV 1 hts (lw_V q1086 q1088 qs41 q74 q1089) rfl rfl rfl (by decide +kernel) ⟨Nat.le_of_ble_eq_true rfl, Nat.le_of_ble_eq_true rfl⟩) (mPV hK hP hD _) rfl rfl hl.1 rfl (lv_room (Nat.le_of_ble_eq_true rfl)) dX2_sheet_9 ⟨Nat.zero_le _, Nat.zero_le _⟩) hS (fun q _ h => h) (fun q h => h) (fun r u t H1 locs ht hvm hw hB hz1 hk1 hS => ?_)
    obtain ⟨hw, hw2⟩ := hw
    have hw : r = (-1) := hw
    subst hw
    subst hw2
    obtain ⟨hP, -, hD⟩ := hB
    rw [ht] at hP
    generalize H1 = H at hP hS ⊢
    have hP : va_P (dC, dI) clA (mW ct o q (upd g 0 0) a ++ ex) H := hP
    have hD : va_D A (mW ct o q (upd g 0 0) a ++ ex) := hD
    exact W.iret (v := (-1)) hx hb hr (fun t ht hW => ⟨⟨(-1), ((upd g 0 0), a), rfl, ⟨(by simp [M_sheet, show inP x 4 = false by simpa using c_1]), (by simp [M_sheet, show inP x 4 = false by simpa using c_1])⟩, by rw [ht]; exact hP, va_K.moved hW.alike hK, hD⟩, hS.F ht⟩) hS.2.2 dX2_sheet_12
set_option maxHeartbeats 4000000 in
set_option maxRecDepth 100000 in
theorem metX2_lose (l : Launch) (dC : Nat → ClassId) (dI : Nat → Nat → Nat) (ct : Nat → ClassId) (A : Nat → Prop) (ex : va_W) (o : Nat) (q : Nat → Nat) (g : Nat → Int32) (a : Nat → Nat → Int32) (x : Int32)  : Met l yX2_lose (ws_ yX2_lose cX2_lose 3 (some .int)) ({ frames := 2, cells := 0, slots := 0, locals := 45 }) (mPre dC dI ct A ex o q g a [.ref o, .int x]) (va_Qi (fun (r : Int32) (u : (Nat → Int32) × (Nat → Nat → Int32)) => r = ((M_lose g a x)).1 ∧ u = ((M_lose g a x)).2) (mB dC dI ct A ex o q) A) 0 0 A := by
  refine Met.ofW (cc := cX2_lose) (maxL := 3) (ret := (some .int)) (by decide) rfl ?_
  intro p e s m args below meth c s₁ B hml hv
  obtain ⟨rfl, hP, hK, hD⟩ := hv
  have hx := B.exec
  have hb := B.bytes
  have hr := B.returns
  have hts := atoms_spec (ws := ws_ yX2_lose cX2_lose 3 (some .int)) B.pre
  have hts : ∀ w ∈ lw_all, w.before _ s = true := fun w h => hts w (List.mem_cons_of_mem _ h)
  have hown : s.vm.findClass RX2 = some m.cls := findClass_of_methodNamed B.named
  have hlocks := B.notSynchronized
  have hS : va_S A s.heap s.heap [] := va_S.rf
  have hl := lv_entry ([.ref o, .int x]) (n := 3) (Nat.le_of_ble_eq_true rfl)
  rw [lg_entry_eq]
  generalize (lg_sl ([.ref o, .int x]) ++ List.replicate (3 - (lg_sl ([.ref o, .int x])).length) Slot.unset).toArray = ls at hl ⊢
  have hl : lv_has ls 3 [(0, .ref o), (1, .int x)] := hl
  refine lv_iload_n hx hb dX2_lose_0 rfl (lv_at hl 1 rfl) ?_
  refine vp_callSi ((va_runS (As := [.int x]) (rest := []) ⟨hx, hb, hml, hown, hts⟩ (metX2_noSheet l x ) (va_cwS 1 hts (lw_S q1079 q1080 q74 q1081) rfl rfl rfl (by decide +kernel) ⟨Nat.le_of_ble_eq_true rfl, Nat.le_of_ble_eq_true rfl⟩) (pcS _) rfl rfl hl.1 rfl (lv_room (Nat.le_of_ble_eq_true rfl)) dX2_lose_1 ⟨Nat.zero_le _, Nat.zero_le _⟩)).run (fun r hw => ?_)
  have hw : r = (b2i (!(inP x 4))) := hw
  subst hw
  refine bz_eq (tgt := 9) hx hb dX2_lose_4 (by decide) (fun c_1 => ?_) (fun c_1 => ?_)
  · skip
    obtain ⟨K, hK4, ekK⟩ := inP_of (x := x) (n := 4) (by omega) (by simpa using c_1)
    subst ekK
    have eK : cix (nI K) = K := cix_nI (by omega)
    have bK : inP (nI K) 4 = true := by rw [inP_nI (by omega)]; exact decide_eq_true hK4
    refine lv_aload_n hx hb dX2_lose_9 rfl (lv_at hl 0 rfl) ?_
    refine m_get (v := .ref (q 25)) hx hb hts hown hK hP 25 (by decide) rfl q1009 rfl dX2_lose_10 ?_
    refine lv_iload_n hx hb dX2_lose_13 rfl (lv_at hl 1 rfl) ?_
    refine m_ild hx hb hK hP (mWa25 _ _ _ _ _ _) (a 25) rfl K rfl (by omega) (by decide) dX2_lose_14 ?_
    refine lv_if_ge (tgt := 22) hx hb dX2_lose_15 (by decide) (fun c_2 => ?_) (fun c_2 => ?_)
    · skip
      refine lv_iconst (v := 1) hx hb dX2_lose_22 (by decide) ?_
      refine lv_istore_n (lv' := [(2, .int 1), (0, .ref o), (1, .int (nI K))]) hx hb dX2_lose_23 rfl hl (by decide) rfl (fun ls hl => ?_)
      refine lv_aload_n hx hb dX2_lose_24 rfl (lv_at hl 1 rfl) ?_
      refine m_get (v := .ref (q 25)) hx hb hts hown hK hP 25 (by decide) rfl q1009 rfl dX2_lose_25 ?_
      refine lv_iload_n hx hb dX2_lose_28 rfl (lv_at hl 2 rfl) ?_
      refine lv_iconst (v := (-1)) hx hb dX2_lose_29 (by decide) ?_
      refine m_ist (x := (-1)) hx hb hK hP hD hS (mWa25 _ _ _ _ _ _) (mWs25 _ _ _ _ _ _) (a 25) rfl K rfl (by omega) (by decide) dX2_lose_30 (fun H locs hP hD hS => ?_)
      refine lv_iload_n hx hb dX2_lose_31 rfl (lv_at hl 0 rfl) ?_
      exact W.iret (v := 1) hx hb hr (fun t ht hW => ⟨⟨1, (g, (va_up a 25 (upd (a 25) K (-1)))), rfl, ⟨(by simp [M_lose, eK, c_1, bK, c_2]), (by simp [M_lose, eK, c_1, bK, c_2])⟩, by rw [ht]; exact hP, va_K.moved hW.alike hK, hD⟩, hS.F ht⟩) hS.2.2 dX2_lose_32
    · skip
      refine lv_iconst (v := 0) hx hb dX2_lose_18 (by decide) ?_
      refine lv_goto (tgt := 23) hx hb dX2_lose_19 (by decide) ?_
      refine lv_istore_n (lv' := [(2, .int 0), (0, .ref o), (1, .int (nI K))]) hx hb dX2_lose_23 rfl hl (by decide) rfl (fun ls hl => ?_)
      refine lv_aload_n hx hb dX2_lose_24 rfl (lv_at hl 1 rfl) ?_
      refine m_get (v := .ref (q 25)) hx hb hts hown hK hP 25 (by decide) rfl q1009 rfl dX2_lose_25 ?_
      refine lv_iload_n hx hb dX2_lose_28 rfl (lv_at hl 2 rfl) ?_
      refine lv_iconst (v := (-1)) hx hb dX2_lose_29 (by decide) ?_
      refine m_ist (x := (-1)) hx hb hK hP hD hS (mWa25 _ _ _ _ _ _) (mWs25 _ _ _ _ _ _) (a 25) rfl K rfl (by omega) (by decide) dX2_lose_30 (fun H locs hP hD hS => ?_)
      refine lv_iload_n hx hb dX2_lose_31 rfl (lv_at hl 0 rfl) ?_
      exact W.iret (v := 0) hx hb hr (fun t ht hW => ⟨⟨0, (g, (va_up a 25 (upd (a 25) K (-1)))), rfl, ⟨(by simp [M_lose, eK, c_1, bK, c_2]), (by simp [M_lose, eK, c_1, bK, c_2])⟩, by rw [ht]; exact hP, va_K.moved hW.alike hK, hD⟩, hS.F ht⟩) hS.2.2 dX2_lose_32
  · skip
    refine lv_iconst (v := (-1)) hx hb dX2_lose_7 (by decide) ?_
    exact W.iret (v := (-1)) hx hb hr (fun t ht hW => ⟨⟨(-1), (g, a), rfl, ⟨(by simp [M_lose, show inP x 4 = false by simpa using c_1]), (by simp [M_lose, show inP x 4 = false by simpa using c_1])⟩, by rw [ht]; exact hP, va_K.moved hW.alike hK, hD⟩, hS.F ht⟩) hS.2.2 dX2_lose_8
set_option maxHeartbeats 4000000 in
set_option maxRecDepth 100000 in
theorem metX2_put (l : Launch) (dC : Nat → ClassId) (dI : Nat → Nat → Nat) (ct : Nat → ClassId) (A : Nat → Prop) (ex : va_W) (o : Nat) (q : Nat → Nat) (g : Nat → Int32) (a : Nat → Nat → Int32) (x : Int32) (i : Int32) (v : Int32) (hz : szOk (a 25)) : Met l yX2_put (ws_ yX2_put cX2_put 4 (some .int)) ({ frames := 2, cells := 0, slots := 0, locals := 47 }) (mPre dC dI ct A ex o q g a [.ref o, .int x, .int i, .int v]) (va_Qi (fun (r : Int32) (u : (Nat → Int32) × (Nat → Nat → Int32)) => r = ((M_put g a x i v)).1 ∧ u = ((M_put g a x i v)).2) (mB dC dI ct A ex o q) A) 0 0 A := by
  refine Met.ofW (cc := cX2_put) (maxL := 4) (ret := (some .int)) (by decide) rfl ?_
  intro p e s m args below meth c s₁ B hml hv
  obtain ⟨rfl, hP, hK, hD⟩ := hv
  have hx := B.exec
  have hb := B.bytes
  have hr := B.returns
  have hts := atoms_spec (ws := ws_ yX2_put cX2_put 4 (some .int)) B.pre
  have hts : ∀ w ∈ lw_all, w.before _ s = true := fun w h => hts w (List.mem_cons_of_mem _ h)
  have hown : s.vm.findClass RX2 = some m.cls := findClass_of_methodNamed B.named
  have hlocks := B.notSynchronized
  have hS : va_S A s.heap s.heap [] := va_S.rf
  have hl := lv_entry ([.ref o, .int x, .int i, .int v]) (n := 4) (Nat.le_of_ble_eq_true rfl)
  rw [lg_entry_eq]
  generalize (lg_sl ([.ref o, .int x, .int i, .int v]) ++ List.replicate (4 - (lg_sl ([.ref o, .int x, .int i, .int v])).length) Slot.unset).toArray = ls at hl ⊢
  have hl : lv_has ls 4 [(0, .ref o), (1, .int x), (2, .int i), (3, .int v)] := hl
  refine lv_iload_n hx hb dX2_put_0 rfl (lv_at hl 1 rfl) ?_
  refine vp_callSi ((va_runS (As := [.int x]) (rest := []) ⟨hx, hb, hml, hown, hts⟩ (metX2_noSheet l x ) (va_cwS 1 hts (lw_S q1079 q1080 q74 q1081) rfl rfl rfl (by decide +kernel) ⟨Nat.le_of_ble_eq_true rfl, Nat.le_of_ble_eq_true rfl⟩) (pcS _) rfl rfl hl.1 rfl (lv_room (Nat.le_of_ble_eq_true rfl)) dX2_put_1 ⟨Nat.zero_le _, Nat.zero_le _⟩)).run (fun r hw => ?_)
  have hw : r = (b2i (!(inP x 4))) := hw
  subst hw
  refine bz_eq (tgt := 13) hx hb dX2_put_4 (by decide) (fun c_1 => ?_) (fun c_1 => ?_)
  · skip
    obtain ⟨K, hK4, ekK⟩ := inP_of (x := x) (n := 4) (by omega) (by simpa using c_1)
    subst ekK
    have eK : cix (nI K) = K := cix_nI (by omega)
    have bK : inP (nI K) 4 = true := by rw [inP_nI (by omega)]; exact decide_eq_true hK4
    refine lv_aload_n hx hb dX2_put_13 rfl (lv_at hl 0 rfl) ?_
    refine lv_iload_n hx hb dX2_put_14 rfl (lv_at hl 1 rfl) ?_
    refine lv_iload_n hx hb dX2_put_15 rfl (lv_at hl 2 rfl) ?_
    refine vp_callSi ((va_runV (As := [.int (nI K), .int i]) (rest := []) ⟨hx, hb, hml, hown, hts⟩ (metX2_noCell l dC dI ct A ex o q g a (nI K) i K hK4 rfl) (cwV 2 hts (lw_V q1267 q1269 qs65 q74 q1270) rfl rfl rfl (by decide +kernel) ⟨Nat.le_of_ble_eq_true rfl, Nat.le_of_ble_eq_true rfl⟩) (mPV hK hP hD _) rfl rfl hl.1 rfl (lv_room (Nat.le_of_ble_eq_true rfl)) dX2_put_16 ⟨Nat.zero_le _, Nat.zero_le _⟩)).run (fun r hw => ?_)
    have hw : r = (nocV ((a 25) K) i) := hw
    subst hw
    refine lv_if_le (tgt := 33) hx hb dX2_put_19 (by decide) (fun c_2 => ?_) (fun c_2 => ?_)
    · skip
      obtain ⟨ei, hi60⟩ := nocV_at c_2 (hz K hK4)
      refine lv_aload_n hx hb dX2_put_33 rfl (lv_at hl 0 rfl) ?_
      refine m_get (v := .ref (q 27)) hx hb hts hown hK hP 27 (by decide) rfl q1011 rfl dX2_put_34 ?_
      refine lv_bipush (v := 60) hx hb dX2_put_37 (by decide) ?_
      refine lv_iload_n hx hb dX2_put_39 rfl (lv_at hl 1 rfl) ?_
      refine lv_imul hx hb dX2_put_40 ?_
      refine lv_iload_n hx hb dX2_put_41 rfl (lv_at hl 2 rfl) ?_
      refine lv_iadd hx hb dX2_put_42 ?_
      refine lv_aload_n hx hb dX2_put_43 rfl (lv_at hl 0 rfl) ?_
      refine m_get (v := .ref (q 26)) hx hb hts hown hK hP 26 (by decide) rfl q1010 rfl dX2_put_44 ?_
      refine lv_iload_n hx hb dX2_put_47 rfl (lv_at hl 1 rfl) ?_
      refine m_ild hx hb hK hP (mWa26 _ _ _ _ _ _) (a 26) rfl K rfl (by omega) (by decide) dX2_put_48 ?_
      refine lv_if_ne (tgt := 57) hx hb dX2_put_49 (by decide) (fun c_3 => ?_) (fun c_3 => ?_)
      · skip
        refine lv_aload_n hx hb dX2_put_57 rfl (lv_at hl 0 rfl) ?_
        refine m_get (v := .ref (q 26)) hx hb hts hown hK hP 26 (by decide) rfl q1010 rfl dX2_put_58 ?_
        refine lv_iload_n hx hb dX2_put_61 rfl (lv_at hl 1 rfl) ?_
        refine m_ild hx hb hK hP (mWa26 _ _ _ _ _ _) (a 26) rfl K rfl (by omega) (by decide) dX2_put_62 ?_
        refine lv_iconst (v := 1) hx hb dX2_put_63 (by decide) ?_
        refine lv_icmp_ne (tgt := 72) hx hb dX2_put_64 (by decide) (fun c_4 => ?_) (fun c_4 => ?_)
        · skip
          refine lv_iload_n hx hb dX2_put_72 rfl (lv_at hl 3 rfl) ?_
          refine m_ist (x := v) hx hb hK hP hD hS (mWa27 _ _ _ _ _ _) (mWs27 _ _ _ _ _ _) (a 27) rfl (60 * K + cix i) (by rw [← ix_60, ← ei]) (by omega) (by decide) dX2_put_73 (fun H locs hP hD hS => ?_)
          refine lv_aload_n hx hb dX2_put_74 rfl (lv_at hl 0 rfl) ?_
          refine lv_iconst (v := 1) hx hb dX2_put_75 (by decide) ?_
          refine va_calli (va_runV (As := [.int 1]) (rest := []) ⟨hx, hb, hml, hown, hts⟩ (metX2_refused l dC dI ct A ex o q g (va_up a 27 (upd (a 27) (60 * K + cix i) v)) 1 ) (cwV 1 hts (lw_V q1086 q1088 qs41 q74 q1089) rfl rfl rfl (by decide +kernel) ⟨Nat.le_of_ble_eq_true rfl, Nat.le_of_ble_eq_true rfl⟩) (mPV hK hP hD _) rfl rfl hl.1 rfl (lv_room (Nat.le_of_ble_eq_true rfl)) dX2_put_76 ⟨Nat.zero_le _, Nat.zero_le _⟩) hS (fun q _ h => h) (fun q h => h) (fun r u t H1 locs ht hvm hw hB hz1 hk1 hS => ?_)
          obtain ⟨hw, hw2⟩ := hw
          have hw : r = 1 := hw
          subst hw
          subst hw2
          obtain ⟨hP, -, hD⟩ := hB
          rw [ht] at hP
          generalize H1 = H at hP hS ⊢
          have hP : va_P (dC, dI) clA (mW ct o q (upd g 0 0) (va_up a 27 (upd (a 27) (60 * K + cix i) v)) ++ ex) H := hP
          have hD : va_D A (mW ct o q (upd g 0 0) (va_up a 27 (upd (a 27) (60 * K + cix i) v)) ++ ex) := hD
          exact W.iret (v := 1) hx hb hr (fun t ht hW => ⟨⟨1, ((upd g 0 0), (va_up a 27 (upd (a 27) (60 * K + cix i) v))), rfl, ⟨(by simp [M_put, eK, narL, c_1, bK, c_2, c_3, c_4]), (by simp [M_put, eK, narL, c_1, bK, c_2, c_3, c_4])⟩, by rw [ht]; exact hP, va_K.moved hW.alike hK, hD⟩, hS.F ht⟩) hS.2.2 dX2_put_79
        · skip
          refine lv_iload_n hx hb dX2_put_67 rfl (lv_at hl 3 rfl) ?_
          refine lv_i2s (v := (v).toInt16.toInt32) hx hb dX2_put_68 rfl ?_
          refine lv_goto (tgt := 73) hx hb dX2_put_69 (by decide) ?_
          refine m_ist (x := ((v).toInt16.toInt32)) hx hb hK hP hD hS (mWa27 _ _ _ _ _ _) (mWs27 _ _ _ _ _ _) (a 27) rfl (60 * K + cix i) (by rw [← ix_60, ← ei]) (by omega) (by decide) dX2_put_73 (fun H locs hP hD hS => ?_)
          refine lv_aload_n hx hb dX2_put_74 rfl (lv_at hl 0 rfl) ?_
          refine lv_iconst (v := 1) hx hb dX2_put_75 (by decide) ?_
          refine va_calli (va_runV (As := [.int 1]) (rest := []) ⟨hx, hb, hml, hown, hts⟩ (metX2_refused l dC dI ct A ex o q g (va_up a 27 (upd (a 27) (60 * K + cix i) ((v).toInt16.toInt32))) 1 ) (cwV 1 hts (lw_V q1086 q1088 qs41 q74 q1089) rfl rfl rfl (by decide +kernel) ⟨Nat.le_of_ble_eq_true rfl, Nat.le_of_ble_eq_true rfl⟩) (mPV hK hP hD _) rfl rfl hl.1 rfl (lv_room (Nat.le_of_ble_eq_true rfl)) dX2_put_76 ⟨Nat.zero_le _, Nat.zero_le _⟩) hS (fun q _ h => h) (fun q h => h) (fun r u t H1 locs ht hvm hw hB hz1 hk1 hS => ?_)
          obtain ⟨hw, hw2⟩ := hw
          have hw : r = 1 := hw
          subst hw
          subst hw2
          obtain ⟨hP, -, hD⟩ := hB
          rw [ht] at hP
          generalize H1 = H at hP hS ⊢
          have hP : va_P (dC, dI) clA (mW ct o q (upd g 0 0) (va_up a 27 (upd (a 27) (60 * K + cix i) ((v).toInt16.toInt32))) ++ ex) H := hP
          have hD : va_D A (mW ct o q (upd g 0 0) (va_up a 27 (upd (a 27) (60 * K + cix i) ((v).toInt16.toInt32))) ++ ex) := hD
          exact W.iret (v := 1) hx hb hr (fun t ht hW => ⟨⟨1, ((upd g 0 0), (va_up a 27 (upd (a 27) (60 * K + cix i) ((v).toInt16.toInt32)))), rfl, ⟨(by simp [M_put, eK, narL, c_1, bK, c_2, c_3, c_4]), (by simp [M_put, eK, narL, c_1, bK, c_2, c_3, c_4])⟩, by rw [ht]; exact hP, va_K.moved hW.alike hK, hD⟩, hS.F ht⟩) hS.2.2 dX2_put_79
      · skip
        refine lv_iload_n hx hb dX2_put_52 rfl (lv_at hl 3 rfl) ?_
        refine lv_i2b (v := (v).toInt8.toInt32) hx hb dX2_put_53 rfl ?_
        refine lv_goto (tgt := 73) hx hb dX2_put_54 (by decide) ?_
        refine m_ist (x := ((v).toInt8.toInt32)) hx hb hK hP hD hS (mWa27 _ _ _ _ _ _) (mWs27 _ _ _ _ _ _) (a 27) rfl (60 * K + cix i) (by rw [← ix_60, ← ei]) (by omega) (by decide) dX2_put_73 (fun H locs hP hD hS => ?_)
        refine lv_aload_n hx hb dX2_put_74 rfl (lv_at hl 0 rfl) ?_
        refine lv_iconst (v := 1) hx hb dX2_put_75 (by decide) ?_
        refine va_calli (va_runV (As := [.int 1]) (rest := []) ⟨hx, hb, hml, hown, hts⟩ (metX2_refused l dC dI ct A ex o q g (va_up a 27 (upd (a 27) (60 * K + cix i) ((v).toInt8.toInt32))) 1 ) (cwV 1 hts (lw_V q1086 q1088 qs41 q74 q1089) rfl rfl rfl (by decide +kernel) ⟨Nat.le_of_ble_eq_true rfl, Nat.le_of_ble_eq_true rfl⟩) (mPV hK hP hD _) rfl rfl hl.1 rfl (lv_room (Nat.le_of_ble_eq_true rfl)) dX2_put_76 ⟨Nat.zero_le _, Nat.zero_le _⟩) hS (fun q _ h => h) (fun q h => h) (fun r u t H1 locs ht hvm hw hB hz1 hk1 hS => ?_)
        obtain ⟨hw, hw2⟩ := hw
        have hw : r = 1 := hw
        subst hw
        subst hw2
        obtain ⟨hP, -, hD⟩ := hB
        rw [ht] at hP
        generalize H1 = H at hP hS ⊢
        have hP : va_P (dC, dI) clA (mW ct o q (upd g 0 0) (va_up a 27 (upd (a 27) (60 * K + cix i) ((v).toInt8.toInt32))) ++ ex) H := hP
        have hD : va_D A (mW ct o q (upd g 0 0) (va_up a 27 (upd (a 27) (60 * K + cix i) ((v).toInt8.toInt32))) ++ ex) := hD
        exact W.iret (v := 1) hx hb hr (fun t ht hW => ⟨⟨1, ((upd g 0 0), (va_up a 27 (upd (a 27) (60 * K + cix i) ((v).toInt8.toInt32)))), rfl, ⟨(by simp [M_put, eK, narL, c_1, bK, c_2, c_3]), (by simp [M_put, eK, narL, c_1, bK, c_2, c_3])⟩, by rw [ht]; exact hP, va_K.moved hW.alike hK, hD⟩, hS.F ht⟩) hS.2.2 dX2_put_79
    · skip
      refine lv_aload_n hx hb dX2_put_22 rfl (lv_at hl 0 rfl) ?_
      refine lv_aload_n hx hb dX2_put_23 rfl (lv_at hl 0 rfl) ?_
      refine lv_iload_n hx hb dX2_put_24 rfl (lv_at hl 1 rfl) ?_
      refine lv_iload_n hx hb dX2_put_25 rfl (lv_at hl 2 rfl) ?_
      refine vp_callSi ((va_runV (As := [.int (nI K), .int i]) (rest := [.ref o]) ⟨hx, hb, hml, hown, hts⟩ (metX2_noCell l dC dI ct A ex o q g a (nI K) i K hK4 rfl) (cwV 2 hts (lw_V q1267 q1269 qs65 q74 q1270) rfl rfl rfl (by decide +kernel) ⟨Nat.le_of_ble_eq_true rfl, Nat.le_of_ble_eq_true rfl⟩) (mPV hK hP hD _) rfl rfl hl.1 rfl (lv_room (Nat.le_of_ble_eq_true rfl)) dX2_put_26 ⟨Nat.zero_le _, Nat.zero_le _⟩)).run (fun r hw => ?_)
      have hw : r = (nocV ((a 25) K) i) := hw
      subst hw
      refine va_calli (va_runV (As := [.int (nocV ((a 25) K) i)]) (rest := []) ⟨hx, hb, hml, hown, hts⟩ (metX2_failed l dC dI ct A ex o q g a (nocV ((a 25) K) i) ) (cwV 1 hts (lw_V q1095 q1097 qs43 q74 q1098) rfl rfl rfl (by decide +kernel) ⟨Nat.le_of_ble_eq_true rfl, Nat.le_of_ble_eq_true rfl⟩) (mPV hK hP hD _) rfl rfl hl.1 rfl (lv_room (Nat.le_of_ble_eq_true rfl)) dX2_put_29 ⟨Nat.zero_le _, Nat.zero_le _⟩) hS (fun q _ h => h) (fun q h => h) (fun r u t H1 locs ht hvm hw hB hz1 hk1 hS => ?_)
      obtain ⟨hw, hw2⟩ := hw
      have hw : r = ((-10) - (nocV ((a 25) K) i)) := hw
      subst hw
      subst hw2
      obtain ⟨hP, -, hD⟩ := hB
      rw [ht] at hP
      generalize H1 = H at hP hS ⊢
      have hP : va_P (dC, dI) clA (mW ct o q (upd g 0 (nocV ((a 25) K) i)) a ++ ex) H := hP
      have hD : va_D A (mW ct o q (upd g 0 (nocV ((a 25) K) i)) a ++ ex) := hD
      exact W.iret (v := ((-10) - (nocV ((a 25) K) i))) hx hb hr (fun t ht hW => ⟨⟨((-10) - (nocV ((a 25) K) i)), ((upd g 0 (nocV ((a 25) K) i)), a), rfl, ⟨(by simp [M_put, eK, c_1, bK, c_2]), (by simp [M_put, eK, c_1, bK, c_2])⟩, by rw [ht]; exact hP, va_K.moved hW.alike hK, hD⟩, hS.F ht⟩) hS.2.2 dX2_put_32
  · skip
    refine lv_aload_n hx hb dX2_put_7 rfl (lv_at hl 0 rfl) ?_
    refine lv_iconst (v := (-1)) hx hb dX2_put_8 (by decide) ?_
    refine va_calli (va_runV (As := [.int (-1)]) (rest := []) ⟨hx, hb, hml, hown, hts⟩ (metX2_refused l dC dI ct A ex o q g a (-1) ) (cwV 1 hts (lw_V q1086 q1088 qs41 q74 q1089) rfl rfl rfl (by decide +kernel) ⟨Nat.le_of_ble_eq_true rfl, Nat.le_of_ble_eq_true rfl⟩) (mPV hK hP hD _) rfl rfl hl.1 rfl (lv_room (Nat.le_of_ble_eq_true rfl)) dX2_put_9 ⟨Nat.zero_le _, Nat.zero_le _⟩) hS (fun q _ h => h) (fun q h => h) (fun r u t H1 locs ht hvm hw hB hz1 hk1 hS => ?_)
    obtain ⟨hw, hw2⟩ := hw
    have hw : r = (-1) := hw
    subst hw
    subst hw2
    obtain ⟨hP, -, hD⟩ := hB
    rw [ht] at hP
    generalize H1 = H at hP hS ⊢
    have hP : va_P (dC, dI) clA (mW ct o q (upd g 0 0) a ++ ex) H := hP
    have hD : va_D A (mW ct o q (upd g 0 0) a ++ ex) := hD
    exact W.iret (v := (-1)) hx hb hr (fun t ht hW => ⟨⟨(-1), ((upd g 0 0), a), rfl, ⟨(by simp [M_put, show inP x 4 = false by simpa using c_1]), (by simp [M_put, show inP x 4 = false by simpa using c_1])⟩, by rw [ht]; exact hP, va_K.moved hW.alike hK, hD⟩, hS.F ht⟩) hS.2.2 dX2_put_12
set_option maxHeartbeats 4000000 in
set_option maxRecDepth 100000 in
theorem metX2_cell (l : Launch) (dC : Nat → ClassId) (dI : Nat → Nat → Nat) (ct : Nat → ClassId) (A : Nat → Prop) (ex : va_W) (o : Nat) (q : Nat → Nat) (g : Nat → Int32) (a : Nat → Nat → Int32) (x : Int32) (i : Int32) (lane : Int32) (hz : szOk (a 25)) : Met l yX2_cell (ws_ yX2_cell cX2_cell 4 (some .long)) ({ frames := 2, cells := 0, slots := 0, locals := 47 }) (mPre dC dI ct A ex o q g a [.ref o, .int x, .int i, .int lane]) (va_Ql (fun (r : Int64) (u : (Nat → Int32) × (Nat → Nat → Int32)) => r = ((M_cell g a x i lane)).1 ∧ u = ((M_cell g a x i lane)).2) (mB dC dI ct A ex o q) A) 0 0 A := by
  refine Met.ofW (cc := cX2_cell) (maxL := 4) (ret := (some .long)) (by decide) rfl ?_
  intro p e s m args below meth c s₁ B hml hv
  obtain ⟨rfl, hP, hK, hD⟩ := hv
  have hx := B.exec
  have hb := B.bytes
  have hr := B.returns
  have hts := atoms_spec (ws := ws_ yX2_cell cX2_cell 4 (some .long)) B.pre
  have hts : ∀ w ∈ lw_all, w.before _ s = true := fun w h => hts w (List.mem_cons_of_mem _ h)
  have hown : s.vm.findClass RX2 = some m.cls := findClass_of_methodNamed B.named
  have hlocks := B.notSynchronized
  have hS : va_S A s.heap s.heap [] := va_S.rf
  have hl := lv_entry ([.ref o, .int x, .int i, .int lane]) (n := 4) (Nat.le_of_ble_eq_true rfl)
  rw [lg_entry_eq]
  generalize (lg_sl ([.ref o, .int x, .int i, .int lane]) ++ List.replicate (4 - (lg_sl ([.ref o, .int x, .int i, .int lane])).length) Slot.unset).toArray = ls at hl ⊢
  have hl : lv_has ls 4 [(0, .ref o), (1, .int x), (2, .int i), (3, .int lane)] := hl
  refine lv_aload_n hx hb dX2_cell_0 rfl (lv_at hl 0 rfl) ?_
  refine lv_iconst (v := 0) hx hb dX2_cell_1 (by decide) ?_
  refine m_put (v := 0) hx hb hts hown hK hP hD hS 0 (by decide) rfl q984 rfl rfl (by decide +kernel) dX2_cell_2 (fun H locs hP hD hS => ?_)
  refine lv_iload_n hx hb dX2_cell_5 rfl (lv_at hl 1 rfl) ?_
  refine vp_callSi ((va_runS (As := [.int x]) (rest := []) ⟨hx, hb, hml, hown, hts⟩ (metX2_noSheet l x ) (va_cwS 1 hts (lw_S q1079 q1080 q74 q1081) rfl rfl rfl (by decide +kernel) ⟨Nat.le_of_ble_eq_true rfl, Nat.le_of_ble_eq_true rfl⟩) (pcS _) rfl rfl hl.1 rfl (lv_room (Nat.le_of_ble_eq_true rfl)) dX2_cell_6 ⟨Nat.zero_le _, Nat.zero_le _⟩)).run (fun r hw => ?_)
  have hw : r = (b2i (!(inP x 4))) := hw
  subst hw
  refine bz_ne (tgt := 24) hx hb dX2_cell_9 (by decide) (fun c_1 => ?_) (fun c_1 => ?_)
  · skip
    refine vp_callSl ((va_runS (As := []) (rest := []) ⟨hx, hb, hml, hown, hts⟩ (metX2_lost l  ) (va_cwS 0 hts (lw_S q1251 q1252 q74 q1253) rfl rfl rfl (by decide +kernel) ⟨Nat.le_of_ble_eq_true rfl, Nat.le_of_ble_eq_true rfl⟩) (pcS _) rfl rfl hl.1 rfl (lv_room (Nat.le_of_ble_eq_true rfl)) dX2_cell_24 ⟨Nat.zero_le _, Nat.zero_le _⟩)).run (fun r hw => ?_)
    have hw : r = (-9223372036854775808) := hw
    subst hw
    exact W.lret (v := (-9223372036854775808)) hx hb hr (fun t ht hW => ⟨⟨(-9223372036854775808), ((upd g 0 0), a), rfl, ⟨(by simp [M_cell, show inP x 4 = false by simpa using c_1]), (by simp [M_cell, show inP x 4 = false by simpa using c_1])⟩, by rw [ht]; exact hP, va_K.moved hW.alike hK, hD⟩, hS.F ht⟩) hS.2.2 dX2_cell_27
  · skip
    obtain ⟨K, hK4, ekK⟩ := inP_of (x := x) (n := 4) (by omega) (by simpa using c_1)
    subst ekK
    have eK : cix (nI K) = K := cix_nI (by omega)
    have bK : inP (nI K) 4 = true := by rw [inP_nI (by omega)]; exact decide_eq_true hK4
    refine lv_iload_n hx hb dX2_cell_12 rfl (lv_at hl 3 rfl) ?_
    refine lv_i2l (v := (Int32.toInt64 lane)) hx hb dX2_cell_13 rfl ?_
    refine lv_lconst (v := 0) hx hb dX2_cell_14 (by decide) ?_
    refine lv_ldc2 (v := 2) hx hb hown (hts _ q1090) dX2_cell_15 ?_
    refine vp_callSi ((va_runS (As := [.long (Int32.toInt64 lane), .long 0, .long 2]) (rest := []) ⟨hx, hb, hml, hown, hts⟩ (metX2_in l (Int32.toInt64 lane) 0 2 ) (va_cwS 3 hts (lw_S q1083 q1084 q74 q1085) rfl rfl rfl (by decide +kernel) ⟨Nat.le_of_ble_eq_true rfl, Nat.le_of_ble_eq_true rfl⟩) (pcS _) rfl rfl hl.1 rfl (lv_room (Nat.le_of_ble_eq_true rfl)) dX2_cell_18 ⟨Nat.zero_le _, Nat.zero_le _⟩)).run (fun r hw => ?_)
    have hw : r = (b2i (lin (Int32.toInt64 lane) 0 2)) := hw
    subst hw
    refine bz_ne (tgt := 28) hx hb dX2_cell_21 (by decide) (fun c_2 => ?_) (fun c_2 => ?_)
    · skip
      rw [lin_inP _ _ 3 (by decide)] at c_2
      refine lv_aload_n hx hb dX2_cell_28 rfl (lv_at hl 0 rfl) ?_
      refine m_get (v := .ref (q 25)) hx hb hts hown hK hP 25 (by decide) rfl q1009 rfl dX2_cell_29 ?_
      refine lv_iload_n hx hb dX2_cell_32 rfl (lv_at hl 1 rfl) ?_
      refine m_ild hx hb hK hP (mWa25 _ _ _ _ _ _) (a 25) rfl K rfl (by omega) (by decide) dX2_cell_33 ?_
      refine lv_if_lt (tgt := 53) hx hb dX2_cell_34 (by decide) (fun c_3 => ?_) (fun c_3 => ?_)
      · skip
        have c0 : ¬ 0 ≤ a 25 K := fun z => not_neg z c_3
        refine lv_aload_n hx hb dX2_cell_53 rfl (lv_at hl 0 rfl) ?_
        refine lv_iload_n hx hb dX2_cell_54 rfl (lv_at hl 1 rfl) ?_
        refine lv_iload_n hx hb dX2_cell_55 rfl (lv_at hl 2 rfl) ?_
        refine vp_callSi ((va_runV (As := [.int (nI K), .int i]) (rest := []) ⟨hx, hb, hml, hown, hts⟩ (metX2_noCell l dC dI ct A ex o q (upd g 0 0) a (nI K) i K hK4 rfl) (cwV 2 hts (lw_V q1267 q1269 qs65 q74 q1270) rfl rfl rfl (by decide +kernel) ⟨Nat.le_of_ble_eq_true rfl, Nat.le_of_ble_eq_true rfl⟩) (mPV hK hP hD _) rfl rfl hl.1 rfl (lv_room (Nat.le_of_ble_eq_true rfl)) dX2_cell_56 ⟨Nat.zero_le _, Nat.zero_le _⟩)).run (fun r hw => ?_)
        have hw : r = (nocV ((a 25) K) i) := hw
        subst hw
        refine lv_if_le (tgt := 75) hx hb dX2_cell_59 (by decide) (fun c_4 => ?_) (fun c_4 => ?_)
        · skip
          obtain ⟨ei, hi60⟩ := nocV_at c_4 (hz K hK4)
          refine lv_aload_n hx hb dX2_cell_75 rfl (lv_at hl 0 rfl) ?_
          refine m_get (v := .ref (q 27)) hx hb hts hown hK hP 27 (by decide) rfl q1011 rfl dX2_cell_76 ?_
          refine lv_bipush (v := 60) hx hb dX2_cell_79 (by decide) ?_
          refine lv_iload_n hx hb dX2_cell_81 rfl (lv_at hl 1 rfl) ?_
          refine lv_imul hx hb dX2_cell_82 ?_
          refine lv_iload_n hx hb dX2_cell_83 rfl (lv_at hl 2 rfl) ?_
          refine lv_iadd hx hb dX2_cell_84 ?_
          refine m_ild hx hb hK hP (mWa27 _ _ _ _ _ _) (a 27) rfl (60 * K + cix i) (by rw [← ix_60, ← ei]) (by omega) (by decide) dX2_cell_85 ?_
          refine lv_i2l (v := (Int32.toInt64 ((a 27) (60 * K + cix i)))) hx hb dX2_cell_86 rfl ?_
          exact W.lret (v := (Int32.toInt64 ((a 27) (60 * K + cix i)))) hx hb hr (fun t ht hW => ⟨⟨(Int32.toInt64 ((a 27) (60 * K + cix i))), ((upd g 0 0), a), rfl, ⟨(by simp [M_cell, eK, c_1, bK, c_2, c_3, c0, c_4]), (by simp [M_cell, eK, c_1, bK, c_2, c_3, c0, c_4])⟩, by rw [ht]; exact hP, va_K.moved hW.alike hK, hD⟩, hS.F ht⟩) hS.2.2 dX2_cell_87
        · skip
          refine lv_aload_n hx hb dX2_cell_62 rfl (lv_at hl 0 rfl) ?_
          refine lv_aload_n hx hb dX2_cell_63 rfl (lv_at hl 0 rfl) ?_
          refine lv_iload_n hx hb dX2_cell_64 rfl (lv_at hl 1 rfl) ?_
          refine lv_iload_n hx hb dX2_cell_65 rfl (lv_at hl 2 rfl) ?_
          refine vp_callSi ((va_runV (As := [.int (nI K), .int i]) (rest := [.ref o]) ⟨hx, hb, hml, hown, hts⟩ (metX2_noCell l dC dI ct A ex o q (upd g 0 0) a (nI K) i K hK4 rfl) (cwV 2 hts (lw_V q1267 q1269 qs65 q74 q1270) rfl rfl rfl (by decide +kernel) ⟨Nat.le_of_ble_eq_true rfl, Nat.le_of_ble_eq_true rfl⟩) (mPV hK hP hD _) rfl rfl hl.1 rfl (lv_room (Nat.le_of_ble_eq_true rfl)) dX2_cell_66 ⟨Nat.zero_le _, Nat.zero_le _⟩)).run (fun r hw => ?_)
          have hw : r = (nocV ((a 25) K) i) := hw
          subst hw
          refine va_calll (va_runV (As := [.int (nocV ((a 25) K) i)]) (rest := []) ⟨hx, hb, hml, hown, hts⟩ (metX2_failedLong l dC dI ct A ex o q (upd g 0 0) a (nocV ((a 25) K) i) ) (cwV 1 hts (lw_V q1275 q1277 qs66 q74 q1278) rfl rfl rfl (by decide +kernel) ⟨Nat.le_of_ble_eq_true rfl, Nat.le_of_ble_eq_true rfl⟩) (mPV hK hP hD _) rfl rfl hl.1 rfl (lv_room (Nat.le_of_ble_eq_true rfl)) dX2_cell_69 ⟨Nat.zero_le _, Nat.zero_le _⟩) hS (fun q _ h => h) (fun q h => h) (fun r u t H1 locs ht hvm hw hB hz1 hk1 hS => ?_)
          obtain ⟨hw, hw2⟩ := hw
          have hw : r = (-9223372036854775808) := hw
          subst hw
          subst hw2
          obtain ⟨hP, -, hD⟩ := hB
          rw [ht] at hP
          generalize H1 = H at hP hS ⊢
          have hP : va_P (dC, dI) clA (mW ct o q (upd g 0 (nocV ((a 25) K) i)) a ++ ex) H := hP
          have hD : va_D A (mW ct o q (upd g 0 (nocV ((a 25) K) i)) a ++ ex) := hD
          refine lv_goto (tgt := 87) hx hb dX2_cell_72 (by decide) ?_
          exact W.lret (v := (-9223372036854775808)) hx hb hr (fun t ht hW => ⟨⟨(-9223372036854775808), ((upd g 0 (nocV ((a 25) K) i)), a), rfl, ⟨(by simp [M_cell, eK, c_1, bK, c_2, c_3, c0, c_4]), (by simp [M_cell, eK, c_1, bK, c_2, c_3, c0, c_4])⟩, by rw [ht]; exact hP, va_K.moved hW.alike hK, hD⟩, hS.F ht⟩) hS.2.2 dX2_cell_87
      · skip
        have c0 : 0 ≤ a 25 K := by rw [nneg_iff]; rw [neg_iff] at c_3; omega
        refine lv_aload_n hx hb dX2_cell_37 rfl (lv_at hl 0 rfl) ?_
        refine m_get (v := .ref (q 26)) hx hb hts hown hK hP 26 (by decide) rfl q1010 rfl dX2_cell_38 ?_
        refine lv_iload_n hx hb dX2_cell_41 rfl (lv_at hl 1 rfl) ?_
        refine m_ild hx hb hK hP (mWa26 _ _ _ _ _ _) (a 26) rfl K rfl (by omega) (by decide) dX2_cell_42 ?_
        refine lv_iload_n hx hb dX2_cell_43 rfl (lv_at hl 3 rfl) ?_
        refine lv_icmp_eq (tgt := 53) hx hb dX2_cell_44 (by decide) (fun c_5 => ?_) (fun c_5 => ?_)
        · skip
          refine lv_aload_n hx hb dX2_cell_53 rfl (lv_at hl 0 rfl) ?_
          refine lv_iload_n hx hb dX2_cell_54 rfl (lv_at hl 1 rfl) ?_
          refine lv_iload_n hx hb dX2_cell_55 rfl (lv_at hl 2 rfl) ?_
          refine vp_callSi ((va_runV (As := [.int (nI K), .int i]) (rest := []) ⟨hx, hb, hml, hown, hts⟩ (metX2_noCell l dC dI ct A ex o q (upd g 0 0) a (nI K) i K hK4 rfl) (cwV 2 hts (lw_V q1267 q1269 qs65 q74 q1270) rfl rfl rfl (by decide +kernel) ⟨Nat.le_of_ble_eq_true rfl, Nat.le_of_ble_eq_true rfl⟩) (mPV hK hP hD _) rfl rfl hl.1 rfl (lv_room (Nat.le_of_ble_eq_true rfl)) dX2_cell_56 ⟨Nat.zero_le _, Nat.zero_le _⟩)).run (fun r hw => ?_)
          have hw : r = (nocV ((a 25) K) i) := hw
          subst hw
          refine lv_if_le (tgt := 75) hx hb dX2_cell_59 (by decide) (fun c_6 => ?_) (fun c_6 => ?_)
          · skip
            obtain ⟨ei, hi60⟩ := nocV_at c_6 (hz K hK4)
            refine lv_aload_n hx hb dX2_cell_75 rfl (lv_at hl 0 rfl) ?_
            refine m_get (v := .ref (q 27)) hx hb hts hown hK hP 27 (by decide) rfl q1011 rfl dX2_cell_76 ?_
            refine lv_bipush (v := 60) hx hb dX2_cell_79 (by decide) ?_
            refine lv_iload_n hx hb dX2_cell_81 rfl (lv_at hl 1 rfl) ?_
            refine lv_imul hx hb dX2_cell_82 ?_
            refine lv_iload_n hx hb dX2_cell_83 rfl (lv_at hl 2 rfl) ?_
            refine lv_iadd hx hb dX2_cell_84 ?_
            refine m_ild hx hb hK hP (mWa27 _ _ _ _ _ _) (a 27) rfl (60 * K + cix i) (by rw [← ix_60, ← ei]) (by omega) (by decide) dX2_cell_85 ?_
            refine lv_i2l (v := (Int32.toInt64 ((a 27) (60 * K + cix i)))) hx hb dX2_cell_86 rfl ?_
            exact W.lret (v := (Int32.toInt64 ((a 27) (60 * K + cix i)))) hx hb hr (fun t ht hW => ⟨⟨(Int32.toInt64 ((a 27) (60 * K + cix i))), ((upd g 0 0), a), rfl, ⟨(by simp [M_cell, eK, c_1, bK, c_2, c_3, c0, c_5, c_6]), (by simp [M_cell, eK, c_1, bK, c_2, c_3, c0, c_5, c_6])⟩, by rw [ht]; exact hP, va_K.moved hW.alike hK, hD⟩, hS.F ht⟩) hS.2.2 dX2_cell_87
          · skip
            refine lv_aload_n hx hb dX2_cell_62 rfl (lv_at hl 0 rfl) ?_
            refine lv_aload_n hx hb dX2_cell_63 rfl (lv_at hl 0 rfl) ?_
            refine lv_iload_n hx hb dX2_cell_64 rfl (lv_at hl 1 rfl) ?_
            refine lv_iload_n hx hb dX2_cell_65 rfl (lv_at hl 2 rfl) ?_
            refine vp_callSi ((va_runV (As := [.int (nI K), .int i]) (rest := [.ref o]) ⟨hx, hb, hml, hown, hts⟩ (metX2_noCell l dC dI ct A ex o q (upd g 0 0) a (nI K) i K hK4 rfl) (cwV 2 hts (lw_V q1267 q1269 qs65 q74 q1270) rfl rfl rfl (by decide +kernel) ⟨Nat.le_of_ble_eq_true rfl, Nat.le_of_ble_eq_true rfl⟩) (mPV hK hP hD _) rfl rfl hl.1 rfl (lv_room (Nat.le_of_ble_eq_true rfl)) dX2_cell_66 ⟨Nat.zero_le _, Nat.zero_le _⟩)).run (fun r hw => ?_)
            have hw : r = (nocV ((a 25) K) i) := hw
            subst hw
            refine va_calll (va_runV (As := [.int (nocV ((a 25) K) i)]) (rest := []) ⟨hx, hb, hml, hown, hts⟩ (metX2_failedLong l dC dI ct A ex o q (upd g 0 0) a (nocV ((a 25) K) i) ) (cwV 1 hts (lw_V q1275 q1277 qs66 q74 q1278) rfl rfl rfl (by decide +kernel) ⟨Nat.le_of_ble_eq_true rfl, Nat.le_of_ble_eq_true rfl⟩) (mPV hK hP hD _) rfl rfl hl.1 rfl (lv_room (Nat.le_of_ble_eq_true rfl)) dX2_cell_69 ⟨Nat.zero_le _, Nat.zero_le _⟩) hS (fun q _ h => h) (fun q h => h) (fun r u t H1 locs ht hvm hw hB hz1 hk1 hS => ?_)
            obtain ⟨hw, hw2⟩ := hw
            have hw : r = (-9223372036854775808) := hw
            subst hw
            subst hw2
            obtain ⟨hP, -, hD⟩ := hB
            rw [ht] at hP
            generalize H1 = H at hP hS ⊢
            have hP : va_P (dC, dI) clA (mW ct o q (upd g 0 (nocV ((a 25) K) i)) a ++ ex) H := hP
            have hD : va_D A (mW ct o q (upd g 0 (nocV ((a 25) K) i)) a ++ ex) := hD
            refine lv_goto (tgt := 87) hx hb dX2_cell_72 (by decide) ?_
            exact W.lret (v := (-9223372036854775808)) hx hb hr (fun t ht hW => ⟨⟨(-9223372036854775808), ((upd g 0 (nocV ((a 25) K) i)), a), rfl, ⟨(by simp [M_cell, eK, c_1, bK, c_2, c_3, c0, c_5, c_6]), (by simp [M_cell, eK, c_1, bK, c_2, c_3, c0, c_5, c_6])⟩, by rw [ht]; exact hP, va_K.moved hW.alike hK, hD⟩, hS.F ht⟩) hS.2.2 dX2_cell_87
        · skip
          refine lv_aload_n hx hb dX2_cell_47 rfl (lv_at hl 0 rfl) ?_
          refine lv_iconst (v := 2) hx hb dX2_cell_48 (by decide) ?_
          refine va_calll (va_runV (As := [.int 2]) (rest := []) ⟨hx, hb, hml, hown, hts⟩ (metX2_failedLong l dC dI ct A ex o q (upd g 0 0) a 2 ) (cwV 1 hts (lw_V q1275 q1277 qs66 q74 q1278) rfl rfl rfl (by decide +kernel) ⟨Nat.le_of_ble_eq_true rfl, Nat.le_of_ble_eq_true rfl⟩) (mPV hK hP hD _) rfl rfl hl.1 rfl (lv_room (Nat.le_of_ble_eq_true rfl)) dX2_cell_49 ⟨Nat.zero_le _, Nat.zero_le _⟩) hS (fun q _ h => h) (fun q h => h) (fun r u t H1 locs ht hvm hw hB hz1 hk1 hS => ?_)
          obtain ⟨hw, hw2⟩ := hw
          have hw : r = (-9223372036854775808) := hw
          subst hw
          subst hw2
          obtain ⟨hP, -, hD⟩ := hB
          rw [ht] at hP
          generalize H1 = H at hP hS ⊢
          have hP : va_P (dC, dI) clA (mW ct o q (upd g 0 2) a ++ ex) H := hP
          have hD : va_D A (mW ct o q (upd g 0 2) a ++ ex) := hD
          exact W.lret (v := (-9223372036854775808)) hx hb hr (fun t ht hW => ⟨⟨(-9223372036854775808), ((upd g 0 2), a), rfl, ⟨(by simp [M_cell, eK, c_1, bK, c_2, c_3, c0, c_5]), (by simp [M_cell, eK, c_1, bK, c_2, c_3, c0, c_5])⟩, by rw [ht]; exact hP, va_K.moved hW.alike hK, hD⟩, hS.F ht⟩) hS.2.2 dX2_cell_52
    · skip
      rw [lin_inP _ _ 3 (by decide)] at c_2
      refine vp_callSl ((va_runS (As := []) (rest := []) ⟨hx, hb, hml, hown, hts⟩ (metX2_lost l  ) (va_cwS 0 hts (lw_S q1251 q1252 q74 q1253) rfl rfl rfl (by decide +kernel) ⟨Nat.le_of_ble_eq_true rfl, Nat.le_of_ble_eq_true rfl⟩) (pcS _) rfl rfl hl.1 rfl (lv_room (Nat.le_of_ble_eq_true rfl)) dX2_cell_24 ⟨Nat.zero_le _, Nat.zero_le _⟩)).run (fun r hw => ?_)
      have hw : r = (-9223372036854775808) := hw
      subst hw
      exact W.lret (v := (-9223372036854775808)) hx hb hr (fun t ht hW => ⟨⟨(-9223372036854775808), ((upd g 0 0), a), rfl, ⟨(by simp [M_cell, eK, c_1, bK, c_2]), (by simp [M_cell, eK, c_1, bK, c_2])⟩, by rw [ht]; exact hP, va_K.moved hW.alike hK, hD⟩, hS.F ht⟩) hS.2.2 dX2_cell_27
set_option maxHeartbeats 4000000 in
set_option maxRecDepth 100000 in
theorem metX2_copy (l : Launch) (dC : Nat → ClassId) (dI : Nat → Nat → Nat) (ct : Nat → ClassId) (A : Nat → Prop) (ex : va_W) (o : Nat) (q : Nat → Nat) (g : Nat → Int32) (a : Nat → Nat → Int32) (x : Int32) (i : Int32) (y : Int32) (j : Int32) (n : Int32) (hz : szOk (a 25)) : Met l yX2_copy (ws_ yX2_copy cX2_copy 7 (some .int)) ({ frames := 2, cells := 0, slots := 0, locals := 45 }) (mPre dC dI ct A ex o q g a [.ref o, .int x, .int i, .int y, .int j, .int n]) (va_Qi (fun (r : Int32) (u : (Nat → Int32) × (Nat → Nat → Int32)) => r = ((M_copy g a x i y j n)).1 ∧ u = ((M_copy g a x i y j n)).2) (mB dC dI ct A ex o q) A) 0 0 A := by
  refine Met.ofW (cc := cX2_copy) (maxL := 7) (ret := (some .int)) (by decide) rfl ?_
  intro p e s m args below meth c s₁ B hml hv
  obtain ⟨rfl, hP, hK, hD⟩ := hv
  have hx := B.exec
  have hb := B.bytes
  have hr := B.returns
  have hts := atoms_spec (ws := ws_ yX2_copy cX2_copy 7 (some .int)) B.pre
  have hts : ∀ w ∈ lw_all, w.before _ s = true := fun w h => hts w (List.mem_cons_of_mem _ h)
  have hown : s.vm.findClass RX2 = some m.cls := findClass_of_methodNamed B.named
  have hlocks := B.notSynchronized
  have hS : va_S A s.heap s.heap [] := va_S.rf
  have hl := lv_entry ([.ref o, .int x, .int i, .int y, .int j, .int n]) (n := 7) (Nat.le_of_ble_eq_true rfl)
  rw [lg_entry_eq]
  generalize (lg_sl ([.ref o, .int x, .int i, .int y, .int j, .int n]) ++ List.replicate (7 - (lg_sl ([.ref o, .int x, .int i, .int y, .int j, .int n])).length) Slot.unset).toArray = ls at hl ⊢
  have hl : lv_has ls 7 [(0, .ref o), (1, .int x), (2, .int i), (3, .int y), (4, .int j), (5, .int n)] := hl
  refine lv_iload_n hx hb dX2_copy_0 rfl (lv_at hl 1 rfl) ?_
  refine vp_callSi ((va_runS (As := [.int x]) (rest := []) ⟨hx, hb, hml, hown, hts⟩ (metX2_noSheet l x ) (va_cwS 1 hts (lw_S q1079 q1080 q74 q1081) rfl rfl rfl (by decide +kernel) ⟨Nat.le_of_ble_eq_true rfl, Nat.le_of_ble_eq_true rfl⟩) (pcS _) rfl rfl hl.1 rfl (lv_room (Nat.le_of_ble_eq_true rfl)) dX2_copy_1 ⟨Nat.zero_le _, Nat.zero_le _⟩)).run (fun r hw => ?_)
  have hw : r = (b2i (!(inP x 4))) := hw
  subst hw
  refine bz_ne (tgt := 14) hx hb dX2_copy_4 (by decide) (fun c_1 => ?_) (fun c_1 => ?_)
  · skip
    refine lv_aload_n hx hb dX2_copy_14 rfl (lv_at hl 0 rfl) ?_
    refine lv_iconst (v := (-1)) hx hb dX2_copy_15 (by decide) ?_
    refine va_calli (va_runV (As := [.int (-1)]) (rest := []) ⟨hx, hb, hml, hown, hts⟩ (metX2_refused l dC dI ct A ex o q g a (-1) ) (cwV 1 hts (lw_V q1086 q1088 qs41 q74 q1089) rfl rfl rfl (by decide +kernel) ⟨Nat.le_of_ble_eq_true rfl, Nat.le_of_ble_eq_true rfl⟩) (mPV hK hP hD _) rfl rfl hl.1 rfl (lv_room (Nat.le_of_ble_eq_true rfl)) dX2_copy_16 ⟨Nat.zero_le _, Nat.zero_le _⟩) hS (fun q _ h => h) (fun q h => h) (fun r u t H1 locs ht hvm hw hB hz1 hk1 hS => ?_)
    obtain ⟨hw, hw2⟩ := hw
    have hw : r = (-1) := hw
    subst hw
    subst hw2
    obtain ⟨hP, -, hD⟩ := hB
    rw [ht] at hP
    generalize H1 = H at hP hS ⊢
    have hP : va_P (dC, dI) clA (mW ct o q (upd g 0 0) a ++ ex) H := hP
    have hD : va_D A (mW ct o q (upd g 0 0) a ++ ex) := hD
    exact W.iret (v := (-1)) hx hb hr (fun t ht hW => ⟨⟨(-1), ((upd g 0 0), a), rfl, ⟨(by simp [M_copy, show inP x 4 = false by simpa using c_1]), (by simp [M_copy, show inP x 4 = false by simpa using c_1])⟩, by rw [ht]; exact hP, va_K.moved hW.alike hK, hD⟩, hS.F ht⟩) hS.2.2 dX2_copy_19
  · skip
    obtain ⟨K, hK4, ekK⟩ := inP_of (x := x) (n := 4) (by omega) (by simpa using c_1)
    subst ekK
    have eK : cix (nI K) = K := cix_nI (by omega)
    have bK : inP (nI K) 4 = true := by rw [inP_nI (by omega)]; exact decide_eq_true hK4
    refine lv_iload_n hx hb dX2_copy_7 rfl (lv_at hl 3 rfl) ?_
    refine vp_callSi ((va_runS (As := [.int y]) (rest := []) ⟨hx, hb, hml, hown, hts⟩ (metX2_noSheet l y ) (va_cwS 1 hts (lw_S q1079 q1080 q74 q1081) rfl rfl rfl (by decide +kernel) ⟨Nat.le_of_ble_eq_true rfl, Nat.le_of_ble_eq_true rfl⟩) (pcS _) rfl rfl hl.1 rfl (lv_room (Nat.le_of_ble_eq_true rfl)) dX2_copy_8 ⟨Nat.zero_le _, Nat.zero_le _⟩)).run (fun r hw => ?_)
    have hw : r = (b2i (!(inP y 4))) := hw
    subst hw
    refine bz_eq (tgt := 20) hx hb dX2_copy_11 (by decide) (fun c_2 => ?_) (fun c_2 => ?_)
    · skip
      obtain ⟨Y, hY4, ekY⟩ := inP_of (x := y) (n := 4) (by omega) (by simpa using c_2)
      subst ekY
      have eY : cix (nI Y) = Y := cix_nI (by omega)
      have bY : inP (nI Y) 4 = true := by rw [inP_nI (by omega)]; exact decide_eq_true hY4
      refine lv_aload_n hx hb dX2_copy_20 rfl (lv_at hl 0 rfl) ?_
      refine m_get (v := .ref (q 25)) hx hb hts hown hK hP 25 (by decide) rfl q1009 rfl dX2_copy_21 ?_
      refine lv_iload_n hx hb dX2_copy_24 rfl (lv_at hl 1 rfl) ?_
      refine m_ild hx hb hK hP (mWa25 _ _ _ _ _ _) (a 25) rfl K rfl (by omega) (by decide) dX2_copy_25 ?_
      refine lv_if_lt (tgt := 38) hx hb dX2_copy_26 (by decide) (fun c_3 => ?_) (fun c_3 => ?_)
      · skip
        refine lv_aload_n hx hb dX2_copy_38 rfl (lv_at hl 0 rfl) ?_
        refine lv_iconst (v := 1) hx hb dX2_copy_39 (by decide) ?_
        refine va_calli (va_runV (As := [.int 1]) (rest := []) ⟨hx, hb, hml, hown, hts⟩ (metX2_failed l dC dI ct A ex o q g a 1 ) (cwV 1 hts (lw_V q1095 q1097 qs43 q74 q1098) rfl rfl rfl (by decide +kernel) ⟨Nat.le_of_ble_eq_true rfl, Nat.le_of_ble_eq_true rfl⟩) (mPV hK hP hD _) rfl rfl hl.1 rfl (lv_room (Nat.le_of_ble_eq_true rfl)) dX2_copy_40 ⟨Nat.zero_le _, Nat.zero_le _⟩) hS (fun q _ h => h) (fun q h => h) (fun r u t H1 locs ht hvm hw hB hz1 hk1 hS => ?_)
        obtain ⟨hw, hw2⟩ := hw
        have hw : r = ((-10) - 1) := hw
        subst hw
        subst hw2
        obtain ⟨hP, -, hD⟩ := hB
        rw [ht] at hP
        generalize H1 = H at hP hS ⊢
        have hP : va_P (dC, dI) clA (mW ct o q (upd g 0 1) a ++ ex) H := hP
        have hD : va_D A (mW ct o q (upd g 0 1) a ++ ex) := hD
        exact W.iret (v := ((-10) - 1)) hx hb hr (fun t ht hW => ⟨⟨((-10) - 1), ((upd g 0 1), a), rfl, ⟨(by simp [M_copy, eK, eY, c_1, bK, c_2, bY, c_3]), (by simp [M_copy, eK, eY, c_1, bK, c_2, bY, c_3])⟩, by rw [ht]; exact hP, va_K.moved hW.alike hK, hD⟩, hS.F ht⟩) hS.2.2 dX2_copy_43
      · skip
        refine lv_aload_n hx hb dX2_copy_29 rfl (lv_at hl 0 rfl) ?_
        refine m_get (v := .ref (q 25)) hx hb hts hown hK hP 25 (by decide) rfl q1009 rfl dX2_copy_30 ?_
        refine lv_iload_n hx hb dX2_copy_33 rfl (lv_at hl 3 rfl) ?_
        refine m_ild hx hb hK hP (mWa25 _ _ _ _ _ _) (a 25) rfl Y rfl (by omega) (by decide) dX2_copy_34 ?_
        refine lv_if_ge (tgt := 44) hx hb dX2_copy_35 (by decide) (fun c_4 => ?_) (fun c_4 => ?_)
        · skip
          have c0 := not_neg c_4
          refine lv_aload_n hx hb dX2_copy_44 rfl (lv_at hl 0 rfl) ?_
          refine m_get (v := .ref (q 26)) hx hb hts hown hK hP 26 (by decide) rfl q1010 rfl dX2_copy_45 ?_
          refine lv_iload_n hx hb dX2_copy_48 rfl (lv_at hl 1 rfl) ?_
          refine m_ild hx hb hK hP (mWa26 _ _ _ _ _ _) (a 26) rfl K rfl (by omega) (by decide) dX2_copy_49 ?_
          refine lv_aload_n hx hb dX2_copy_50 rfl (lv_at hl 0 rfl) ?_
          refine m_get (v := .ref (q 26)) hx hb hts hown hK hP 26 (by decide) rfl q1010 rfl dX2_copy_51 ?_
          refine lv_iload_n hx hb dX2_copy_54 rfl (lv_at hl 3 rfl) ?_
          refine m_ild hx hb hK hP (mWa26 _ _ _ _ _ _) (a 26) rfl Y rfl (by omega) (by decide) dX2_copy_55 ?_
          refine lv_icmp_eq (tgt := 65) hx hb dX2_copy_56 (by decide) (fun c_5 => ?_) (fun c_5 => ?_)
          · skip
            refine lv_iload_n hx hb dX2_copy_65 rfl (lv_at hl 2 rfl) ?_
            refine lv_iload hx hb dX2_copy_66 (lv_at hl 5 rfl) ?_
            refine lv_i2l (v := (Int32.toInt64 n)) hx hb dX2_copy_68 rfl ?_
            refine lv_aload_n hx hb dX2_copy_69 rfl (lv_at hl 0 rfl) ?_
            refine m_get (v := .ref (q 25)) hx hb hts hown hK hP 25 (by decide) rfl q1009 rfl dX2_copy_70 ?_
            refine lv_iload_n hx hb dX2_copy_73 rfl (lv_at hl 1 rfl) ?_
            refine m_ild hx hb hK hP (mWa25 _ _ _ _ _ _) (a 25) rfl K rfl (by omega) (by decide) dX2_copy_74 ?_
            refine vp_callSi ((va_runS (As := [.int i, .long (Int32.toInt64 n), .int ((a 25) K)]) (rest := []) ⟨hx, hb, hml, hown, hts⟩ (metX2_isBeyond l i (Int32.toInt64 n) ((a 25) K) ) (va_cwS 3 hts (lw_S q1099 q1100 q74 q1101) rfl rfl rfl (by decide +kernel) ⟨Nat.le_of_ble_eq_true rfl, Nat.le_of_ble_eq_true rfl⟩) (pcS _) rfl rfl hl.1 rfl (lv_room (Nat.le_of_ble_eq_true rfl)) dX2_copy_75 ⟨Nat.zero_le _, Nat.zero_le _⟩)).run (fun r hw => ?_)
            have hw : r = (b2i (isBey i (Int32.toInt64 n) ((a 25) K))) := hw
            subst hw
            refine bz_ne (tgt := 98) hx hb dX2_copy_78 (by decide) (fun c_6 => ?_) (fun c_6 => ?_)
            · skip
              refine lv_aload_n hx hb dX2_copy_98 rfl (lv_at hl 0 rfl) ?_
              refine lv_iconst (v := 3) hx hb dX2_copy_99 (by decide) ?_
              refine va_calli (va_runV (As := [.int 3]) (rest := []) ⟨hx, hb, hml, hown, hts⟩ (metX2_failed l dC dI ct A ex o q g a 3 ) (cwV 1 hts (lw_V q1095 q1097 qs43 q74 q1098) rfl rfl rfl (by decide +kernel) ⟨Nat.le_of_ble_eq_true rfl, Nat.le_of_ble_eq_true rfl⟩) (mPV hK hP hD _) rfl rfl hl.1 rfl (lv_room (Nat.le_of_ble_eq_true rfl)) dX2_copy_100 ⟨Nat.zero_le _, Nat.zero_le _⟩) hS (fun q _ h => h) (fun q h => h) (fun r u t H1 locs ht hvm hw hB hz1 hk1 hS => ?_)
              obtain ⟨hw, hw2⟩ := hw
              have hw : r = ((-10) - 3) := hw
              subst hw
              subst hw2
              obtain ⟨hP, -, hD⟩ := hB
              rw [ht] at hP
              generalize H1 = H at hP hS ⊢
              have hP : va_P (dC, dI) clA (mW ct o q (upd g 0 3) a ++ ex) H := hP
              have hD : va_D A (mW ct o q (upd g 0 3) a ++ ex) := hD
              exact W.iret (v := ((-10) - 3)) hx hb hr (fun t ht hW => ⟨⟨((-10) - 3), ((upd g 0 3), a), rfl, ⟨(by simp [M_copy, eK, eY, c_1, bK, c_2, bY, c_3, c_4, c0, c_5, c_6]), (by simp [M_copy, eK, eY, c_1, bK, c_2, bY, c_3, c_4, c0, c_5, c_6])⟩, by rw [ht]; exact hP, va_K.moved hW.alike hK, hD⟩, hS.F ht⟩) hS.2.2 dX2_copy_103
            · skip
              refine lv_iload hx hb dX2_copy_81 (lv_at hl 4 rfl) ?_
              refine lv_iload hx hb dX2_copy_83 (lv_at hl 5 rfl) ?_
              refine lv_i2l (v := (Int32.toInt64 n)) hx hb dX2_copy_85 rfl ?_
              refine lv_aload_n hx hb dX2_copy_86 rfl (lv_at hl 0 rfl) ?_
              refine m_get (v := .ref (q 25)) hx hb hts hown hK hP 25 (by decide) rfl q1009 rfl dX2_copy_87 ?_
              refine lv_iload_n hx hb dX2_copy_90 rfl (lv_at hl 3 rfl) ?_
              refine m_ild hx hb hK hP (mWa25 _ _ _ _ _ _) (a 25) rfl Y rfl (by omega) (by decide) dX2_copy_91 ?_
              refine vp_callSi ((va_runS (As := [.int j, .long (Int32.toInt64 n), .int ((a 25) Y)]) (rest := []) ⟨hx, hb, hml, hown, hts⟩ (metX2_isBeyond l j (Int32.toInt64 n) ((a 25) Y) ) (va_cwS 3 hts (lw_S q1099 q1100 q74 q1101) rfl rfl rfl (by decide +kernel) ⟨Nat.le_of_ble_eq_true rfl, Nat.le_of_ble_eq_true rfl⟩) (pcS _) rfl rfl hl.1 rfl (lv_room (Nat.le_of_ble_eq_true rfl)) dX2_copy_92 ⟨Nat.zero_le _, Nat.zero_le _⟩)).run (fun r hw => ?_)
              have hw : r = (b2i (isBey j (Int32.toInt64 n) ((a 25) Y))) := hw
              subst hw
              refine bz_eq (tgt := 104) hx hb dX2_copy_95 (by decide) (fun c_7 => ?_) (fun c_7 => ?_)
              · skip
                obtain ⟨b1, b2, b3⟩ := isBey_f c_6 toL
                obtain ⟨d1, d2, d3⟩ := isBey_f c_7 toL
                have b4 := hz K hK4
                have d4 := hz Y hY4
                obtain ⟨ei, hi0⟩ := nI_of0 b1
                obtain ⟨ej, hj0⟩ := nI_of0 d1
                obtain ⟨NN, hNN, eNN⟩ := nI_of (not_neg (neg64 b2))
                subst eNN
                have eN : cix (nI NN) = NN := cix_nI (by omega)
                rw [Int32.toInt_toInt64, nI_toInt hNN] at b3 d3
                refine lv_iconst (v := 0) hx hb dX2_copy_104 (by decide) ?_
                refine lv_istore (lv' := [(6, .int 0), (0, .ref o), (1, .int (nI K)), (2, .int i), (3, .int (nI Y)), (4, .int j), (5, .int (nI NN))]) hx hb dX2_copy_105 hl (by decide) rfl (fun ls hl => ?_)
                have loop1 : ∀ (f1 : Nat) (u1 : Nat), u1 ≤ NN → NN + 1 ≤ u1 + f1 → ∀ (H : Heap) (locs : List Loc), va_P (dC, dI) clA (mW ct o q g (va_up a 28 (cutF u1 (fun t => a 27 (60 * K + cix i + t)) (a 28))) ++ ex) H → va_D A (mW ct o q g (va_up a 28 (cutF u1 (fun t => a 27 (60 * K + cix i + t)) (a 28))) ++ ex) → va_S A s.heap H locs → ∀ (ls : Array Slot), lv_has ls 7 [(6, .int (nI u1)), (5, .int (nI NN)), (4, .int j), (3, .int (nI Y)), (2, .int i), (1, .int (nI K)), (0, .ref o)] → W p l e (headSpec (ws_ yX2_copy cX2_copy 7 (some .int)) ({ frames := 2, cells := 0, slots := 0, locals := 45 })).room s m ([.ref o, .int (nI K), .int i, .int (nI Y), .int j, .int (nI NN)] : List Value).toArray below meth c H locs 0 0 (MQ below (va_Qi (fun (r : Int32) (u : (Nat → Int32) × (Nat → Nat → Int32)) => r = ((M_copy g a (nI K) i (nI Y) j (nI NN))).1 ∧ u = ((M_copy g a (nI K) i (nI Y) j (nI NN))).2) (mB dC dI ct A ex o q) A) ([.ref o, .int (nI K), .int i, .int (nI Y), .int j, .int (nI NN)] : List Value).toArray s 0 0 A) (F0 m 107 ls []) := by
                  intro f1
                  induction f1 with
                  | zero => intro u1 hu hf; exact False.elim (by omega)
                  | succ f1 ih1 =>
                    intro u1 hu hf H locs hP hD hS ls hl
                    refine lv_iload hx hb dX2_copy_107 (lv_at hl 0 rfl) ?_
                    refine lv_iload hx hb dX2_copy_109 (lv_at hl 1 rfl) ?_
                    refine lv_icmp_ge (tgt := 141) hx hb dX2_copy_111 (by decide) (fun c_8 => ?_) (fun c_8 => ?_)
                    · skip
                      have hge : u1 = NN := by exact Nat.le_antisymm (by omega) ((nI_leI (by omega) (by omega)).mp c_8)
                      rw [hge] at hP hD
                      refine lv_iconst (v := 0) hx hb dX2_copy_141 (by decide) ?_
                      refine lv_istore (lv' := [(6, .int 0), (5, .int (nI NN)), (4, .int j), (3, .int (nI Y)), (2, .int i), (1, .int (nI K)), (0, .ref o)]) hx hb dX2_copy_142 hl (by decide) rfl (fun ls hl => ?_)
                      have loop2 : ∀ (f2 : Nat) (u2 : Nat), u2 ≤ NN → NN + 1 ≤ u2 + f2 → ∀ (H : Heap) (locs : List Loc), va_P (dC, dI) clA (mW ct o q g (va_up (va_up a 27 (va_cpy (cutF NN (fun t => a 27 (60 * K + cix i + t)) (a 28)) (a 27) 0 (60 * Y + cix j) u2)) 28 (cutF NN (fun t => a 27 (60 * K + cix i + t)) (a 28))) ++ ex) H → va_D A (mW ct o q g (va_up (va_up a 27 (va_cpy (cutF NN (fun t => a 27 (60 * K + cix i + t)) (a 28)) (a 27) 0 (60 * Y + cix j) u2)) 28 (cutF NN (fun t => a 27 (60 * K + cix i + t)) (a 28))) ++ ex) → va_S A s.heap H locs → ∀ (ls : Array Slot), lv_has ls 7 [(6, .int (nI u2)), (5, .int (nI NN)), (4, .int j), (3, .int (nI Y)), (2, .int i), (1, .int (nI K)), (0, .ref o)] → W p l e (headSpec (ws_ yX2_copy cX2_copy 7 (some .int)) ({ frames := 2, cells := 0, slots := 0, locals := 45 })).room s m ([.ref o, .int (nI K), .int i, .int (nI Y), .int j, .int (nI NN)] : List Value).toArray below meth c H locs 0 0 (MQ below (va_Qi (fun (r : Int32) (u : (Nat → Int32) × (Nat → Nat → Int32)) => r = ((M_copy g a (nI K) i (nI Y) j (nI NN))).1 ∧ u = ((M_copy g a (nI K) i (nI Y) j (nI NN))).2) (mB dC dI ct A ex o q) A) ([.ref o, .int (nI K), .int i, .int (nI Y), .int j, .int (nI NN)] : List Value).toArray s 0 0 A) (F0 m 144 ls []) := by
                        intro f2
                        induction f2 with
                        | zero => intro u2 hu2 hf2; exact False.elim (by omega)
                        | succ f2 ih2 =>
                          intro u2 hu2 hf2 H locs hP hD hS ls hl
                          refine lv_iload hx hb dX2_copy_144 (lv_at hl 0 rfl) ?_
                          refine lv_iload hx hb dX2_copy_146 (lv_at hl 1 rfl) ?_
                          refine lv_icmp_ge (tgt := 179) hx hb dX2_copy_148 (by decide) (fun c_9 => ?_) (fun c_9 => ?_)
                          · skip
                            have hge : u2 = NN := by exact Nat.le_antisymm (by omega) ((nI_leI (by omega) (by omega)).mp c_9)
                            rw [hge, cpy_hands] at hP hD
                            refine lv_aload_n hx hb dX2_copy_179 rfl (lv_at hl 6 rfl) ?_
                            refine lv_iload hx hb dX2_copy_180 (lv_at hl 1 rfl) ?_
                            refine va_calli (va_runV (As := [.int (nI NN)]) (rest := []) ⟨hx, hb, hml, hown, hts⟩ (metX2_refused l dC dI ct A ex o q g (va_up (va_up a 27 (va_cpy (a 27) (a 27) (60 * K + cix i) (60 * Y + cix j) NN)) 28 (cutF NN (fun t => a 27 (60 * K + cix i + t)) (a 28))) (nI NN) ) (cwV 1 hts (lw_V q1086 q1088 qs41 q74 q1089) rfl rfl rfl (by decide +kernel) ⟨Nat.le_of_ble_eq_true rfl, Nat.le_of_ble_eq_true rfl⟩) (mPV hK hP hD _) rfl rfl hl.1 rfl (lv_room (Nat.le_of_ble_eq_true rfl)) dX2_copy_182 ⟨Nat.zero_le _, Nat.zero_le _⟩) hS (fun q _ h => h) (fun q h => h) (fun r u t H1 locs ht hvm hw hB hz1 hk1 hS => ?_)
                            obtain ⟨hw, hw2⟩ := hw
                            have hw : r = (nI NN) := hw
                            subst hw
                            subst hw2
                            obtain ⟨hP, -, hD⟩ := hB
                            rw [ht] at hP
                            generalize H1 = H at hP hS ⊢
                            have hP : va_P (dC, dI) clA (mW ct o q (upd g 0 0) (va_up (va_up a 27 (va_cpy (a 27) (a 27) (60 * K + cix i) (60 * Y + cix j) NN)) 28 (cutF NN (fun t => a 27 (60 * K + cix i + t)) (a 28))) ++ ex) H := hP
                            have hD : va_D A (mW ct o q (upd g 0 0) (va_up (va_up a 27 (va_cpy (a 27) (a 27) (60 * K + cix i) (60 * Y + cix j) NN)) 28 (cutF NN (fun t => a 27 (60 * K + cix i + t)) (a 28))) ++ ex) := hD
                            exact W.iret (v := (nI NN)) hx hb hr (fun t ht hW => ⟨⟨(nI NN), ((upd g 0 0), (va_up (va_up a 27 (va_cpy (a 27) (a 27) (60 * K + cix i) (60 * Y + cix j) NN)) 28 (cutF NN (fun t => a 27 (60 * K + cix i + t)) (a 28)))), rfl, ⟨(by simp [M_copy, eK, eY, eN, c_1, bK, c_2, bY, c_3, c_4, c0, c_5, c_6, c_7, c_8, c_9]), (by simp [M_copy, eK, eY, eN, c_1, bK, c_2, bY, c_3, c_4, c0, c_5, c_6, c_7, c_8, c_9])⟩, by rw [ht]; exact hP, va_K.moved hW.alike hK, hD⟩, hS.F ht⟩) hS.2.2 dX2_copy_185
                          · skip
                            have hlt : u2 < NN := by exact Nat.lt_of_not_le (fun z => c_9 ((nI_leI (by omega) (by omega)).mpr z))
                            refine lv_aload_n hx hb dX2_copy_151 rfl (lv_at hl 6 rfl) ?_
                            refine m_get (v := .ref (q 27)) hx hb hts hown hK hP 27 (by decide) rfl q1011 rfl dX2_copy_152 ?_
                            refine lv_bipush (v := 60) hx hb dX2_copy_155 (by decide) ?_
                            refine lv_iload_n hx hb dX2_copy_157 rfl (lv_at hl 3 rfl) ?_
                            refine lv_imul hx hb dX2_copy_158 ?_
                            refine lv_iload hx hb dX2_copy_159 (lv_at hl 2 rfl) ?_
                            refine lv_iadd hx hb dX2_copy_161 ?_
                            refine lv_iload hx hb dX2_copy_162 (lv_at hl 0 rfl) ?_
                            refine lv_iadd hx hb dX2_copy_164 ?_
                            refine lv_aload_n hx hb dX2_copy_165 rfl (lv_at hl 6 rfl) ?_
                            refine m_get (v := .ref (q 28)) hx hb hts hown hK hP 28 (by decide) rfl q1012 rfl dX2_copy_166 ?_
                            refine lv_iload hx hb dX2_copy_169 (lv_at hl 0 rfl) ?_
                            refine m_ild hx hb hK hP (mWa28 _ _ _ _ _ _) (cutF NN (fun t => a 27 (60 * K + cix i + t)) (a 28)) rfl u2 rfl (by omega) (by decide) dX2_copy_171 ?_
                            refine m_ist (x := ((cutF NN (fun t => a 27 (60 * K + cix i + t)) (a 28)) u2)) hx hb hK hP hD hS (mWa27 _ _ _ _ _ _) (mWs27 _ _ _ _ _ _) (va_cpy (cutF NN (fun t => a 27 (60 * K + cix i + t)) (a 28)) (a 27) 0 (60 * Y + cix j) u2) rfl (60 * Y + cix j + u2) (by rw [← ix_60t, ← ej]) (by omega) (by decide) dX2_copy_172 (fun H locs hP hD hS => ?_)
                            have eW_10 : ∀  (za27 : Nat → Int32) (za28 : Nat → Int32) (zn : Nat → Int32), mW ct o q g (va_up (va_up (va_up a 27 za27) 28 za28) 27 zn) ++ ex = mW ct o q g (va_up (va_up a 27 zn) 28 za28) ++ ex := fun _ _ _ => rfl
                            have hP : va_P (dC, dI) clA (mW ct o q g (va_up (va_up a 27 (upd (va_cpy (cutF NN (fun t => a 27 (60 * K + cix i + t)) (a 28)) (a 27) 0 (60 * Y + cix j) u2) (60 * Y + cix j + u2) ((cutF NN (fun t => a 27 (60 * K + cix i + t)) (a 28)) u2))) 28 (cutF NN (fun t => a 27 (60 * K + cix i + t)) (a 28))) ++ ex) H := Eq.mp (congrArg (fun w => va_P (dC, dI) clA w H) (eW_10 (va_cpy (cutF NN (fun t => a 27 (60 * K + cix i + t)) (a 28)) (a 27) 0 (60 * Y + cix j) u2) (cutF NN (fun t => a 27 (60 * K + cix i + t)) (a 28)) (upd (va_cpy (cutF NN (fun t => a 27 (60 * K + cix i + t)) (a 28)) (a 27) 0 (60 * Y + cix j) u2) (60 * Y + cix j + u2) ((cutF NN (fun t => a 27 (60 * K + cix i + t)) (a 28)) u2)))) hP
                            have hD : va_D A (mW ct o q g (va_up (va_up a 27 (upd (va_cpy (cutF NN (fun t => a 27 (60 * K + cix i + t)) (a 28)) (a 27) 0 (60 * Y + cix j) u2) (60 * Y + cix j + u2) ((cutF NN (fun t => a 27 (60 * K + cix i + t)) (a 28)) u2))) 28 (cutF NN (fun t => a 27 (60 * K + cix i + t)) (a 28))) ++ ex) := Eq.mp (congrArg (fun w => va_D A w) (eW_10 (va_cpy (cutF NN (fun t => a 27 (60 * K + cix i + t)) (a 28)) (a 27) 0 (60 * Y + cix j) u2) (cutF NN (fun t => a 27 (60 * K + cix i + t)) (a 28)) (upd (va_cpy (cutF NN (fun t => a 27 (60 * K + cix i + t)) (a 28)) (a 27) 0 (60 * Y + cix j) u2) (60 * Y + cix j + u2) ((cutF NN (fun t => a 27 (60 * K + cix i + t)) (a 28)) u2)))) hD
                            refine lv_iinc (v := (nI (u2 + 1))) (lv' := [(6, .int (nI (u2 + 1))), (5, .int (nI NN)), (4, .int j), (3, .int (nI Y)), (2, .int i), (1, .int (nI K)), (0, .ref o)]) hx hb dX2_copy_173 hl (k := 0) rfl (nI_1 u2) (by decide) rfl (fun ls hl => ?_)
                            refine lv_goto (tgt := 144) hx hb dX2_copy_176 (by decide) ?_
                            have e_11 : (upd (va_cpy (cutF NN (fun t => a 27 (60 * K + cix i + t)) (a 28)) (a 27) 0 (60 * Y + cix j) u2) (60 * Y + cix j + u2) ((cutF NN (fun t => a 27 (60 * K + cix i + t)) (a 28)) u2)) = (va_cpy (cutF NN (fun t => a 27 (60 * K + cix i + t)) (a 28)) (a 27) 0 (60 * Y + cix j) (u2 + 1)) := cpy_s _ _ _ _
                            rw [e_11] at hP hD
                            exact ih2 (u2 + 1) (by omega) (by omega) _ _ hP hD hS _ (lv_sub hl [0, 1, 2, 3, 4, 5, 6] rfl)
                      exact loop2 (NN + 1) 0 (by omega) (by omega) _ _ (by rw [cpy_0]; exact hP) (by rw [cpy_0]; exact hD) hS _ (lv_sub hl [0, 1, 2, 3, 4, 5, 6] rfl)
                    · skip
                      have hlt : u1 < NN := by exact Nat.lt_of_not_le (fun z => c_8 ((nI_leI (by omega) (by omega)).mpr z))
                      refine lv_aload_n hx hb dX2_copy_114 rfl (lv_at hl 6 rfl) ?_
                      refine m_get (v := .ref (q 28)) hx hb hts hown hK hP 28 (by decide) rfl q1012 rfl dX2_copy_115 ?_
                      refine lv_iload hx hb dX2_copy_118 (lv_at hl 0 rfl) ?_
                      refine lv_aload_n hx hb dX2_copy_120 rfl (lv_at hl 6 rfl) ?_
                      refine m_get (v := .ref (q 27)) hx hb hts hown hK hP 27 (by decide) rfl q1011 rfl dX2_copy_121 ?_
                      refine lv_bipush (v := 60) hx hb dX2_copy_124 (by decide) ?_
                      refine lv_iload_n hx hb dX2_copy_126 rfl (lv_at hl 5 rfl) ?_
                      refine lv_imul hx hb dX2_copy_127 ?_
                      refine lv_iload_n hx hb dX2_copy_128 rfl (lv_at hl 4 rfl) ?_
                      refine lv_iadd hx hb dX2_copy_129 ?_
                      refine lv_iload hx hb dX2_copy_130 (lv_at hl 0 rfl) ?_
                      refine lv_iadd hx hb dX2_copy_132 ?_
                      refine m_ild hx hb hK hP (mWa27 _ _ _ _ _ _) (a 27) rfl (60 * K + cix i + u1) (by rw [← ix_60t, ← ei]) (by omega) (by decide) dX2_copy_133 ?_
                      refine m_ist (x := ((a 27) (60 * K + cix i + u1))) hx hb hK hP hD hS (mWa28 _ _ _ _ _ _) (mWs28 _ _ _ _ _ _) (cutF u1 (fun t => a 27 (60 * K + cix i + t)) (a 28)) rfl u1 rfl (by omega) (by decide) dX2_copy_134 (fun H locs hP hD hS => ?_)
                      have eW_12 : ∀  (za28 : Nat → Int32) (zn : Nat → Int32), mW ct o q g (va_up (va_up a 28 za28) 28 zn) ++ ex = mW ct o q g (va_up a 28 zn) ++ ex := fun _ _ => rfl
                      have hP : va_P (dC, dI) clA (mW ct o q g (va_up a 28 (upd (cutF u1 (fun t => a 27 (60 * K + cix i + t)) (a 28)) u1 ((a 27) (60 * K + cix i + u1)))) ++ ex) H := Eq.mp (congrArg (fun w => va_P (dC, dI) clA w H) (eW_12 (cutF u1 (fun t => a 27 (60 * K + cix i + t)) (a 28)) (upd (cutF u1 (fun t => a 27 (60 * K + cix i + t)) (a 28)) u1 ((a 27) (60 * K + cix i + u1))))) hP
                      have hD : va_D A (mW ct o q g (va_up a 28 (upd (cutF u1 (fun t => a 27 (60 * K + cix i + t)) (a 28)) u1 ((a 27) (60 * K + cix i + u1)))) ++ ex) := Eq.mp (congrArg (fun w => va_D A w) (eW_12 (cutF u1 (fun t => a 27 (60 * K + cix i + t)) (a 28)) (upd (cutF u1 (fun t => a 27 (60 * K + cix i + t)) (a 28)) u1 ((a 27) (60 * K + cix i + u1))))) hD
                      refine lv_iinc (v := (nI (u1 + 1))) (lv' := [(6, .int (nI (u1 + 1))), (5, .int (nI NN)), (4, .int j), (3, .int (nI Y)), (2, .int i), (1, .int (nI K)), (0, .ref o)]) hx hb dX2_copy_135 hl (k := 0) rfl (nI_1 u1) (by decide) rfl (fun ls hl => ?_)
                      refine lv_goto (tgt := 107) hx hb dX2_copy_138 (by decide) ?_
                      have e_13 : (upd (cutF u1 (fun t => a 27 (60 * K + cix i + t)) (a 28)) u1 ((a 27) (60 * K + cix i + u1))) = (cutF (u1 + 1) (fun t => a 27 (60 * K + cix i + t)) (a 28)) := cutF_s rfl
                      rw [e_13] at hP hD
                      exact ih1 (u1 + 1) (by omega) (by omega) _ _ hP hD hS _ (lv_sub hl [0, 1, 2, 3, 4, 5, 6] rfl)
                exact loop1 (NN + 1) 0 (by omega) (by omega) _ _ (by rw [cutF_0]; exact hP) (by rw [cutF_0]; exact hD) hS _ (lv_sub hl [0, 6, 5, 4, 3, 2, 1] rfl)
              · skip
                refine lv_aload_n hx hb dX2_copy_98 rfl (lv_at hl 0 rfl) ?_
                refine lv_iconst (v := 3) hx hb dX2_copy_99 (by decide) ?_
                refine va_calli (va_runV (As := [.int 3]) (rest := []) ⟨hx, hb, hml, hown, hts⟩ (metX2_failed l dC dI ct A ex o q g a 3 ) (cwV 1 hts (lw_V q1095 q1097 qs43 q74 q1098) rfl rfl rfl (by decide +kernel) ⟨Nat.le_of_ble_eq_true rfl, Nat.le_of_ble_eq_true rfl⟩) (mPV hK hP hD _) rfl rfl hl.1 rfl (lv_room (Nat.le_of_ble_eq_true rfl)) dX2_copy_100 ⟨Nat.zero_le _, Nat.zero_le _⟩) hS (fun q _ h => h) (fun q h => h) (fun r u t H1 locs ht hvm hw hB hz1 hk1 hS => ?_)
                obtain ⟨hw, hw2⟩ := hw
                have hw : r = ((-10) - 3) := hw
                subst hw
                subst hw2
                obtain ⟨hP, -, hD⟩ := hB
                rw [ht] at hP
                generalize H1 = H at hP hS ⊢
                have hP : va_P (dC, dI) clA (mW ct o q (upd g 0 3) a ++ ex) H := hP
                have hD : va_D A (mW ct o q (upd g 0 3) a ++ ex) := hD
                exact W.iret (v := ((-10) - 3)) hx hb hr (fun t ht hW => ⟨⟨((-10) - 3), ((upd g 0 3), a), rfl, ⟨(by simp [M_copy, eK, eY, c_1, bK, c_2, bY, c_3, c_4, c0, c_5, c_6, c_7]), (by simp [M_copy, eK, eY, c_1, bK, c_2, bY, c_3, c_4, c0, c_5, c_6, c_7])⟩, by rw [ht]; exact hP, va_K.moved hW.alike hK, hD⟩, hS.F ht⟩) hS.2.2 dX2_copy_103
          · skip
            refine lv_aload_n hx hb dX2_copy_59 rfl (lv_at hl 0 rfl) ?_
            refine lv_iconst (v := 2) hx hb dX2_copy_60 (by decide) ?_
            refine va_calli (va_runV (As := [.int 2]) (rest := []) ⟨hx, hb, hml, hown, hts⟩ (metX2_failed l dC dI ct A ex o q g a 2 ) (cwV 1 hts (lw_V q1095 q1097 qs43 q74 q1098) rfl rfl rfl (by decide +kernel) ⟨Nat.le_of_ble_eq_true rfl, Nat.le_of_ble_eq_true rfl⟩) (mPV hK hP hD _) rfl rfl hl.1 rfl (lv_room (Nat.le_of_ble_eq_true rfl)) dX2_copy_61 ⟨Nat.zero_le _, Nat.zero_le _⟩) hS (fun q _ h => h) (fun q h => h) (fun r u t H1 locs ht hvm hw hB hz1 hk1 hS => ?_)
            obtain ⟨hw, hw2⟩ := hw
            have hw : r = ((-10) - 2) := hw
            subst hw
            subst hw2
            obtain ⟨hP, -, hD⟩ := hB
            rw [ht] at hP
            generalize H1 = H at hP hS ⊢
            have hP : va_P (dC, dI) clA (mW ct o q (upd g 0 2) a ++ ex) H := hP
            have hD : va_D A (mW ct o q (upd g 0 2) a ++ ex) := hD
            exact W.iret (v := ((-10) - 2)) hx hb hr (fun t ht hW => ⟨⟨((-10) - 2), ((upd g 0 2), a), rfl, ⟨(by simp [M_copy, eK, eY, c_1, bK, c_2, bY, c_3, c_4, c0, c_5]), (by simp [M_copy, eK, eY, c_1, bK, c_2, bY, c_3, c_4, c0, c_5])⟩, by rw [ht]; exact hP, va_K.moved hW.alike hK, hD⟩, hS.F ht⟩) hS.2.2 dX2_copy_64
        · skip
          have c0 := neg_of c_4
          refine lv_aload_n hx hb dX2_copy_38 rfl (lv_at hl 0 rfl) ?_
          refine lv_iconst (v := 1) hx hb dX2_copy_39 (by decide) ?_
          refine va_calli (va_runV (As := [.int 1]) (rest := []) ⟨hx, hb, hml, hown, hts⟩ (metX2_failed l dC dI ct A ex o q g a 1 ) (cwV 1 hts (lw_V q1095 q1097 qs43 q74 q1098) rfl rfl rfl (by decide +kernel) ⟨Nat.le_of_ble_eq_true rfl, Nat.le_of_ble_eq_true rfl⟩) (mPV hK hP hD _) rfl rfl hl.1 rfl (lv_room (Nat.le_of_ble_eq_true rfl)) dX2_copy_40 ⟨Nat.zero_le _, Nat.zero_le _⟩) hS (fun q _ h => h) (fun q h => h) (fun r u t H1 locs ht hvm hw hB hz1 hk1 hS => ?_)
          obtain ⟨hw, hw2⟩ := hw
          have hw : r = ((-10) - 1) := hw
          subst hw
          subst hw2
          obtain ⟨hP, -, hD⟩ := hB
          rw [ht] at hP
          generalize H1 = H at hP hS ⊢
          have hP : va_P (dC, dI) clA (mW ct o q (upd g 0 1) a ++ ex) H := hP
          have hD : va_D A (mW ct o q (upd g 0 1) a ++ ex) := hD
          exact W.iret (v := ((-10) - 1)) hx hb hr (fun t ht hW => ⟨⟨((-10) - 1), ((upd g 0 1), a), rfl, ⟨(by simp [M_copy, eK, eY, c_1, bK, c_2, bY, c_3, c_4, c0]), (by simp [M_copy, eK, eY, c_1, bK, c_2, bY, c_3, c_4, c0])⟩, by rw [ht]; exact hP, va_K.moved hW.alike hK, hD⟩, hS.F ht⟩) hS.2.2 dX2_copy_43
    · skip
      refine lv_aload_n hx hb dX2_copy_14 rfl (lv_at hl 0 rfl) ?_
      refine lv_iconst (v := (-1)) hx hb dX2_copy_15 (by decide) ?_
      refine va_calli (va_runV (As := [.int (-1)]) (rest := []) ⟨hx, hb, hml, hown, hts⟩ (metX2_refused l dC dI ct A ex o q g a (-1) ) (cwV 1 hts (lw_V q1086 q1088 qs41 q74 q1089) rfl rfl rfl (by decide +kernel) ⟨Nat.le_of_ble_eq_true rfl, Nat.le_of_ble_eq_true rfl⟩) (mPV hK hP hD _) rfl rfl hl.1 rfl (lv_room (Nat.le_of_ble_eq_true rfl)) dX2_copy_16 ⟨Nat.zero_le _, Nat.zero_le _⟩) hS (fun q _ h => h) (fun q h => h) (fun r u t H1 locs ht hvm hw hB hz1 hk1 hS => ?_)
      obtain ⟨hw, hw2⟩ := hw
      have hw : r = (-1) := hw
      subst hw
      subst hw2
      obtain ⟨hP, -, hD⟩ := hB
      rw [ht] at hP
      generalize H1 = H at hP hS ⊢
      have hP : va_P (dC, dI) clA (mW ct o q (upd g 0 0) a ++ ex) H := hP
      have hD : va_D A (mW ct o q (upd g 0 0) a ++ ex) := hD
      exact W.iret (v := (-1)) hx hb hr (fun t ht hW => ⟨⟨(-1), ((upd g 0 0), a), rfl, ⟨(by simp [M_copy, show inP y 4 = false by simpa using c_2]), (by simp [M_copy, show inP y 4 = false by simpa using c_2])⟩, by rw [ht]; exact hP, va_K.moved hW.alike hK, hD⟩, hS.F ht⟩) hS.2.2 dX2_copy_19
