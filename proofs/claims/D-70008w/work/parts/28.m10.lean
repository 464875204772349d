/-! THE MODEL: what is told -/
set_option maxHeartbeats 4000000 in
set_option maxRecDepth 100000 in
theorem metX2_told (l : Launch) (dC : Nat → ClassId) (dI : Nat → Nat → Nat) (ct : Nat → ClassId) (A : Nat → Prop) (ex : va_W) (o : Nat) (q : Nat → Nat) (g : Nat → Int32) (a : Nat → Nat → Int32) (x : Int32) (y : Int32) (lane : Int32) (ii : Int32) (z : Int32) (w : Int32) (n rn : Nat) (hn6 : n ≤ 6) (hn : g 1 = nI n) (hz : szOk (a 25)) (hr8 : rn ≤ 8) (hrn : g 21 = nI rn) (hrw : ∀ k, k < rn → a 22 k = nI (cix (a 22 k)) ∧ cix (a 22 k) < n) : Met l yX2_told (ws_ yX2_told cX2_told 12 (some .int)) ({ frames := 5, cells := 0, slots := 0, locals := 116 }) (mPre dC dI ct A ex o q g a [.ref o, .int x, .int y, .int lane, .int ii, .int z, .int w]) (va_Qi (fun (r : Int32) (u : (Nat → Int32) × (Nat → Nat → Int32)) => r = (M_told n a x y lane ii z w rn) ∧ ∃ (T : LnS (Nat → Int32) × Int32 × Int32), u = ((upd (upd (upd g 0 ((seenV n a x y lane ii z (inP w 2)).2)) 17 T.2.1) 18 T.2.2), (va_up (va_up (va_up (va_up (va_up a 12 ((T.1).1)) 13 ((T.1).2.1)) 14 ((T.1).2.2.1)) 15 ((T.1).2.2.2.1)) 16 ((T.1).2.2.2.2)))) (mB dC dI ct A ex o q) A) 0 0 A := by
  refine Met.ofW (cc := cX2_told) (maxL := 12) (ret := (some .int)) (by decide) rfl ?_
  intro p e s m args below meth c s₁ B hml hv
  obtain ⟨rfl, hP, hK, hD⟩ := hv
  have hx := B.exec
  have hb := B.bytes
  have hr := B.returns
  have hts := atoms_spec (ws := ws_ yX2_told cX2_told 12 (some .int)) B.pre
  have hts : ∀ w ∈ lw_all, w.before _ s = true := fun w h => hts w (List.mem_cons_of_mem _ h)
  have hown : s.vm.findClass RX2 = some m.cls := findClass_of_methodNamed B.named
  have hlocks := B.notSynchronized
  have hS : va_S A s.heap s.heap [] := va_S.rf
  have hl := lv_entry ([.ref o, .int x, .int y, .int lane, .int ii, .int z, .int w]) (n := 12) (Nat.le_of_ble_eq_true rfl)
  rw [lg_entry_eq]
  generalize (lg_sl ([.ref o, .int x, .int y, .int lane, .int ii, .int z, .int w]) ++ List.replicate (12 - (lg_sl ([.ref o, .int x, .int y, .int lane, .int ii, .int z, .int w])).length) Slot.unset).toArray = ls at hl ⊢
  have hl : lv_has ls 12 [(0, .ref o), (1, .int x), (2, .int y), (3, .int lane), (4, .int ii), (5, .int z), (6, .int w)] := hl
  refine lv_aload_n hx hb dX2_told_0 rfl (lv_at hl 0 rfl) ?_
  refine lv_iload_n hx hb dX2_told_1 rfl (lv_at hl 1 rfl) ?_
  refine lv_iload_n hx hb dX2_told_2 rfl (lv_at hl 2 rfl) ?_
  refine lv_iload_n hx hb dX2_told_3 rfl (lv_at hl 3 rfl) ?_
  refine lv_iload hx hb dX2_told_4 (lv_at hl 4 rfl) ?_
  refine lv_iload hx hb dX2_told_6 (lv_at hl 5 rfl) ?_
  refine lv_iload hx hb dX2_told_8 (lv_at hl 6 rfl) ?_
  refine lv_i2l (v := (Int32.toInt64 w)) hx hb dX2_told_10 rfl ?_
  refine lv_lconst (v := 0) hx hb dX2_told_11 (by decide) ?_
  refine lv_lconst (v := 1) hx hb dX2_told_12 (by decide) ?_
  refine vp_callSi ((va_runS (As := [.long (Int32.toInt64 w), .long 0, .long 1]) (rest := [.int z, .int ii, .int lane, .int y, .int x, .ref o]) ⟨hx, hb, hml, hown, hts⟩ (metX2_in l (Int32.toInt64 w) 0 1 ) (va_cwS 3 hts (lw_S q1083 q1084 q74 q1085) rfl rfl rfl (by decide +kernel) ⟨Nat.le_of_ble_eq_true rfl, Nat.le_of_ble_eq_true rfl⟩) (pcS _) rfl rfl hl.1 rfl (lv_room (Nat.le_of_ble_eq_true rfl)) dX2_told_13 ⟨Nat.zero_le _, Nat.zero_le _⟩)).run (fun r hw => ?_)
  have hw : r = (b2i (lin (Int32.toInt64 w) 0 1)) := hw
  subst hw
  refine lv_topi (fun z_1 ez_1 => ?_)
  have ez_1 : z_1 = (b2i (inP w 2)) := ez_1.trans (congrArg b2i (lin_01 w))
  subst ez_1
  refine va_calli (va_runV (As := [.int x, .int y, .int lane, .int ii, .int z, .int (b2i (inP w 2))]) (rest := []) ⟨hx, hb, hml, hown, hts⟩ (metX2_seenBarred l dC dI ct A ex o q g a x y lane ii z (inP w 2) n hn6 hn hz) (cwV 6 hts (lw_V q1231 q1233 qs63 q74 q1234) rfl rfl rfl (by decide +kernel) ⟨Nat.le_of_ble_eq_true rfl, Nat.le_of_ble_eq_true rfl⟩) (mPV hK hP hD _) rfl rfl hl.1 rfl (lv_room (Nat.le_of_ble_eq_true rfl)) dX2_told_16 ⟨Nat.zero_le _, Nat.zero_le _⟩) hS (fun q _ h => h) (fun q h => h) (fun r u t H1 locs ht hvm hw hB hz1 hk1 hS => ?_)
  obtain ⟨hw, hw2⟩ := hw
  have hw : r = (seenV n a x y lane ii z (inP w 2)).1 := hw
  subst hw
  subst hw2
  obtain ⟨hP, -, hD⟩ := hB
  rw [ht] at hP
  generalize H1 = H at hP hS ⊢
  have hP : va_P (dC, dI) clA (mW ct o q (upd g 0 ((seenV n a x y lane ii z (inP w 2)).2)) a ++ ex) H := hP
  have hD : va_D A (mW ct o q (upd g 0 ((seenV n a x y lane ii z (inP w 2)).2)) a ++ ex) := hD
  refine lv_istore (lv' := [(7, .int ((seenV n a x y lane ii z (inP w 2)).1)), (0, .ref o), (1, .int x), (2, .int y), (3, .int lane), (4, .int ii), (5, .int z), (6, .int w)]) hx hb dX2_told_19 hl (by decide) rfl (fun ls hl => ?_)
  refine lv_iload hx hb dX2_told_21 (lv_at hl 0 rfl) ?_
  refine lv_if_ge (tgt := 29) hx hb dX2_told_23 (by decide) (fun c_2 => ?_) (fun c_2 => ?_)
  · skip
    have hP0 := hP
    have hD0 := hD
    obtain ⟨s0, s1, s2, s3, s4, s5, s6, s7⟩ := seenV_0 c_2
    have sv := s0
    obtain ⟨K, hKn, ekK⟩ := inP_of (by omega) s1
    subst ekK
    have eK : cix (nI K) = K := cix_nI (by omega)
    obtain ⟨Y, hY4, ekY⟩ := inP_of (by omega) s2
    subst ekY
    have eY : cix (nI Y) = Y := cix_nI (by omega)
    obtain ⟨Z, hZ, ekZ⟩ := inP_of (by omega) s4
    subst ekZ
    have eZ : cix (nI Z) = Z := cix_nI (by omega)
    rw [eY, eZ] at s6 s7
    obtain ⟨ei, hF, hpr⟩ := pairs_at (by omega) (by omega) (hz Y hY4) s6 s7 hY4
    rw [sv] at hP0 hD0
    have hP : va_P (dC, dI) clA (mW ct o q (upd g 0 0) a ++ ex) H := hP0
    have hD : va_D A (mW ct o q (upd g 0 0) a ++ ex) := hD0
    have c0 : 0 ≤ (seenV n a (nI K) (nI Y) lane ii (nI Z) (inP w 2)).1 := by rw [sv]; decide
    refine lv_aload_n hx hb dX2_told_29 rfl (lv_at hl 1 rfl) ?_
    refine m_get (v := .ref (q 3)) hx hb hts hown hK hP 3 (by decide) rfl q987 rfl dX2_told_30 ?_
    refine lv_iload_n hx hb dX2_told_33 rfl (lv_at hl 2 rfl) ?_
    refine m_ild hx hb hK hP (mWa3 _ _ _ _ _ _) (a 3) rfl K rfl (by omega) (by decide) dX2_told_34 ?_
    refine lv_istore (lv' := [(8, .int ((a 3) K)), (7, .int ((seenV n a (nI K) (nI Y) lane ii (nI Z) (inP w 2)).1)), (0, .ref o), (1, .int (nI K)), (2, .int (nI Y)), (3, .int lane), (4, .int ii), (5, .int (nI Z)), (6, .int w)]) hx hb dX2_told_35 hl (by decide) rfl (fun ls hl => ?_)
    refine lv_iconst (v := 0) hx hb dX2_told_37 (by decide) ?_
    refine lv_istore (lv' := [(9, .int 0), (8, .int ((a 3) K)), (7, .int ((seenV n a (nI K) (nI Y) lane ii (nI Z) (inP w 2)).1)), (0, .ref o), (1, .int (nI K)), (2, .int (nI Y)), (3, .int lane), (4, .int ii), (5, .int (nI Z)), (6, .int w)]) hx hb dX2_told_38 hl (by decide) rfl (fun ls hl => ?_)
    refine lv_bipush (v := (-9)) hx hb dX2_told_40 (by decide) ?_
    refine lv_istore (lv' := [(10, .int (-9)), (9, .int 0), (8, .int ((a 3) K)), (7, .int ((seenV n a (nI K) (nI Y) lane ii (nI Z) (inP w 2)).1)), (0, .ref o), (1, .int (nI K)), (2, .int (nI Y)), (3, .int lane), (4, .int ii), (5, .int (nI Z)), (6, .int w)]) hx hb dX2_told_42 hl (by decide) rfl (fun ls hl => ?_)
    refine lv_iconst (v := 0) hx hb dX2_told_44 (by decide) ?_
    refine lv_istore (lv' := [(11, .int 0), (10, .int (-9)), (9, .int 0), (8, .int ((a 3) K)), (7, .int ((seenV n a (nI K) (nI Y) lane ii (nI Z) (inP w 2)).1)), (0, .ref o), (1, .int (nI K)), (2, .int (nI Y)), (3, .int lane), (4, .int ii), (5, .int (nI Z)), (6, .int w)]) hx hb dX2_told_45 hl (by decide) rfl (fun ls hl => ?_)
    have loop1 : ∀ (f1 : Nat) (i : Nat) (v : Int32) (T : LnS (Nat → Int32) × Int32 × Int32), i ≤ 64 → 64 + 1 ≤ i + f1 → ∀ (H : Heap) (locs : List Loc), va_P (dC, dI) clA (mW ct o q (upd (upd (upd g 0 0) 17 T.2.1) 18 T.2.2) (va_up (va_up (va_up (va_up (va_up (va_up a 3 (upd (a 3) K v)) 12 ((T.1).1)) 13 ((T.1).2.1)) 14 ((T.1).2.2.1)) 15 ((T.1).2.2.2.1)) 16 ((T.1).2.2.2.2)) ++ ex) H → va_D A (mW ct o q (upd (upd (upd g 0 0) 17 T.2.1) 18 T.2.2) (va_up (va_up (va_up (va_up (va_up (va_up a 3 (upd (a 3) K v)) 12 ((T.1).1)) 13 ((T.1).2.1)) 14 ((T.1).2.2.1)) 15 ((T.1).2.2.2.1)) 16 ((T.1).2.2.2.2)) ++ ex) → va_S A s.heap H locs → ∀ (ls : Array Slot), lv_has ls 12 [(11, .int (nI i)), (10, .int (leastB (toldF n a (nI K) (nI Y) ii (nI Z) rn) i)), (9, .int (cntB (toldF n a (nI K) (nI Y) ii (nI Z) rn) i)), (8, .int ((a 3) K)), (6, .int w), (5, .int (nI Z)), (4, .int ii), (2, .int (nI Y)), (1, .int (nI K)), (0, .ref o)] → W p l e (headSpec (ws_ yX2_told cX2_told 12 (some .int)) ({ frames := 5, cells := 0, slots := 0, locals := 116 })).room s m ([.ref o, .int (nI K), .int (nI Y), .int lane, .int ii, .int (nI Z), .int w] : List Value).toArray below meth c H locs 0 0 (MQ below (va_Qi (fun (r : Int32) (u : (Nat → Int32) × (Nat → Nat → Int32)) => r = (M_told n a (nI K) (nI Y) lane ii (nI Z) w rn) ∧ ∃ (T : LnS (Nat → Int32) × Int32 × Int32), u = ((upd (upd (upd g 0 ((seenV n a (nI K) (nI Y) lane ii (nI Z) (inP w 2)).2)) 17 T.2.1) 18 T.2.2), (va_up (va_up (va_up (va_up (va_up a 12 ((T.1).1)) 13 ((T.1).2.1)) 14 ((T.1).2.2.1)) 15 ((T.1).2.2.2.1)) 16 ((T.1).2.2.2.2)))) (mB dC dI ct A ex o q) A) ([.ref o, .int (nI K), .int (nI Y), .int lane, .int ii, .int (nI Z), .int w] : List Value).toArray s 0 0 A) (F0 m 47 ls []) := by
      intro f1
      induction f1 with
      | zero => intro i v T hi hf; exact False.elim (by omega)
      | succ f1 ih1 =>
        intro i v T hi hf H locs hP hD hS ls hl
        refine lv_iload hx hb dX2_told_47 (lv_at hl 0 rfl) ?_
        refine lv_bipush (v := 64) hx hb dX2_told_49 (by decide) ?_
        refine lv_icmp_ge (tgt := 101) hx hb dX2_told_51 (by decide) (fun c_3 => ?_) (fun c_3 => ?_)
        · skip
          have hge : i = 64 := Nat.le_antisymm hi ((nI_leI (a := 64) (by omega) (by omega)).mp c_3)
          subst hge
          refine lv_aload_n hx hb dX2_told_101 rfl (lv_at hl 9 rfl) ?_
          refine m_get (v := .ref (q 3)) hx hb hts hown hK hP 3 (by decide) rfl q987 rfl dX2_told_102 ?_
          refine lv_iload_n hx hb dX2_told_105 rfl (lv_at hl 8 rfl) ?_
          refine lv_iload hx hb dX2_told_106 (lv_at hl 3 rfl) ?_
          refine m_ist (x := ((a 3) K)) hx hb hK hP hD hS (mWa3 _ _ _ _ _ _) (mWs3 _ _ _ _ _ _) (upd (a 3) K v) rfl K rfl (by omega) (by decide) dX2_told_108 (fun H locs hP hD hS => ?_)
          have eW_4 : ∀ (zg0 : Int32) (zg17 : Int32) (zg18 : Int32) (za3 : Nat → Int32) (za12 : Nat → Int32) (za13 : Nat → Int32) (za14 : Nat → Int32) (za15 : Nat → Int32) (za16 : Nat → Int32) (zn : Nat → Int32), mW ct o q (upd (upd (upd g 0 zg0) 17 zg17) 18 zg18) (va_up (va_up (va_up (va_up (va_up (va_up (va_up a 3 za3) 12 za12) 13 za13) 14 za14) 15 za15) 16 za16) 3 zn) ++ ex = mW ct o q (upd (upd (upd g 0 zg0) 17 zg17) 18 zg18) (va_up (va_up (va_up (va_up (va_up (va_up a 3 zn) 12 za12) 13 za13) 14 za14) 15 za15) 16 za16) ++ ex := fun _ _ _ _ _ _ _ _ _ _ => rfl
          have hP : va_P (dC, dI) clA (mW ct o q (upd (upd (upd g 0 0) 17 T.2.1) 18 T.2.2) (va_up (va_up (va_up (va_up (va_up (va_up a 3 (upd (upd (a 3) K v) K ((a 3) K))) 12 ((T.1).1)) 13 ((T.1).2.1)) 14 ((T.1).2.2.1)) 15 ((T.1).2.2.2.1)) 16 ((T.1).2.2.2.2)) ++ ex) H := Eq.mp (congrArg (fun w => va_P (dC, dI) clA w H) (eW_4 0 T.2.1 T.2.2 (upd (a 3) K v) ((T.1).1) ((T.1).2.1) ((T.1).2.2.1) ((T.1).2.2.2.1) ((T.1).2.2.2.2) (upd (upd (a 3) K v) K ((a 3) K)))) hP
          have hD : va_D A (mW ct o q (upd (upd (upd g 0 0) 17 T.2.1) 18 T.2.2) (va_up (va_up (va_up (va_up (va_up (va_up a 3 (upd (upd (a 3) K v) K ((a 3) K))) 12 ((T.1).1)) 13 ((T.1).2.1)) 14 ((T.1).2.2.1)) 15 ((T.1).2.2.2.1)) 16 ((T.1).2.2.2.2)) ++ ex) := Eq.mp (congrArg (fun w => va_D A w) (eW_4 0 T.2.1 T.2.2 (upd (a 3) K v) ((T.1).1) ((T.1).2.1) ((T.1).2.2.1) ((T.1).2.2.2.1) ((T.1).2.2.2.2) (upd (upd (a 3) K v) K ((a 3) K)))) hD
          have e_5 : (upd (upd (a 3) K v) K ((a 3) K)) = (a 3) := (by rw [upd_uu]; exact upd_id _ _)
          rw [e_5] at hP hD
          have hP : va_P (dC, dI) clA (mW ct o q (upd (upd (upd g 0 0) 17 T.2.1) 18 T.2.2) (va_up (va_up (va_up (va_up (va_up a 12 ((T.1).1)) 13 ((T.1).2.1)) 14 ((T.1).2.2.1)) 15 ((T.1).2.2.2.1)) 16 ((T.1).2.2.2.2)) ++ ex) H := hP
          have hD : va_D A (mW ct o q (upd (upd (upd g 0 0) 17 T.2.1) 18 T.2.2) (va_up (va_up (va_up (va_up (va_up a 12 ((T.1).1)) 13 ((T.1).2.1)) 14 ((T.1).2.2.1)) 15 ((T.1).2.2.2.1)) 16 ((T.1).2.2.2.2)) ++ ex) := hD
          refine lv_iload hx hb dX2_told_109 (lv_at hl 4 rfl) ?_
          refine lv_if_ne (tgt := 119) hx hb dX2_told_111 (by decide) (fun c_6 => ?_) (fun c_6 => ?_)
          · skip
            refine lv_iload hx hb dX2_told_119 (lv_at hl 1 rfl) ?_
            exact W.iret (v := (leastB (toldF n a (nI K) (nI Y) ii (nI Z) rn) 64)) hx hb hr (fun t ht hW => ⟨⟨(leastB (toldF n a (nI K) (nI Y) ii (nI Z) rn) 64), ((upd (upd (upd g 0 0) 17 T.2.1) 18 T.2.2), (va_up (va_up (va_up (va_up (va_up a 12 ((T.1).1)) 13 ((T.1).2.1)) 14 ((T.1).2.2.1)) 15 ((T.1).2.2.2.1)) 16 ((T.1).2.2.2.2))), rfl, ⟨(by rw [M_told, if_pos c0, if_neg c_6]), ⟨T, by rw [sv]⟩⟩, by rw [ht]; exact hP, va_K.moved hW.alike hK, hD⟩, hS.F ht⟩) hS.2.2 dX2_told_121
          · skip
            refine lv_iload hx hb dX2_told_114 (lv_at hl 2 rfl) ?_
            refine lv_goto (tgt := 121) hx hb dX2_told_116 (by decide) ?_
            exact W.iret (v := (cntB (toldF n a (nI K) (nI Y) ii (nI Z) rn) 64)) hx hb hr (fun t ht hW => ⟨⟨(cntB (toldF n a (nI K) (nI Y) ii (nI Z) rn) 64), ((upd (upd (upd g 0 0) 17 T.2.1) 18 T.2.2), (va_up (va_up (va_up (va_up (va_up a 12 ((T.1).1)) 13 ((T.1).2.1)) 14 ((T.1).2.2.1)) 15 ((T.1).2.2.2.1)) 16 ((T.1).2.2.2.2))), rfl, ⟨(by rw [M_told, if_pos c0, if_pos c_6]), ⟨T, by rw [sv]⟩⟩, by rw [ht]; exact hP, va_K.moved hW.alike hK, hD⟩, hS.F ht⟩) hS.2.2 dX2_told_121
        · skip
          have hlt : i < 64 := Nat.lt_of_not_le (fun z => c_3 ((nI_leI (a := 64) (by omega) (by omega)).mpr z))
          refine lv_aload_n hx hb dX2_told_54 rfl (lv_at hl 9 rfl) ?_
          refine m_get (v := .ref (q 3)) hx hb hts hown hK hP 3 (by decide) rfl q987 rfl dX2_told_55 ?_
          refine lv_iload_n hx hb dX2_told_58 rfl (lv_at hl 8 rfl) ?_
          refine lv_iload hx hb dX2_told_59 (lv_at hl 0 rfl) ?_
          refine m_ist (x := (nI i)) hx hb hK hP hD hS (mWa3 _ _ _ _ _ _) (mWs3 _ _ _ _ _ _) (upd (a 3) K v) rfl K rfl (by omega) (by decide) dX2_told_61 (fun H locs hP hD hS => ?_)
          have eW_7 : ∀ (zg0 : Int32) (zg17 : Int32) (zg18 : Int32) (za3 : Nat → Int32) (za12 : Nat → Int32) (za13 : Nat → Int32) (za14 : Nat → Int32) (za15 : Nat → Int32) (za16 : Nat → Int32) (zn : Nat → Int32), mW ct o q (upd (upd (upd g 0 zg0) 17 zg17) 18 zg18) (va_up (va_up (va_up (va_up (va_up (va_up (va_up a 3 za3) 12 za12) 13 za13) 14 za14) 15 za15) 16 za16) 3 zn) ++ ex = mW ct o q (upd (upd (upd g 0 zg0) 17 zg17) 18 zg18) (va_up (va_up (va_up (va_up (va_up (va_up a 3 zn) 12 za12) 13 za13) 14 za14) 15 za15) 16 za16) ++ ex := fun _ _ _ _ _ _ _ _ _ _ => rfl
          have hP : va_P (dC, dI) clA (mW ct o q (upd (upd (upd g 0 0) 17 T.2.1) 18 T.2.2) (va_up (va_up (va_up (va_up (va_up (va_up a 3 (upd (upd (a 3) K v) K (nI i))) 12 ((T.1).1)) 13 ((T.1).2.1)) 14 ((T.1).2.2.1)) 15 ((T.1).2.2.2.1)) 16 ((T.1).2.2.2.2)) ++ ex) H := Eq.mp (congrArg (fun w => va_P (dC, dI) clA w H) (eW_7 0 T.2.1 T.2.2 (upd (a 3) K v) ((T.1).1) ((T.1).2.1) ((T.1).2.2.1) ((T.1).2.2.2.1) ((T.1).2.2.2.2) (upd (upd (a 3) K v) K (nI i)))) hP
          have hD : va_D A (mW ct o q (upd (upd (upd g 0 0) 17 T.2.1) 18 T.2.2) (va_up (va_up (va_up (va_up (va_up (va_up a 3 (upd (upd (a 3) K v) K (nI i))) 12 ((T.1).1)) 13 ((T.1).2.1)) 14 ((T.1).2.2.1)) 15 ((T.1).2.2.2.1)) 16 ((T.1).2.2.2.2)) ++ ex) := Eq.mp (congrArg (fun w => va_D A w) (eW_7 0 T.2.1 T.2.2 (upd (a 3) K v) ((T.1).1) ((T.1).2.1) ((T.1).2.2.1) ((T.1).2.2.2.1) ((T.1).2.2.2.2) (upd (upd (a 3) K v) K (nI i)))) hD
          have e_8 : (upd (upd (a 3) K v) K (nI i)) = (upd (a 3) K (nI i)) := upd_uu _ _ _ _
          rw [e_8] at hP hD
          refine lv_aload_n hx hb dX2_told_62 rfl (lv_at hl 9 rfl) ?_
          refine lv_bipush (v := 60) hx hb dX2_told_63 (by decide) ?_
          refine lv_iload_n hx hb dX2_told_65 rfl (lv_at hl 7 rfl) ?_
          refine lv_imul hx hb dX2_told_66 ?_
          refine lv_iload hx hb dX2_told_67 (lv_at hl 6 rfl) ?_
          refine lv_iadd hx hb dX2_told_69 ?_
          refine lv_iload hx hb dX2_told_70 (lv_at hl 5 rfl) ?_
          refine va_calli (va_runV (As := [.int ((60 * (nI Y)) + ii), .int (nI Z)]) (rest := []) ⟨hx, hb, hml, hown, hts⟩ (metX2_areSo l dC dI ct A ex o q (upd (upd (upd g 0 0) 17 T.2.1) 18 T.2.2) (va_up (va_up (va_up (va_up (va_up (va_up a 3 (upd (a 3) K (nI i))) 12 ((T.1).1)) 13 ((T.1).2.1)) 14 ((T.1).2.2.1)) 15 ((T.1).2.2.2.1)) 16 ((T.1).2.2.2.2)) ((60 * (nI Y)) + ii) (nI Z) n (60 * Y + cix ii) Z rn hn6 hn (by rw [← ix_60, ← ei]) rfl (by omega) hF hpr hr8 hrn hrw) (cwV 2 hts (lw_V q1235 q1237 qs64 q74 q1238) rfl rfl rfl (by decide +kernel) ⟨Nat.le_of_ble_eq_true rfl, Nat.le_of_ble_eq_true rfl⟩) (mPV hK hP hD _) rfl rfl hl.1 rfl (lv_room (Nat.le_of_ble_eq_true rfl)) dX2_told_72 ⟨Nat.zero_le _, Nat.zero_le _⟩) hS (fun q _ h => h) (fun q h => h) (fun r u t H1 locs ht hvm hw hB hz1 hk1 hS => ?_)
          obtain ⟨hw, T_9, hw2⟩ := hw
          have hw : r = (b2i (soV (cgo n (upd (a 3) K (nI i)) (a 4) (fun c => lastsV ((a 2) c) ((a 5) c)) (fun t => cix ((a 27) ((60 * Y + cix ii) + t))) Z) (a 22) (a 23) (a 24) rn)) := hw
          subst hw
          subst hw2
          obtain ⟨hP, -, hD⟩ := hB
          rw [ht] at hP
          generalize H1 = H at hP hS ⊢
          have hP : va_P (dC, dI) clA (mW ct o q (upd (upd (upd g 0 0) 17 T_9.2.1) 18 T_9.2.2) (va_up (va_up (va_up (va_up (va_up (va_up a 3 (upd (a 3) K (nI i))) 12 ((T_9.1).1)) 13 ((T_9.1).2.1)) 14 ((T_9.1).2.2.1)) 15 ((T_9.1).2.2.2.1)) 16 ((T_9.1).2.2.2.2)) ++ ex) H := hP
          have hD : va_D A (mW ct o q (upd (upd (upd g 0 0) 17 T_9.2.1) 18 T_9.2.2) (va_up (va_up (va_up (va_up (va_up (va_up a 3 (upd (a 3) K (nI i))) 12 ((T_9.1).1)) 13 ((T_9.1).2.1)) 14 ((T_9.1).2.2.1)) 15 ((T_9.1).2.2.2.1)) 16 ((T_9.1).2.2.2.2)) ++ ex) := hD
          refine bz_eq (tgt := 95) hx hb dX2_told_75 (by decide) (fun c_10 => ?_) (fun c_10 => ?_)
          · skip
            have hso : (toldF n a (nI K) (nI Y) ii (nI Z) rn) i = false := by simp only [toldF, eK, eY, eZ]; exact c_10
            rw [cntB_f hso, leastB_f hso] at hl
            refine lv_iinc (v := (nI (i + 1))) (lv' := [(11, .int (nI (i + 1))), (10, .int (leastB (toldF n a (nI K) (nI Y) ii (nI Z) rn) (i + 1))), (9, .int (cntB (toldF n a (nI K) (nI Y) ii (nI Z) rn) (i + 1))), (8, .int ((a 3) K)), (6, .int w), (5, .int (nI Z)), (4, .int ii), (2, .int (nI Y)), (1, .int (nI K)), (0, .ref o)]) hx hb dX2_told_95 hl (k := 0) rfl (nI_1 i) (by decide) rfl (fun ls hl => ?_)
            refine lv_goto (tgt := 47) hx hb dX2_told_98 (by decide) ?_
            exact ih1 (i + 1) (nI i) T_9 (by omega) (by omega) _ _ hP hD hS _ (lv_sub hl [0, 1, 2, 3, 4, 5, 6, 7, 8, 9] rfl)
          · skip
            have hso : (toldF n a (nI K) (nI Y) ii (nI Z) rn) i = true := by simp only [toldF, eK, eY, eZ]; exact c_10
            refine lv_iinc (v := (cntB (toldF n a (nI K) (nI Y) ii (nI Z) rn) (i + 1))) (lv' := [(9, .int (cntB (toldF n a (nI K) (nI Y) ii (nI Z) rn) (i + 1))), (11, .int (nI i)), (10, .int (leastB (toldF n a (nI K) (nI Y) ii (nI Z) rn) i)), (8, .int ((a 3) K)), (6, .int w), (5, .int (nI Z)), (4, .int ii), (2, .int (nI Y)), (1, .int (nI K)), (0, .ref o)]) hx hb dX2_told_78 hl (k := 2) rfl (cntB_t hso) (by decide) rfl (fun ls hl => ?_)
            refine lv_iload hx hb dX2_told_81 (lv_at hl 2 rfl) ?_
            refine lv_if_ge (tgt := 91) hx hb dX2_told_83 (by decide) (fun c_11 => ?_) (fun c_11 => ?_)
            · skip
              skip
              refine lv_iload hx hb dX2_told_91 (lv_at hl 2 rfl) ?_
              refine lv_topi (fun z_12 ez_12 => ?_)
              have ez_12 : z_12 = (leastB (toldF n a (nI K) (nI Y) ii (nI Z) rn) (i + 1)) := ez_12.trans (leastB_t1 hso c_11)
              subst ez_12
              refine lv_istore (lv' := [(10, .int (leastB (toldF n a (nI K) (nI Y) ii (nI Z) rn) (i + 1))), (9, .int (cntB (toldF n a (nI K) (nI Y) ii (nI Z) rn) (i + 1))), (11, .int (nI i)), (8, .int ((a 3) K)), (6, .int w), (5, .int (nI Z)), (4, .int ii), (2, .int (nI Y)), (1, .int (nI K)), (0, .ref o)]) hx hb dX2_told_93 hl (by decide) rfl (fun ls hl => ?_)
              refine lv_iinc (v := (nI (i + 1))) (lv' := [(11, .int (nI (i + 1))), (10, .int (leastB (toldF n a (nI K) (nI Y) ii (nI Z) rn) (i + 1))), (9, .int (cntB (toldF n a (nI K) (nI Y) ii (nI Z) rn) (i + 1))), (8, .int ((a 3) K)), (6, .int w), (5, .int (nI Z)), (4, .int ii), (2, .int (nI Y)), (1, .int (nI K)), (0, .ref o)]) hx hb dX2_told_95 hl (k := 2) rfl (nI_1 i) (by decide) rfl (fun ls hl => ?_)
              refine lv_goto (tgt := 47) hx hb dX2_told_98 (by decide) ?_
              exact ih1 (i + 1) (nI i) T_9 (by omega) (by omega) _ _ hP hD hS _ (lv_sub hl [0, 1, 2, 3, 4, 5, 6, 7, 8, 9] rfl)
            · skip
              skip
              refine lv_iload hx hb dX2_told_86 (lv_at hl 1 rfl) ?_
              refine lv_goto (tgt := 93) hx hb dX2_told_88 (by decide) ?_
              refine lv_topi (fun z_13 ez_13 => ?_)
              have ez_13 : z_13 = (leastB (toldF n a (nI K) (nI Y) ii (nI Z) rn) (i + 1)) := ez_13.trans (leastB_t0 hso c_11)
              subst ez_13
              refine lv_istore (lv' := [(10, .int (leastB (toldF n a (nI K) (nI Y) ii (nI Z) rn) (i + 1))), (9, .int (cntB (toldF n a (nI K) (nI Y) ii (nI Z) rn) (i + 1))), (11, .int (nI i)), (8, .int ((a 3) K)), (6, .int w), (5, .int (nI Z)), (4, .int ii), (2, .int (nI Y)), (1, .int (nI K)), (0, .ref o)]) hx hb dX2_told_93 hl (by decide) rfl (fun ls hl => ?_)
              refine lv_iinc (v := (nI (i + 1))) (lv' := [(11, .int (nI (i + 1))), (10, .int (leastB (toldF n a (nI K) (nI Y) ii (nI Z) rn) (i + 1))), (9, .int (cntB (toldF n a (nI K) (nI Y) ii (nI Z) rn) (i + 1))), (8, .int ((a 3) K)), (6, .int w), (5, .int (nI Z)), (4, .int ii), (2, .int (nI Y)), (1, .int (nI K)), (0, .ref o)]) hx hb dX2_told_95 hl (k := 2) rfl (nI_1 i) (by decide) rfl (fun ls hl => ?_)
              refine lv_goto (tgt := 47) hx hb dX2_told_98 (by decide) ?_
              exact ih1 (i + 1) (nI i) T_9 (by omega) (by omega) _ _ hP hD hS _ (lv_sub hl [0, 1, 2, 3, 4, 5, 6, 7, 8, 9] rfl)
    exact loop1 65 0 (a 3 K) ((a 12, a 13, a 14, a 15, a 16), g 17, g 18) (by omega) (by omega) _ _ (by rw [upd_id]; exact hP) (by rw [upd_id]; exact hD) hS _ (lv_sub hl [0, 1, 2, 3, 11, 10, 9, 7, 6, 5] rfl)
  · skip
    refine lv_iload hx hb dX2_told_26 (lv_at hl 0 rfl) ?_
    exact W.iret (v := ((seenV n a x y lane ii z (inP w 2)).1)) hx hb hr (fun t ht hW => ⟨⟨((seenV n a x y lane ii z (inP w 2)).1), ((upd g 0 ((seenV n a x y lane ii z (inP w 2)).2)), a), rfl, ⟨(by rw [M_told, if_neg c_2]), ⟨((a 12, a 13, a 14, a 15, a 16), g 17, g 18), tr_id g a _⟩⟩, by rw [ht]; exact hP, va_K.moved hW.alike hK, hD⟩, hS.F ht⟩) hS.2.2 dX2_told_28
set_option maxHeartbeats 4000000 in
set_option maxRecDepth 100000 in
theorem metX2_kinds (l : Launch) (dC : Nat → ClassId) (dI : Nat → Nat → Nat) (ct : Nat → ClassId) (A : Nat → Prop) (ex : va_W) (o : Nat) (q : Nat → Nat) (g : Nat → Int32) (a : Nat → Nat → Int32) (x : Int32) (y : Int32) (lane : Int32) (ii : Int32) (z : Int32) (n rn : Nat) (hn6 : n ≤ 6) (hn : g 1 = nI n) (hz : szOk (a 25)) (hr8 : rn ≤ 8) (hrn : g 21 = nI rn) (hrw : ∀ k, k < rn → a 22 k = nI (cix (a 22 k)) ∧ cix (a 22 k) < n) : Met l yX2_kinds (ws_ yX2_kinds cX2_kinds 10 (some .int)) ({ frames := 5, cells := 0, slots := 0, locals := 116 }) (mPre dC dI ct A ex o q g a [.ref o, .int x, .int y, .int lane, .int ii, .int z]) (va_Qi (fun (r : Int32) (u : (Nat → Int32) × (Nat → Nat → Int32)) => r = (M_kinds n a x y lane ii z rn) ∧ ∃ (T : LnS (Nat → Int32) × Int32 × Int32), u = ((upd (upd (upd g 0 ((seenV n a x y lane ii z true).2)) 17 T.2.1) 18 T.2.2), (va_up (va_up (va_up (va_up (va_up a 12 ((T.1).1)) 13 ((T.1).2.1)) 14 ((T.1).2.2.1)) 15 ((T.1).2.2.2.1)) 16 ((T.1).2.2.2.2)))) (mB dC dI ct A ex o q) A) 0 0 A := by
  refine Met.ofW (cc := cX2_kinds) (maxL := 10) (ret := (some .int)) (by decide) rfl ?_
  intro p e s m args below meth c s₁ B hml hv
  obtain ⟨rfl, hP, hK, hD⟩ := hv
  have hx := B.exec
  have hb := B.bytes
  have hr := B.returns
  have hts := atoms_spec (ws := ws_ yX2_kinds cX2_kinds 10 (some .int)) B.pre
  have hts : ∀ w ∈ lw_all, w.before _ s = true := fun w h => hts w (List.mem_cons_of_mem _ h)
  have hown : s.vm.findClass RX2 = some m.cls := findClass_of_methodNamed B.named
  have hlocks := B.notSynchronized
  have hS : va_S A s.heap s.heap [] := va_S.rf
  have hl := lv_entry ([.ref o, .int x, .int y, .int lane, .int ii, .int z]) (n := 10) (Nat.le_of_ble_eq_true rfl)
  rw [lg_entry_eq]
  generalize (lg_sl ([.ref o, .int x, .int y, .int lane, .int ii, .int z]) ++ List.replicate (10 - (lg_sl ([.ref o, .int x, .int y, .int lane, .int ii, .int z])).length) Slot.unset).toArray = ls at hl ⊢
  have hl : lv_has ls 10 [(0, .ref o), (1, .int x), (2, .int y), (3, .int lane), (4, .int ii), (5, .int z)] := hl
  refine lv_aload_n hx hb dX2_kinds_0 rfl (lv_at hl 0 rfl) ?_
  refine lv_iload_n hx hb dX2_kinds_1 rfl (lv_at hl 1 rfl) ?_
  refine lv_iload_n hx hb dX2_kinds_2 rfl (lv_at hl 2 rfl) ?_
  refine lv_iload_n hx hb dX2_kinds_3 rfl (lv_at hl 3 rfl) ?_
  refine lv_iload hx hb dX2_kinds_4 (lv_at hl 4 rfl) ?_
  refine lv_iload hx hb dX2_kinds_6 (lv_at hl 5 rfl) ?_
  refine lv_iconst (v := 1) hx hb dX2_kinds_8 (by decide) ?_
  refine va_calli (va_runV (As := [.int x, .int y, .int lane, .int ii, .int z, .int 1]) (rest := []) ⟨hx, hb, hml, hown, hts⟩ (metX2_seenBarred l dC dI ct A ex o q g a x y lane ii z true n hn6 hn hz) (cwV 6 hts (lw_V q1231 q1233 qs63 q74 q1234) rfl rfl rfl (by decide +kernel) ⟨Nat.le_of_ble_eq_true rfl, Nat.le_of_ble_eq_true rfl⟩) (mPV hK hP hD _) rfl rfl hl.1 rfl (lv_room (Nat.le_of_ble_eq_true rfl)) dX2_kinds_9 ⟨Nat.zero_le _, Nat.zero_le _⟩) hS (fun q _ h => h) (fun q h => h) (fun r u t H1 locs ht hvm hw hB hz1 hk1 hS => ?_)
  obtain ⟨hw, hw2⟩ := hw
  have hw : r = (seenV n a x y lane ii z true).1 := hw
  subst hw
  subst hw2
  obtain ⟨hP, -, hD⟩ := hB
  rw [ht] at hP
  generalize H1 = H at hP hS ⊢
  have hP : va_P (dC, dI) clA (mW ct o q (upd g 0 ((seenV n a x y lane ii z true).2)) a ++ ex) H := hP
  have hD : va_D A (mW ct o q (upd g 0 ((seenV n a x y lane ii z true).2)) a ++ ex) := hD
  refine lv_istore (lv' := [(6, .int ((seenV n a x y lane ii z true).1)), (0, .ref o), (1, .int x), (2, .int y), (3, .int lane), (4, .int ii), (5, .int z)]) hx hb dX2_kinds_12 hl (by decide) rfl (fun ls hl => ?_)
  refine lv_iload hx hb dX2_kinds_14 (lv_at hl 0 rfl) ?_
  refine lv_if_ge (tgt := 22) hx hb dX2_kinds_16 (by decide) (fun c_1 => ?_) (fun c_1 => ?_)
  · skip
    have hP0 := hP
    have hD0 := hD
    obtain ⟨s0, s1, s2, s3, s4, s5, s6, s7⟩ := seenV_0 c_1
    have sv := s0
    obtain ⟨K, hKn, ekK⟩ := inP_of (by omega) s1
    subst ekK
    have eK : cix (nI K) = K := cix_nI (by omega)
    obtain ⟨Y, hY4, ekY⟩ := inP_of (by omega) s2
    subst ekY
    have eY : cix (nI Y) = Y := cix_nI (by omega)
    obtain ⟨Z, hZ, ekZ⟩ := inP_of (by omega) s4
    subst ekZ
    have eZ : cix (nI Z) = Z := cix_nI (by omega)
    rw [eY, eZ] at s6 s7
    obtain ⟨ei, hF, hpr⟩ := pairs_at (by omega) (by omega) (hz Y hY4) s6 s7 hY4
    rw [sv] at hP0 hD0
    have hP : va_P (dC, dI) clA (mW ct o q (upd g 0 0) a ++ ex) H := hP0
    have hD : va_D A (mW ct o q (upd g 0 0) a ++ ex) := hD0
    have c0 : 0 ≤ (seenV n a (nI K) (nI Y) lane ii (nI Z) true).1 := by rw [sv]; decide
    refine lv_aload_n hx hb dX2_kinds_22 rfl (lv_at hl 1 rfl) ?_
    refine m_get (v := .ref (q 2)) hx hb hts hown hK hP 2 (by decide) rfl q986 rfl dX2_kinds_23 ?_
    refine lv_iload_n hx hb dX2_kinds_26 rfl (lv_at hl 2 rfl) ?_
    refine m_ild hx hb hK hP (mWa2 _ _ _ _ _ _) (a 2) rfl K rfl (by omega) (by decide) dX2_kinds_27 ?_
    refine lv_istore (lv' := [(7, .int ((a 2) K)), (6, .int ((seenV n a (nI K) (nI Y) lane ii (nI Z) true).1)), (0, .ref o), (1, .int (nI K)), (2, .int (nI Y)), (3, .int lane), (4, .int ii), (5, .int (nI Z))]) hx hb dX2_kinds_28 hl (by decide) rfl (fun ls hl => ?_)
    refine lv_iconst (v := 0) hx hb dX2_kinds_30 (by decide) ?_
    refine lv_istore (lv' := [(8, .int 0), (7, .int ((a 2) K)), (6, .int ((seenV n a (nI K) (nI Y) lane ii (nI Z) true).1)), (0, .ref o), (1, .int (nI K)), (2, .int (nI Y)), (3, .int lane), (4, .int ii), (5, .int (nI Z))]) hx hb dX2_kinds_31 hl (by decide) rfl (fun ls hl => ?_)
    refine lv_iconst (v := 0) hx hb dX2_kinds_33 (by decide) ?_
    refine lv_istore (lv' := [(9, .int 0), (8, .int 0), (7, .int ((a 2) K)), (6, .int ((seenV n a (nI K) (nI Y) lane ii (nI Z) true).1)), (0, .ref o), (1, .int (nI K)), (2, .int (nI Y)), (3, .int lane), (4, .int ii), (5, .int (nI Z))]) hx hb dX2_kinds_34 hl (by decide) rfl (fun ls hl => ?_)
    have loop1 : ∀ (f1 : Nat) (i : Nat) (v : Int32) (T : LnS (Nat → Int32) × Int32 × Int32), i ≤ 3 → 3 + 1 ≤ i + f1 → ∀ (H : Heap) (locs : List Loc), va_P (dC, dI) clA (mW ct o q (upd (upd (upd g 0 0) 17 T.2.1) 18 T.2.2) (va_up (va_up (va_up (va_up (va_up (va_up a 2 (upd (a 2) K v)) 12 ((T.1).1)) 13 ((T.1).2.1)) 14 ((T.1).2.2.1)) 15 ((T.1).2.2.2.1)) 16 ((T.1).2.2.2.2)) ++ ex) H → va_D A (mW ct o q (upd (upd (upd g 0 0) 17 T.2.1) 18 T.2.2) (va_up (va_up (va_up (va_up (va_up (va_up a 2 (upd (a 2) K v)) 12 ((T.1).1)) 13 ((T.1).2.1)) 14 ((T.1).2.2.1)) 15 ((T.1).2.2.2.1)) 16 ((T.1).2.2.2.2)) ++ ex) → va_S A s.heap H locs → ∀ (ls : Array Slot), lv_has ls 10 [(9, .int (nI i)), (8, .int (mset (kindF n a (nI K) (nI Y) ii (nI Z) rn) i)), (7, .int ((a 2) K)), (5, .int (nI Z)), (4, .int ii), (2, .int (nI Y)), (1, .int (nI K)), (0, .ref o)] → W p l e (headSpec (ws_ yX2_kinds cX2_kinds 10 (some .int)) ({ frames := 5, cells := 0, slots := 0, locals := 116 })).room s m ([.ref o, .int (nI K), .int (nI Y), .int lane, .int ii, .int (nI Z)] : List Value).toArray below meth c H locs 0 0 (MQ below (va_Qi (fun (r : Int32) (u : (Nat → Int32) × (Nat → Nat → Int32)) => r = (M_kinds n a (nI K) (nI Y) lane ii (nI Z) rn) ∧ ∃ (T : LnS (Nat → Int32) × Int32 × Int32), u = ((upd (upd (upd g 0 ((seenV n a (nI K) (nI Y) lane ii (nI Z) true).2)) 17 T.2.1) 18 T.2.2), (va_up (va_up (va_up (va_up (va_up a 12 ((T.1).1)) 13 ((T.1).2.1)) 14 ((T.1).2.2.1)) 15 ((T.1).2.2.2.1)) 16 ((T.1).2.2.2.2)))) (mB dC dI ct A ex o q) A) ([.ref o, .int (nI K), .int (nI Y), .int lane, .int ii, .int (nI Z)] : List Value).toArray s 0 0 A) (F0 m 36 ls []) := by
      intro f1
      induction f1 with
      | zero => intro i v T hi hf; exact False.elim (by omega)
      | succ f1 ih1 =>
        intro i v T hi hf H locs hP hD hS ls hl
        refine lv_iload hx hb dX2_kinds_36 (lv_at hl 0 rfl) ?_
        refine lv_iconst (v := 3) hx hb dX2_kinds_38 (by decide) ?_
        refine lv_icmp_ge (tgt := 85) hx hb dX2_kinds_39 (by decide) (fun c_2 => ?_) (fun c_2 => ?_)
        · skip
          have hge : i = 3 := Nat.le_antisymm hi ((nI_leI (a := 3) (by omega) (by omega)).mp c_2)
          subst hge
          refine lv_aload_n hx hb dX2_kinds_85 rfl (lv_at hl 7 rfl) ?_
          refine m_get (v := .ref (q 2)) hx hb hts hown hK hP 2 (by decide) rfl q986 rfl dX2_kinds_86 ?_
          refine lv_iload_n hx hb dX2_kinds_89 rfl (lv_at hl 6 rfl) ?_
          refine lv_iload hx hb dX2_kinds_90 (lv_at hl 2 rfl) ?_
          refine m_ist (x := ((a 2) K)) hx hb hK hP hD hS (mWa2 _ _ _ _ _ _) (mWs2 _ _ _ _ _ _) (upd (a 2) K v) rfl K rfl (by omega) (by decide) dX2_kinds_92 (fun H locs hP hD hS => ?_)
          have eW_3 : ∀ (zg0 : Int32) (zg17 : Int32) (zg18 : Int32) (za2 : Nat → Int32) (za12 : Nat → Int32) (za13 : Nat → Int32) (za14 : Nat → Int32) (za15 : Nat → Int32) (za16 : Nat → Int32) (zn : Nat → Int32), mW ct o q (upd (upd (upd g 0 zg0) 17 zg17) 18 zg18) (va_up (va_up (va_up (va_up (va_up (va_up (va_up a 2 za2) 12 za12) 13 za13) 14 za14) 15 za15) 16 za16) 2 zn) ++ ex = mW ct o q (upd (upd (upd g 0 zg0) 17 zg17) 18 zg18) (va_up (va_up (va_up (va_up (va_up (va_up a 2 zn) 12 za12) 13 za13) 14 za14) 15 za15) 16 za16) ++ ex := fun _ _ _ _ _ _ _ _ _ _ => rfl
          have hP : va_P (dC, dI) clA (mW ct o q (upd (upd (upd g 0 0) 17 T.2.1) 18 T.2.2) (va_up (va_up (va_up (va_up (va_up (va_up a 2 (upd (upd (a 2) K v) K ((a 2) K))) 12 ((T.1).1)) 13 ((T.1).2.1)) 14 ((T.1).2.2.1)) 15 ((T.1).2.2.2.1)) 16 ((T.1).2.2.2.2)) ++ ex) H := Eq.mp (congrArg (fun w => va_P (dC, dI) clA w H) (eW_3 0 T.2.1 T.2.2 (upd (a 2) K v) ((T.1).1) ((T.1).2.1) ((T.1).2.2.1) ((T.1).2.2.2.1) ((T.1).2.2.2.2) (upd (upd (a 2) K v) K ((a 2) K)))) hP
          have hD : va_D A (mW ct o q (upd (upd (upd g 0 0) 17 T.2.1) 18 T.2.2) (va_up (va_up (va_up (va_up (va_up (va_up a 2 (upd (upd (a 2) K v) K ((a 2) K))) 12 ((T.1).1)) 13 ((T.1).2.1)) 14 ((T.1).2.2.1)) 15 ((T.1).2.2.2.1)) 16 ((T.1).2.2.2.2)) ++ ex) := Eq.mp (congrArg (fun w => va_D A w) (eW_3 0 T.2.1 T.2.2 (upd (a 2) K v) ((T.1).1) ((T.1).2.1) ((T.1).2.2.1) ((T.1).2.2.2.1) ((T.1).2.2.2.2) (upd (upd (a 2) K v) K ((a 2) K)))) hD
          have e_4 : (upd (upd (a 2) K v) K ((a 2) K)) = (a 2) := (by rw [upd_uu]; exact upd_id _ _)
          rw [e_4] at hP hD
          have hP : va_P (dC, dI) clA (mW ct o q (upd (upd (upd g 0 0) 17 T.2.1) 18 T.2.2) (va_up (va_up (va_up (va_up (va_up a 12 ((T.1).1)) 13 ((T.1).2.1)) 14 ((T.1).2.2.1)) 15 ((T.1).2.2.2.1)) 16 ((T.1).2.2.2.2)) ++ ex) H := hP
          have hD : va_D A (mW ct o q (upd (upd (upd g 0 0) 17 T.2.1) 18 T.2.2) (va_up (va_up (va_up (va_up (va_up a 12 ((T.1).1)) 13 ((T.1).2.1)) 14 ((T.1).2.2.1)) 15 ((T.1).2.2.2.1)) 16 ((T.1).2.2.2.2)) ++ ex) := hD
          refine lv_iload hx hb dX2_kinds_93 (lv_at hl 1 rfl) ?_
          exact W.iret (v := (mset (kindF n a (nI K) (nI Y) ii (nI Z) rn) 3)) hx hb hr (fun t ht hW => ⟨⟨(mset (kindF n a (nI K) (nI Y) ii (nI Z) rn) 3), ((upd (upd (upd g 0 0) 17 T.2.1) 18 T.2.2), (va_up (va_up (va_up (va_up (va_up a 12 ((T.1).1)) 13 ((T.1).2.1)) 14 ((T.1).2.2.1)) 15 ((T.1).2.2.2.1)) 16 ((T.1).2.2.2.2))), rfl, ⟨(by rw [M_kinds, if_pos c0]), ⟨T, by rw [sv]⟩⟩, by rw [ht]; exact hP, va_K.moved hW.alike hK, hD⟩, hS.F ht⟩) hS.2.2 dX2_kinds_95
        · skip
          have hlt : i < 3 := Nat.lt_of_not_le (fun z => c_2 ((nI_leI (a := 3) (by omega) (by omega)).mpr z))
          refine lv_aload_n hx hb dX2_kinds_42 rfl (lv_at hl 7 rfl) ?_
          refine m_get (v := .ref (q 2)) hx hb hts hown hK hP 2 (by decide) rfl q986 rfl dX2_kinds_43 ?_
          refine lv_iload_n hx hb dX2_kinds_46 rfl (lv_at hl 6 rfl) ?_
          refine lv_iload hx hb dX2_kinds_47 (lv_at hl 0 rfl) ?_
          refine m_ist (x := (nI i)) hx hb hK hP hD hS (mWa2 _ _ _ _ _ _) (mWs2 _ _ _ _ _ _) (upd (a 2) K v) rfl K rfl (by omega) (by decide) dX2_kinds_49 (fun H locs hP hD hS => ?_)
          have eW_5 : ∀ (zg0 : Int32) (zg17 : Int32) (zg18 : Int32) (za2 : Nat → Int32) (za12 : Nat → Int32) (za13 : Nat → Int32) (za14 : Nat → Int32) (za15 : Nat → Int32) (za16 : Nat → Int32) (zn : Nat → Int32), mW ct o q (upd (upd (upd g 0 zg0) 17 zg17) 18 zg18) (va_up (va_up (va_up (va_up (va_up (va_up (va_up a 2 za2) 12 za12) 13 za13) 14 za14) 15 za15) 16 za16) 2 zn) ++ ex = mW ct o q (upd (upd (upd g 0 zg0) 17 zg17) 18 zg18) (va_up (va_up (va_up (va_up (va_up (va_up a 2 zn) 12 za12) 13 za13) 14 za14) 15 za15) 16 za16) ++ ex := fun _ _ _ _ _ _ _ _ _ _ => rfl
          have hP : va_P (dC, dI) clA (mW ct o q (upd (upd (upd g 0 0) 17 T.2.1) 18 T.2.2) (va_up (va_up (va_up (va_up (va_up (va_up a 2 (upd (upd (a 2) K v) K (nI i))) 12 ((T.1).1)) 13 ((T.1).2.1)) 14 ((T.1).2.2.1)) 15 ((T.1).2.2.2.1)) 16 ((T.1).2.2.2.2)) ++ ex) H := Eq.mp (congrArg (fun w => va_P (dC, dI) clA w H) (eW_5 0 T.2.1 T.2.2 (upd (a 2) K v) ((T.1).1) ((T.1).2.1) ((T.1).2.2.1) ((T.1).2.2.2.1) ((T.1).2.2.2.2) (upd (upd (a 2) K v) K (nI i)))) hP
          have hD : va_D A (mW ct o q (upd (upd (upd g 0 0) 17 T.2.1) 18 T.2.2) (va_up (va_up (va_up (va_up (va_up (va_up a 2 (upd (upd (a 2) K v) K (nI i))) 12 ((T.1).1)) 13 ((T.1).2.1)) 14 ((T.1).2.2.1)) 15 ((T.1).2.2.2.1)) 16 ((T.1).2.2.2.2)) ++ ex) := Eq.mp (congrArg (fun w => va_D A w) (eW_5 0 T.2.1 T.2.2 (upd (a 2) K v) ((T.1).1) ((T.1).2.1) ((T.1).2.2.1) ((T.1).2.2.2.1) ((T.1).2.2.2.2) (upd (upd (a 2) K v) K (nI i)))) hD
          have e_6 : (upd (upd (a 2) K v) K (nI i)) = (upd (a 2) K (nI i)) := upd_uu _ _ _ _
          rw [e_6] at hP hD
          refine lv_iload hx hb dX2_kinds_50 (lv_at hl 1 rfl) ?_
          refine lv_aload_n hx hb dX2_kinds_52 rfl (lv_at hl 7 rfl) ?_
          refine lv_bipush (v := 60) hx hb dX2_kinds_53 (by decide) ?_
          refine lv_iload_n hx hb dX2_kinds_55 rfl (lv_at hl 5 rfl) ?_
          refine lv_imul hx hb dX2_kinds_56 ?_
          refine lv_iload hx hb dX2_kinds_57 (lv_at hl 4 rfl) ?_
          refine lv_iadd hx hb dX2_kinds_59 ?_
          refine lv_iload hx hb dX2_kinds_60 (lv_at hl 3 rfl) ?_
          refine va_calli (va_runV (As := [.int ((60 * (nI Y)) + ii), .int (nI Z)]) (rest := [.int (mset (kindF n a (nI K) (nI Y) ii (nI Z) rn) i)]) ⟨hx, hb, hml, hown, hts⟩ (metX2_areSo l dC dI ct A ex o q (upd (upd (upd g 0 0) 17 T.2.1) 18 T.2.2) (va_up (va_up (va_up (va_up (va_up (va_up a 2 (upd (a 2) K (nI i))) 12 ((T.1).1)) 13 ((T.1).2.1)) 14 ((T.1).2.2.1)) 15 ((T.1).2.2.2.1)) 16 ((T.1).2.2.2.2)) ((60 * (nI Y)) + ii) (nI Z) n (60 * Y + cix ii) Z rn hn6 hn (by rw [← ix_60, ← ei]) rfl (by omega) hF hpr hr8 hrn hrw) (cwV 2 hts (lw_V q1235 q1237 qs64 q74 q1238) rfl rfl rfl (by decide +kernel) ⟨Nat.le_of_ble_eq_true rfl, Nat.le_of_ble_eq_true rfl⟩) (mPV hK hP hD _) rfl rfl hl.1 rfl (lv_room (Nat.le_of_ble_eq_true rfl)) dX2_kinds_62 ⟨Nat.zero_le _, Nat.zero_le _⟩) hS (fun q _ h => h) (fun q h => h) (fun r u t H1 locs ht hvm hw hB hz1 hk1 hS => ?_)
          obtain ⟨hw, T_7, hw2⟩ := hw
          have hw : r = (b2i (soV (cgo n (a 3) (a 4) (fun c => lastsV ((upd (a 2) K (nI i)) c) ((a 5) c)) (fun t => cix ((a 27) ((60 * Y + cix ii) + t))) Z) (a 22) (a 23) (a 24) rn)) := hw
          subst hw
          subst hw2
          obtain ⟨hP, -, hD⟩ := hB
          rw [ht] at hP
          generalize H1 = H at hP hS ⊢
          have hP : va_P (dC, dI) clA (mW ct o q (upd (upd (upd g 0 0) 17 T_7.2.1) 18 T_7.2.2) (va_up (va_up (va_up (va_up (va_up (va_up a 2 (upd (a 2) K (nI i))) 12 ((T_7.1).1)) 13 ((T_7.1).2.1)) 14 ((T_7.1).2.2.1)) 15 ((T_7.1).2.2.2.1)) 16 ((T_7.1).2.2.2.2)) ++ ex) H := hP
          have hD : va_D A (mW ct o q (upd (upd (upd g 0 0) 17 T_7.2.1) 18 T_7.2.2) (va_up (va_up (va_up (va_up (va_up (va_up a 2 (upd (a 2) K (nI i))) 12 ((T_7.1).1)) 13 ((T_7.1).2.1)) 14 ((T_7.1).2.2.1)) 15 ((T_7.1).2.2.2.1)) 16 ((T_7.1).2.2.2.2)) ++ ex) := hD
          refine bz_eq (tgt := 75) hx hb dX2_kinds_65 (by decide) (fun c_8 => ?_) (fun c_8 => ?_)
          · skip
            have hso : (kindF n a (nI K) (nI Y) ii (nI Z) rn) i = false := by simp only [kindF, eK, eY, eZ]; exact c_8
            refine lv_iconst (v := 0) hx hb dX2_kinds_75 (by decide) ?_
            refine lv_ior hx hb dX2_kinds_76 ?_
            refine lv_topi (fun z_9 ez_9 => ?_)
            have ez_9 : z_9 = (mset (kindF n a (nI K) (nI Y) ii (nI Z) rn) (i + 1)) := ez_9.trans (mset_f hso)
            subst ez_9
            refine lv_istore (lv' := [(8, .int (mset (kindF n a (nI K) (nI Y) ii (nI Z) rn) (i + 1))), (9, .int (nI i)), (7, .int ((a 2) K)), (5, .int (nI Z)), (4, .int ii), (2, .int (nI Y)), (1, .int (nI K)), (0, .ref o)]) hx hb dX2_kinds_77 hl (by decide) rfl (fun ls hl => ?_)
            refine lv_iinc (v := (nI (i + 1))) (lv' := [(9, .int (nI (i + 1))), (8, .int (mset (kindF n a (nI K) (nI Y) ii (nI Z) rn) (i + 1))), (7, .int ((a 2) K)), (5, .int (nI Z)), (4, .int ii), (2, .int (nI Y)), (1, .int (nI K)), (0, .ref o)]) hx hb dX2_kinds_79 hl (k := 1) rfl (nI_1 i) (by decide) rfl (fun ls hl => ?_)
            refine lv_goto (tgt := 36) hx hb dX2_kinds_82 (by decide) ?_
            exact ih1 (i + 1) (nI i) T_7 (by omega) (by omega) _ _ hP hD hS _ (lv_sub hl [0, 1, 2, 3, 4, 5, 6, 7] rfl)
          · skip
            have hso : (kindF n a (nI K) (nI Y) ii (nI Z) rn) i = true := by simp only [kindF, eK, eY, eZ]; exact c_8
            refine lv_iconst (v := 1) hx hb dX2_kinds_68 (by decide) ?_
            refine lv_iload hx hb dX2_kinds_69 (lv_at hl 0 rfl) ?_
            refine lv_ishl hx hb dX2_kinds_71 ?_
            refine lv_goto (tgt := 76) hx hb dX2_kinds_72 (by decide) ?_
            refine lv_ior hx hb dX2_kinds_76 ?_
            refine lv_topi (fun z_10 ez_10 => ?_)
            have ez_10 : z_10 = (mset (kindF n a (nI K) (nI Y) ii (nI Z) rn) (i + 1)) := ez_10.trans (mset_t hso)
            subst ez_10
            refine lv_istore (lv' := [(8, .int (mset (kindF n a (nI K) (nI Y) ii (nI Z) rn) (i + 1))), (9, .int (nI i)), (7, .int ((a 2) K)), (5, .int (nI Z)), (4, .int ii), (2, .int (nI Y)), (1, .int (nI K)), (0, .ref o)]) hx hb dX2_kinds_77 hl (by decide) rfl (fun ls hl => ?_)
            refine lv_iinc (v := (nI (i + 1))) (lv' := [(9, .int (nI (i + 1))), (8, .int (mset (kindF n a (nI K) (nI Y) ii (nI Z) rn) (i + 1))), (7, .int ((a 2) K)), (5, .int (nI Z)), (4, .int ii), (2, .int (nI Y)), (1, .int (nI K)), (0, .ref o)]) hx hb dX2_kinds_79 hl (k := 1) rfl (nI_1 i) (by decide) rfl (fun ls hl => ?_)
            refine lv_goto (tgt := 36) hx hb dX2_kinds_82 (by decide) ?_
            exact ih1 (i + 1) (nI i) T_7 (by omega) (by omega) _ _ hP hD hS _ (lv_sub hl [0, 1, 2, 3, 4, 5, 6, 7] rfl)
    exact loop1 4 0 (a 2 K) ((a 12, a 13, a 14, a 15, a 16), g 17, g 18) (by omega) (by omega) _ _ (by rw [upd_id]; exact hP) (by rw [upd_id]; exact hD) hS _ (lv_sub hl [0, 1, 2, 9, 8, 6, 5, 4] rfl)
  · skip
    refine lv_iload hx hb dX2_kinds_19 (lv_at hl 0 rfl) ?_
    exact W.iret (v := ((seenV n a x y lane ii z true).1)) hx hb hr (fun t ht hW => ⟨⟨((seenV n a x y lane ii z true).1), ((upd g 0 ((seenV n a x y lane ii z true).2)), a), rfl, ⟨(by rw [M_kinds, if_neg c_1]), ⟨((a 12, a 13, a 14, a 15, a 16), g 17, g 18), tr_id g a _⟩⟩, by rw [ht]; exact hP, va_K.moved hW.alike hK, hD⟩, hS.F ht⟩) hS.2.2 dX2_kinds_21
set_option maxHeartbeats 4000000 in
set_option maxRecDepth 100000 in
theorem metX2_wears (l : Launch) (dC : Nat → ClassId) (dI : Nat → Nat → Nat) (ct : Nat → ClassId) (A : Nat → Prop) (ex : va_W) (o : Nat) (q : Nat → Nat) (g : Nat → Int32) (a : Nat → Nat → Int32) (x : Int32) (y : Int32) (lane : Int32) (ii : Int32) (z : Int32) (n rn : Nat) (hn6 : n ≤ 6) (hn : g 1 = nI n) (hz : szOk (a 25)) (hr8 : rn ≤ 8) (hrn : g 21 = nI rn) (hrw : ∀ k, k < rn → a 22 k = nI (cix (a 22 k)) ∧ cix (a 22 k) < n) : Met l yX2_wears (ws_ yX2_wears cX2_wears 10 (some .int)) ({ frames := 5, cells := 0, slots := 0, locals := 116 }) (mPre dC dI ct A ex o q g a [.ref o, .int x, .int y, .int lane, .int ii, .int z]) (va_Qi (fun (r : Int32) (u : (Nat → Int32) × (Nat → Nat → Int32)) => r = (M_wears n a x y lane ii z rn) ∧ ∃ (T : LnS (Nat → Int32) × Int32 × Int32), u = ((upd (upd (upd g 0 ((seenV n a x y lane ii z true).2)) 17 T.2.1) 18 T.2.2), (va_up (va_up (va_up (va_up (va_up a 12 ((T.1).1)) 13 ((T.1).2.1)) 14 ((T.1).2.2.1)) 15 ((T.1).2.2.2.1)) 16 ((T.1).2.2.2.2)))) (mB dC dI ct A ex o q) A) 0 0 A := by
  refine Met.ofW (cc := cX2_wears) (maxL := 10) (ret := (some .int)) (by decide) rfl ?_
  intro p e s m args below meth c s₁ B hml hv
  obtain ⟨rfl, hP, hK, hD⟩ := hv
  have hx := B.exec
  have hb := B.bytes
  have hr := B.returns
  have hts := atoms_spec (ws := ws_ yX2_wears cX2_wears 10 (some .int)) B.pre
  have hts : ∀ w ∈ lw_all, w.before _ s = true := fun w h => hts w (List.mem_cons_of_mem _ h)
  have hown : s.vm.findClass RX2 = some m.cls := findClass_of_methodNamed B.named
  have hlocks := B.notSynchronized
  have hS : va_S A s.heap s.heap [] := va_S.rf
  have hl := lv_entry ([.ref o, .int x, .int y, .int lane, .int ii, .int z]) (n := 10) (Nat.le_of_ble_eq_true rfl)
  rw [lg_entry_eq]
  generalize (lg_sl ([.ref o, .int x, .int y, .int lane, .int ii, .int z]) ++ List.replicate (10 - (lg_sl ([.ref o, .int x, .int y, .int lane, .int ii, .int z])).length) Slot.unset).toArray = ls at hl ⊢
  have hl : lv_has ls 10 [(0, .ref o), (1, .int x), (2, .int y), (3, .int lane), (4, .int ii), (5, .int z)] := hl
  refine lv_aload_n hx hb dX2_wears_0 rfl (lv_at hl 0 rfl) ?_
  refine lv_iload_n hx hb dX2_wears_1 rfl (lv_at hl 1 rfl) ?_
  refine lv_iload_n hx hb dX2_wears_2 rfl (lv_at hl 2 rfl) ?_
  refine lv_iload_n hx hb dX2_wears_3 rfl (lv_at hl 3 rfl) ?_
  refine lv_iload hx hb dX2_wears_4 (lv_at hl 4 rfl) ?_
  refine lv_iload hx hb dX2_wears_6 (lv_at hl 5 rfl) ?_
  refine lv_iconst (v := 1) hx hb dX2_wears_8 (by decide) ?_
  refine va_calli (va_runV (As := [.int x, .int y, .int lane, .int ii, .int z, .int 1]) (rest := []) ⟨hx, hb, hml, hown, hts⟩ (metX2_seenBarred l dC dI ct A ex o q g a x y lane ii z true n hn6 hn hz) (cwV 6 hts (lw_V q1231 q1233 qs63 q74 q1234) rfl rfl rfl (by decide +kernel) ⟨Nat.le_of_ble_eq_true rfl, Nat.le_of_ble_eq_true rfl⟩) (mPV hK hP hD _) rfl rfl hl.1 rfl (lv_room (Nat.le_of_ble_eq_true rfl)) dX2_wears_9 ⟨Nat.zero_le _, Nat.zero_le _⟩) hS (fun q _ h => h) (fun q h => h) (fun r u t H1 locs ht hvm hw hB hz1 hk1 hS => ?_)
  obtain ⟨hw, hw2⟩ := hw
  have hw : r = (seenV n a x y lane ii z true).1 := hw
  subst hw
  subst hw2
  obtain ⟨hP, -, hD⟩ := hB
  rw [ht] at hP
  generalize H1 = H at hP hS ⊢
  have hP : va_P (dC, dI) clA (mW ct o q (upd g 0 ((seenV n a x y lane ii z true).2)) a ++ ex) H := hP
  have hD : va_D A (mW ct o q (upd g 0 ((seenV n a x y lane ii z true).2)) a ++ ex) := hD
  refine lv_istore (lv' := [(6, .int ((seenV n a x y lane ii z true).1)), (0, .ref o), (1, .int x), (2, .int y), (3, .int lane), (4, .int ii), (5, .int z)]) hx hb dX2_wears_12 hl (by decide) rfl (fun ls hl => ?_)
  refine lv_iload hx hb dX2_wears_14 (lv_at hl 0 rfl) ?_
  refine lv_if_ge (tgt := 22) hx hb dX2_wears_16 (by decide) (fun c_1 => ?_) (fun c_1 => ?_)
  · skip
    have hP0 := hP
    have hD0 := hD
    obtain ⟨s0, s1, s2, s3, s4, s5, s6, s7⟩ := seenV_0 c_1
    have sv := s0
    obtain ⟨K, hKn, ekK⟩ := inP_of (by omega) s1
    subst ekK
    have eK : cix (nI K) = K := cix_nI (by omega)
    obtain ⟨Y, hY4, ekY⟩ := inP_of (by omega) s2
    subst ekY
    have eY : cix (nI Y) = Y := cix_nI (by omega)
    obtain ⟨Z, hZ, ekZ⟩ := inP_of (by omega) s4
    subst ekZ
    have eZ : cix (nI Z) = Z := cix_nI (by omega)
    rw [eY, eZ] at s6 s7
    obtain ⟨ei, hF, hpr⟩ := pairs_at (by omega) (by omega) (hz Y hY4) s6 s7 hY4
    rw [sv] at hP0 hD0
    have hP : va_P (dC, dI) clA (mW ct o q (upd g 0 0) a ++ ex) H := hP0
    have hD : va_D A (mW ct o q (upd g 0 0) a ++ ex) := hD0
    have c0 : 0 ≤ (seenV n a (nI K) (nI Y) lane ii (nI Z) true).1 := by rw [sv]; decide
    refine lv_aload_n hx hb dX2_wears_22 rfl (lv_at hl 1 rfl) ?_
    refine m_get (v := .ref (q 5)) hx hb hts hown hK hP 5 (by decide) rfl q989 rfl dX2_wears_23 ?_
    refine lv_iload_n hx hb dX2_wears_26 rfl (lv_at hl 2 rfl) ?_
    refine m_ild hx hb hK hP (mWa5 _ _ _ _ _ _) (a 5) rfl K rfl (by omega) (by decide) dX2_wears_27 ?_
    refine lv_istore (lv' := [(7, .int ((a 5) K)), (6, .int ((seenV n a (nI K) (nI Y) lane ii (nI Z) true).1)), (0, .ref o), (1, .int (nI K)), (2, .int (nI Y)), (3, .int lane), (4, .int ii), (5, .int (nI Z))]) hx hb dX2_wears_28 hl (by decide) rfl (fun ls hl => ?_)
    refine lv_iconst (v := 0) hx hb dX2_wears_30 (by decide) ?_
    refine lv_topi (fun z_2 ez_2 => ?_)
    have ez_2 : z_2 = (mset (wearF n a (nI K) (nI Y) ii (nI Z) rn) 1) := ez_2.trans (mset_w1 _)
    subst ez_2
    refine lv_istore (lv' := [(8, .int (mset (wearF n a (nI K) (nI Y) ii (nI Z) rn) 1)), (7, .int ((a 5) K)), (6, .int ((seenV n a (nI K) (nI Y) lane ii (nI Z) true).1)), (0, .ref o), (1, .int (nI K)), (2, .int (nI Y)), (3, .int lane), (4, .int ii), (5, .int (nI Z))]) hx hb dX2_wears_31 hl (by decide) rfl (fun ls hl => ?_)
    refine lv_iconst (v := 1) hx hb dX2_wears_33 (by decide) ?_
    refine lv_istore (lv' := [(9, .int 1), (8, .int (mset (wearF n a (nI K) (nI Y) ii (nI Z) rn) 1)), (7, .int ((a 5) K)), (6, .int ((seenV n a (nI K) (nI Y) lane ii (nI Z) true).1)), (0, .ref o), (1, .int (nI K)), (2, .int (nI Y)), (3, .int lane), (4, .int ii), (5, .int (nI Z))]) hx hb dX2_wears_34 hl (by decide) rfl (fun ls hl => ?_)
    have loop1 : ∀ (f1 : Nat) (i : Nat) (v : Int32) (T : LnS (Nat → Int32) × Int32 × Int32), i ≤ 10 → 10 + 1 ≤ i + f1 → 1 ≤ i → ∀ (H : Heap) (locs : List Loc), va_P (dC, dI) clA (mW ct o q (upd (upd (upd g 0 0) 17 T.2.1) 18 T.2.2) (va_up (va_up (va_up (va_up (va_up (va_up a 5 (upd (a 5) K v)) 12 ((T.1).1)) 13 ((T.1).2.1)) 14 ((T.1).2.2.1)) 15 ((T.1).2.2.2.1)) 16 ((T.1).2.2.2.2)) ++ ex) H → va_D A (mW ct o q (upd (upd (upd g 0 0) 17 T.2.1) 18 T.2.2) (va_up (va_up (va_up (va_up (va_up (va_up a 5 (upd (a 5) K v)) 12 ((T.1).1)) 13 ((T.1).2.1)) 14 ((T.1).2.2.1)) 15 ((T.1).2.2.2.1)) 16 ((T.1).2.2.2.2)) ++ ex) → va_S A s.heap H locs → ∀ (ls : Array Slot), lv_has ls 10 [(9, .int (nI i)), (8, .int (mset (wearF n a (nI K) (nI Y) ii (nI Z) rn) i)), (7, .int ((a 5) K)), (5, .int (nI Z)), (4, .int ii), (2, .int (nI Y)), (1, .int (nI K)), (0, .ref o)] → W p l e (headSpec (ws_ yX2_wears cX2_wears 10 (some .int)) ({ frames := 5, cells := 0, slots := 0, locals := 116 })).room s m ([.ref o, .int (nI K), .int (nI Y), .int lane, .int ii, .int (nI Z)] : List Value).toArray below meth c H locs 0 0 (MQ below (va_Qi (fun (r : Int32) (u : (Nat → Int32) × (Nat → Nat → Int32)) => r = (M_wears n a (nI K) (nI Y) lane ii (nI Z) rn) ∧ ∃ (T : LnS (Nat → Int32) × Int32 × Int32), u = ((upd (upd (upd g 0 ((seenV n a (nI K) (nI Y) lane ii (nI Z) true).2)) 17 T.2.1) 18 T.2.2), (va_up (va_up (va_up (va_up (va_up a 12 ((T.1).1)) 13 ((T.1).2.1)) 14 ((T.1).2.2.1)) 15 ((T.1).2.2.2.1)) 16 ((T.1).2.2.2.2)))) (mB dC dI ct A ex o q) A) ([.ref o, .int (nI K), .int (nI Y), .int lane, .int ii, .int (nI Z)] : List Value).toArray s 0 0 A) (F0 m 36 ls []) := by
      intro f1
      induction f1 with
      | zero => intro i v T hi hf hi1; exact False.elim (by omega)
      | succ f1 ih1 =>
        intro i v T hi hf hi1 H locs hP hD hS ls hl
        refine lv_iload hx hb dX2_wears_36 (lv_at hl 0 rfl) ?_
        refine lv_bipush (v := 10) hx hb dX2_wears_38 (by decide) ?_
        refine lv_icmp_ge (tgt := 86) hx hb dX2_wears_40 (by decide) (fun c_3 => ?_) (fun c_3 => ?_)
        · skip
          have hge : i = 10 := Nat.le_antisymm hi ((nI_leI (a := 10) (by omega) (by omega)).mp c_3)
          subst hge
          refine lv_aload_n hx hb dX2_wears_86 rfl (lv_at hl 7 rfl) ?_
          refine m_get (v := .ref (q 5)) hx hb hts hown hK hP 5 (by decide) rfl q989 rfl dX2_wears_87 ?_
          refine lv_iload_n hx hb dX2_wears_90 rfl (lv_at hl 6 rfl) ?_
          refine lv_iload hx hb dX2_wears_91 (lv_at hl 2 rfl) ?_
          refine m_ist (x := ((a 5) K)) hx hb hK hP hD hS (mWa5 _ _ _ _ _ _) (mWs5 _ _ _ _ _ _) (upd (a 5) K v) rfl K rfl (by omega) (by decide) dX2_wears_93 (fun H locs hP hD hS => ?_)
          have eW_4 : ∀ (zg0 : Int32) (zg17 : Int32) (zg18 : Int32) (za5 : Nat → Int32) (za12 : Nat → Int32) (za13 : Nat → Int32) (za14 : Nat → Int32) (za15 : Nat → Int32) (za16 : Nat → Int32) (zn : Nat → Int32), mW ct o q (upd (upd (upd g 0 zg0) 17 zg17) 18 zg18) (va_up (va_up (va_up (va_up (va_up (va_up (va_up a 5 za5) 12 za12) 13 za13) 14 za14) 15 za15) 16 za16) 5 zn) ++ ex = mW ct o q (upd (upd (upd g 0 zg0) 17 zg17) 18 zg18) (va_up (va_up (va_up (va_up (va_up (va_up a 5 zn) 12 za12) 13 za13) 14 za14) 15 za15) 16 za16) ++ ex := fun _ _ _ _ _ _ _ _ _ _ => rfl
          have hP : va_P (dC, dI) clA (mW ct o q (upd (upd (upd g 0 0) 17 T.2.1) 18 T.2.2) (va_up (va_up (va_up (va_up (va_up (va_up a 5 (upd (upd (a 5) K v) K ((a 5) K))) 12 ((T.1).1)) 13 ((T.1).2.1)) 14 ((T.1).2.2.1)) 15 ((T.1).2.2.2.1)) 16 ((T.1).2.2.2.2)) ++ ex) H := Eq.mp (congrArg (fun w => va_P (dC, dI) clA w H) (eW_4 0 T.2.1 T.2.2 (upd (a 5) K v) ((T.1).1) ((T.1).2.1) ((T.1).2.2.1) ((T.1).2.2.2.1) ((T.1).2.2.2.2) (upd (upd (a 5) K v) K ((a 5) K)))) hP
          have hD : va_D A (mW ct o q (upd (upd (upd g 0 0) 17 T.2.1) 18 T.2.2) (va_up (va_up (va_up (va_up (va_up (va_up a 5 (upd (upd (a 5) K v) K ((a 5) K))) 12 ((T.1).1)) 13 ((T.1).2.1)) 14 ((T.1).2.2.1)) 15 ((T.1).2.2.2.1)) 16 ((T.1).2.2.2.2)) ++ ex) := Eq.mp (congrArg (fun w => va_D A w) (eW_4 0 T.2.1 T.2.2 (upd (a 5) K v) ((T.1).1) ((T.1).2.1) ((T.1).2.2.1) ((T.1).2.2.2.1) ((T.1).2.2.2.2) (upd (upd (a 5) K v) K ((a 5) K)))) hD
          have e_5 : (upd (upd (a 5) K v) K ((a 5) K)) = (a 5) := (by rw [upd_uu]; exact upd_id _ _)
          rw [e_5] at hP hD
          have hP : va_P (dC, dI) clA (mW ct o q (upd (upd (upd g 0 0) 17 T.2.1) 18 T.2.2) (va_up (va_up (va_up (va_up (va_up a 12 ((T.1).1)) 13 ((T.1).2.1)) 14 ((T.1).2.2.1)) 15 ((T.1).2.2.2.1)) 16 ((T.1).2.2.2.2)) ++ ex) H := hP
          have hD : va_D A (mW ct o q (upd (upd (upd g 0 0) 17 T.2.1) 18 T.2.2) (va_up (va_up (va_up (va_up (va_up a 12 ((T.1).1)) 13 ((T.1).2.1)) 14 ((T.1).2.2.1)) 15 ((T.1).2.2.2.1)) 16 ((T.1).2.2.2.2)) ++ ex) := hD
          refine lv_iload hx hb dX2_wears_94 (lv_at hl 1 rfl) ?_
          exact W.iret (v := (mset (wearF n a (nI K) (nI Y) ii (nI Z) rn) 10)) hx hb hr (fun t ht hW => ⟨⟨(mset (wearF n a (nI K) (nI Y) ii (nI Z) rn) 10), ((upd (upd (upd g 0 0) 17 T.2.1) 18 T.2.2), (va_up (va_up (va_up (va_up (va_up a 12 ((T.1).1)) 13 ((T.1).2.1)) 14 ((T.1).2.2.1)) 15 ((T.1).2.2.2.1)) 16 ((T.1).2.2.2.2))), rfl, ⟨(by rw [M_wears, if_pos c0]), ⟨T, by rw [sv]⟩⟩, by rw [ht]; exact hP, va_K.moved hW.alike hK, hD⟩, hS.F ht⟩) hS.2.2 dX2_wears_96
        · skip
          have hlt : i < 10 := Nat.lt_of_not_le (fun z => c_3 ((nI_leI (a := 10) (by omega) (by omega)).mpr z))
          refine lv_aload_n hx hb dX2_wears_43 rfl (lv_at hl 7 rfl) ?_
          refine m_get (v := .ref (q 5)) hx hb hts hown hK hP 5 (by decide) rfl q989 rfl dX2_wears_44 ?_
          refine lv_iload_n hx hb dX2_wears_47 rfl (lv_at hl 6 rfl) ?_
          refine lv_iload hx hb dX2_wears_48 (lv_at hl 0 rfl) ?_
          refine m_ist (x := (nI i)) hx hb hK hP hD hS (mWa5 _ _ _ _ _ _) (mWs5 _ _ _ _ _ _) (upd (a 5) K v) rfl K rfl (by omega) (by decide) dX2_wears_50 (fun H locs hP hD hS => ?_)
          have eW_6 : ∀ (zg0 : Int32) (zg17 : Int32) (zg18 : Int32) (za5 : Nat → Int32) (za12 : Nat → Int32) (za13 : Nat → Int32) (za14 : Nat → Int32) (za15 : Nat → Int32) (za16 : Nat → Int32) (zn : Nat → Int32), mW ct o q (upd (upd (upd g 0 zg0) 17 zg17) 18 zg18) (va_up (va_up (va_up (va_up (va_up (va_up (va_up a 5 za5) 12 za12) 13 za13) 14 za14) 15 za15) 16 za16) 5 zn) ++ ex = mW ct o q (upd (upd (upd g 0 zg0) 17 zg17) 18 zg18) (va_up (va_up (va_up (va_up (va_up (va_up a 5 zn) 12 za12) 13 za13) 14 za14) 15 za15) 16 za16) ++ ex := fun _ _ _ _ _ _ _ _ _ _ => rfl
          have hP : va_P (dC, dI) clA (mW ct o q (upd (upd (upd g 0 0) 17 T.2.1) 18 T.2.2) (va_up (va_up (va_up (va_up (va_up (va_up a 5 (upd (upd (a 5) K v) K (nI i))) 12 ((T.1).1)) 13 ((T.1).2.1)) 14 ((T.1).2.2.1)) 15 ((T.1).2.2.2.1)) 16 ((T.1).2.2.2.2)) ++ ex) H := Eq.mp (congrArg (fun w => va_P (dC, dI) clA w H) (eW_6 0 T.2.1 T.2.2 (upd (a 5) K v) ((T.1).1) ((T.1).2.1) ((T.1).2.2.1) ((T.1).2.2.2.1) ((T.1).2.2.2.2) (upd (upd (a 5) K v) K (nI i)))) hP
          have hD : va_D A (mW ct o q (upd (upd (upd g 0 0) 17 T.2.1) 18 T.2.2) (va_up (va_up (va_up (va_up (va_up (va_up a 5 (upd (upd (a 5) K v) K (nI i))) 12 ((T.1).1)) 13 ((T.1).2.1)) 14 ((T.1).2.2.1)) 15 ((T.1).2.2.2.1)) 16 ((T.1).2.2.2.2)) ++ ex) := Eq.mp (congrArg (fun w => va_D A w) (eW_6 0 T.2.1 T.2.2 (upd (a 5) K v) ((T.1).1) ((T.1).2.1) ((T.1).2.2.1) ((T.1).2.2.2.1) ((T.1).2.2.2.2) (upd (upd (a 5) K v) K (nI i)))) hD
          have e_7 : (upd (upd (a 5) K v) K (nI i)) = (upd (a 5) K (nI i)) := upd_uu _ _ _ _
          rw [e_7] at hP hD
          refine lv_iload hx hb dX2_wears_51 (lv_at hl 1 rfl) ?_
          refine lv_aload_n hx hb dX2_wears_53 rfl (lv_at hl 7 rfl) ?_
          refine lv_bipush (v := 60) hx hb dX2_wears_54 (by decide) ?_
          refine lv_iload_n hx hb dX2_wears_56 rfl (lv_at hl 5 rfl) ?_
          refine lv_imul hx hb dX2_wears_57 ?_
          refine lv_iload hx hb dX2_wears_58 (lv_at hl 4 rfl) ?_
          refine lv_iadd hx hb dX2_wears_60 ?_
          refine lv_iload hx hb dX2_wears_61 (lv_at hl 3 rfl) ?_
          refine va_calli (va_runV (As := [.int ((60 * (nI Y)) + ii), .int (nI Z)]) (rest := [.int (mset (wearF n a (nI K) (nI Y) ii (nI Z) rn) i)]) ⟨hx, hb, hml, hown, hts⟩ (metX2_areSo l dC dI ct A ex o q (upd (upd (upd g 0 0) 17 T.2.1) 18 T.2.2) (va_up (va_up (va_up (va_up (va_up (va_up a 5 (upd (a 5) K (nI i))) 12 ((T.1).1)) 13 ((T.1).2.1)) 14 ((T.1).2.2.1)) 15 ((T.1).2.2.2.1)) 16 ((T.1).2.2.2.2)) ((60 * (nI Y)) + ii) (nI Z) n (60 * Y + cix ii) Z rn hn6 hn (by rw [← ix_60, ← ei]) rfl (by omega) hF hpr hr8 hrn hrw) (cwV 2 hts (lw_V q1235 q1237 qs64 q74 q1238) rfl rfl rfl (by decide +kernel) ⟨Nat.le_of_ble_eq_true rfl, Nat.le_of_ble_eq_true rfl⟩) (mPV hK hP hD _) rfl rfl hl.1 rfl (lv_room (Nat.le_of_ble_eq_true rfl)) dX2_wears_63 ⟨Nat.zero_le _, Nat.zero_le _⟩) hS (fun q _ h => h) (fun q h => h) (fun r u t H1 locs ht hvm hw hB hz1 hk1 hS => ?_)
          obtain ⟨hw, T_8, hw2⟩ := hw
          have hw : r = (b2i (soV (cgo n (a 3) (a 4) (fun c => lastsV ((a 2) c) ((upd (a 5) K (nI i)) c)) (fun t => cix ((a 27) ((60 * Y + cix ii) + t))) Z) (a 22) (a 23) (a 24) rn)) := hw
          subst hw
          subst hw2
          obtain ⟨hP, -, hD⟩ := hB
          rw [ht] at hP
          generalize H1 = H at hP hS ⊢
          have hP : va_P (dC, dI) clA (mW ct o q (upd (upd (upd g 0 0) 17 T_8.2.1) 18 T_8.2.2) (va_up (va_up (va_up (va_up (va_up (va_up a 5 (upd (a 5) K (nI i))) 12 ((T_8.1).1)) 13 ((T_8.1).2.1)) 14 ((T_8.1).2.2.1)) 15 ((T_8.1).2.2.2.1)) 16 ((T_8.1).2.2.2.2)) ++ ex) H := hP
          have hD : va_D A (mW ct o q (upd (upd (upd g 0 0) 17 T_8.2.1) 18 T_8.2.2) (va_up (va_up (va_up (va_up (va_up (va_up a 5 (upd (a 5) K (nI i))) 12 ((T_8.1).1)) 13 ((T_8.1).2.1)) 14 ((T_8.1).2.2.1)) 15 ((T_8.1).2.2.2.1)) 16 ((T_8.1).2.2.2.2)) ++ ex) := hD
          refine bz_eq (tgt := 76) hx hb dX2_wears_66 (by decide) (fun c_9 => ?_) (fun c_9 => ?_)
          · skip
            have hso : (wearF n a (nI K) (nI Y) ii (nI Z) rn) i = false := by simp only [wearF, eK, eY, eZ, decide_eq_true hi1, Bool.true_and]; exact c_9
            refine lv_iconst (v := 0) hx hb dX2_wears_76 (by decide) ?_
            refine lv_ior hx hb dX2_wears_77 ?_
            refine lv_topi (fun z_10 ez_10 => ?_)
            have ez_10 : z_10 = (mset (wearF n a (nI K) (nI Y) ii (nI Z) rn) (i + 1)) := ez_10.trans (mset_f hso)
            subst ez_10
            refine lv_istore (lv' := [(8, .int (mset (wearF n a (nI K) (nI Y) ii (nI Z) rn) (i + 1))), (9, .int (nI i)), (7, .int ((a 5) K)), (5, .int (nI Z)), (4, .int ii), (2, .int (nI Y)), (1, .int (nI K)), (0, .ref o)]) hx hb dX2_wears_78 hl (by decide) rfl (fun ls hl => ?_)
            refine lv_iinc (v := (nI (i + 1))) (lv' := [(9, .int (nI (i + 1))), (8, .int (mset (wearF n a (nI K) (nI Y) ii (nI Z) rn) (i + 1))), (7, .int ((a 5) K)), (5, .int (nI Z)), (4, .int ii), (2, .int (nI Y)), (1, .int (nI K)), (0, .ref o)]) hx hb dX2_wears_80 hl (k := 1) rfl (nI_1 i) (by decide) rfl (fun ls hl => ?_)
            refine lv_goto (tgt := 36) hx hb dX2_wears_83 (by decide) ?_
            exact ih1 (i + 1) (nI i) T_8 (by omega) (by omega) (by omega) _ _ hP hD hS _ (lv_sub hl [0, 1, 2, 3, 4, 5, 6, 7] rfl)
          · skip
            have hso : (wearF n a (nI K) (nI Y) ii (nI Z) rn) i = true := by simp only [wearF, eK, eY, eZ, decide_eq_true hi1, Bool.true_and]; exact c_9
            refine lv_iconst (v := 1) hx hb dX2_wears_69 (by decide) ?_
            refine lv_iload hx hb dX2_wears_70 (lv_at hl 0 rfl) ?_
            refine lv_ishl hx hb dX2_wears_72 ?_
            refine lv_goto (tgt := 77) hx hb dX2_wears_73 (by decide) ?_
            refine lv_ior hx hb dX2_wears_77 ?_
            refine lv_topi (fun z_11 ez_11 => ?_)
            have ez_11 : z_11 = (mset (wearF n a (nI K) (nI Y) ii (nI Z) rn) (i + 1)) := ez_11.trans (mset_t hso)
            subst ez_11
            refine lv_istore (lv' := [(8, .int (mset (wearF n a (nI K) (nI Y) ii (nI Z) rn) (i + 1))), (9, .int (nI i)), (7, .int ((a 5) K)), (5, .int (nI Z)), (4, .int ii), (2, .int (nI Y)), (1, .int (nI K)), (0, .ref o)]) hx hb dX2_wears_78 hl (by decide) rfl (fun ls hl => ?_)
            refine lv_iinc (v := (nI (i + 1))) (lv' := [(9, .int (nI (i + 1))), (8, .int (mset (wearF n a (nI K) (nI Y) ii (nI Z) rn) (i + 1))), (7, .int ((a 5) K)), (5, .int (nI Z)), (4, .int ii), (2, .int (nI Y)), (1, .int (nI K)), (0, .ref o)]) hx hb dX2_wears_80 hl (k := 1) rfl (nI_1 i) (by decide) rfl (fun ls hl => ?_)
            refine lv_goto (tgt := 36) hx hb dX2_wears_83 (by decide) ?_
            exact ih1 (i + 1) (nI i) T_8 (by omega) (by omega) (by omega) _ _ hP hD hS _ (lv_sub hl [0, 1, 2, 3, 4, 5, 6, 7] rfl)
    exact loop1 11 1 (a 5 K) ((a 12, a 13, a 14, a 15, a 16), g 17, g 18) (by omega) (by omega) (by omega) _ _ (by rw [upd_id]; exact hP) (by rw [upd_id]; exact hD) hS _ (lv_sub hl [0, 1, 2, 9, 8, 6, 5, 4] rfl)
  · skip
    refine lv_iload hx hb dX2_wears_19 (lv_at hl 0 rfl) ?_
    exact W.iret (v := ((seenV n a x y lane ii z true).1)) hx hb hr (fun t ht hW => ⟨⟨((seenV n a x y lane ii z true).1), ((upd g 0 ((seenV n a x y lane ii z true).2)), a), rfl, ⟨(by rw [M_wears, if_neg c_1]), ⟨((a 12, a 13, a 14, a 15, a 16), g 17, g 18), tr_id g a _⟩⟩, by rw [ht]; exact hP, va_K.moved hW.alike hK, hD⟩, hS.F ht⟩) hS.2.2 dX2_wears_21
set_option maxHeartbeats 4000000 in
set_option maxRecDepth 100000 in
theorem metX2_odds (l : Launch) (dC : Nat → ClassId) (dI : Nat → Nat → Nat) (ct : Nat → ClassId) (A : Nat → Prop) (ex : va_W) (o : Nat) (q : Nat → Nat) (g : Nat → Int32) (a : Nat → Nat → Int32) (x : Int32) (y : Int32) (lane : Int32) (ii : Int32) (z : Int32) (w : Int32) (n : Nat) (hn6 : n ≤ 6) (hn : g 1 = nI n) (hz : szOk (a 25)) : Met l yX2_odds (ws_ yX2_odds cX2_odds 9 (some .long)) ({ frames := 4, cells := 0, slots := 0, locals := 100 }) (mPre dC dI ct A ex o q g a [.ref o, .int x, .int y, .int lane, .int ii, .int z, .int w]) (va_Ql (fun (r : Int64) (u : (Nat → Int32) × (Nat → Nat → Int32)) => r = (M_odds n a x y lane ii z w) ∧ ∃ (T : LnS (Nat → Int32) × Int32 × Int32), u = ((upd (upd (upd g 0 ((seenV n a x y lane ii z (inP w 2)).2)) 17 T.2.1) 18 T.2.2), (va_up (va_up (va_up (va_up (va_up a 12 ((T.1).1)) 13 ((T.1).2.1)) 14 ((T.1).2.2.1)) 15 ((T.1).2.2.2.1)) 16 ((T.1).2.2.2.2)))) (mB dC dI ct A ex o q) A) 0 0 A := by
  refine Met.ofW (cc := cX2_odds) (maxL := 9) (ret := (some .long)) (by decide) rfl ?_
  intro p e s m args below meth c s₁ B hml hv
  obtain ⟨rfl, hP, hK, hD⟩ := hv
  have hx := B.exec
  have hb := B.bytes
  have hr := B.returns
  have hts := atoms_spec (ws := ws_ yX2_odds cX2_odds 9 (some .long)) B.pre
  have hts : ∀ w ∈ lw_all, w.before _ s = true := fun w h => hts w (List.mem_cons_of_mem _ h)
  have hown : s.vm.findClass RX2 = some m.cls := findClass_of_methodNamed B.named
  have hlocks := B.notSynchronized
  have hS : va_S A s.heap s.heap [] := va_S.rf
  have hl := lv_entry ([.ref o, .int x, .int y, .int lane, .int ii, .int z, .int w]) (n := 9) (Nat.le_of_ble_eq_true rfl)
  rw [lg_entry_eq]
  generalize (lg_sl ([.ref o, .int x, .int y, .int lane, .int ii, .int z, .int w]) ++ List.replicate (9 - (lg_sl ([.ref o, .int x, .int y, .int lane, .int ii, .int z, .int w])).length) Slot.unset).toArray = ls at hl ⊢
  have hl : lv_has ls 9 [(0, .ref o), (1, .int x), (2, .int y), (3, .int lane), (4, .int ii), (5, .int z), (6, .int w)] := hl
  refine lv_aload_n hx hb dX2_odds_0 rfl (lv_at hl 0 rfl) ?_
  refine lv_iload_n hx hb dX2_odds_1 rfl (lv_at hl 1 rfl) ?_
  refine lv_iload_n hx hb dX2_odds_2 rfl (lv_at hl 2 rfl) ?_
  refine lv_iload_n hx hb dX2_odds_3 rfl (lv_at hl 3 rfl) ?_
  refine lv_iload hx hb dX2_odds_4 (lv_at hl 4 rfl) ?_
  refine lv_iload hx hb dX2_odds_6 (lv_at hl 5 rfl) ?_
  refine lv_iload hx hb dX2_odds_8 (lv_at hl 6 rfl) ?_
  refine lv_i2l (v := (Int32.toInt64 w)) hx hb dX2_odds_10 rfl ?_
  refine lv_lconst (v := 0) hx hb dX2_odds_11 (by decide) ?_
  refine lv_lconst (v := 1) hx hb dX2_odds_12 (by decide) ?_
  refine vp_callSi ((va_runS (As := [.long (Int32.toInt64 w), .long 0, .long 1]) (rest := [.int z, .int ii, .int lane, .int y, .int x, .ref o]) ⟨hx, hb, hml, hown, hts⟩ (metX2_in l (Int32.toInt64 w) 0 1 ) (va_cwS 3 hts (lw_S q1083 q1084 q74 q1085) rfl rfl rfl (by decide +kernel) ⟨Nat.le_of_ble_eq_true rfl, Nat.le_of_ble_eq_true rfl⟩) (pcS _) rfl rfl hl.1 rfl (lv_room (Nat.le_of_ble_eq_true rfl)) dX2_odds_13 ⟨Nat.zero_le _, Nat.zero_le _⟩)).run (fun r hw => ?_)
  have hw : r = (b2i (lin (Int32.toInt64 w) 0 1)) := hw
  subst hw
  refine lv_topi (fun z_1 ez_1 => ?_)
  have ez_1 : z_1 = (b2i (inP w 2)) := ez_1.trans (congrArg b2i (lin_01 w))
  subst ez_1
  refine va_calli (va_runV (As := [.int x, .int y, .int lane, .int ii, .int z, .int (b2i (inP w 2))]) (rest := []) ⟨hx, hb, hml, hown, hts⟩ (metX2_seenBarred l dC dI ct A ex o q g a x y lane ii z (inP w 2) n hn6 hn hz) (cwV 6 hts (lw_V q1231 q1233 qs63 q74 q1234) rfl rfl rfl (by decide +kernel) ⟨Nat.le_of_ble_eq_true rfl, Nat.le_of_ble_eq_true rfl⟩) (mPV hK hP hD _) rfl rfl hl.1 rfl (lv_room (Nat.le_of_ble_eq_true rfl)) dX2_odds_16 ⟨Nat.zero_le _, Nat.zero_le _⟩) hS (fun q _ h => h) (fun q h => h) (fun r u t H1 locs ht hvm hw hB hz1 hk1 hS => ?_)
  obtain ⟨hw, hw2⟩ := hw
  have hw : r = (seenV n a x y lane ii z (inP w 2)).1 := hw
  subst hw
  subst hw2
  obtain ⟨hP, -, hD⟩ := hB
  rw [ht] at hP
  generalize H1 = H at hP hS ⊢
  have hP : va_P (dC, dI) clA (mW ct o q (upd g 0 ((seenV n a x y lane ii z (inP w 2)).2)) a ++ ex) H := hP
  have hD : va_D A (mW ct o q (upd g 0 ((seenV n a x y lane ii z (inP w 2)).2)) a ++ ex) := hD
  refine lv_if_ge (tgt := 26) hx hb dX2_odds_19 (by decide) (fun c_2 => ?_) (fun c_2 => ?_)
  · skip
    have hP0 := hP
    have hD0 := hD
    obtain ⟨s0, s1, s2, s3, s4, s5, s6, s7⟩ := seenV_0 c_2
    have sv := s0
    obtain ⟨K, hKn, ekK⟩ := inP_of (by omega) s1
    subst ekK
    have eK : cix (nI K) = K := cix_nI (by omega)
    obtain ⟨Y, hY4, ekY⟩ := inP_of (by omega) s2
    subst ekY
    have eY : cix (nI Y) = Y := cix_nI (by omega)
    obtain ⟨Z, hZ, ekZ⟩ := inP_of (by omega) s4
    subst ekZ
    have eZ : cix (nI Z) = Z := cix_nI (by omega)
    rw [eY, eZ] at s6 s7
    obtain ⟨ei, hF, hpr⟩ := pairs_at (by omega) (by omega) (hz Y hY4) s6 s7 hY4
    rw [sv] at hP0 hD0
    have hP : va_P (dC, dI) clA (mW ct o q (upd g 0 0) a ++ ex) H := hP0
    have hD : va_D A (mW ct o q (upd g 0 0) a ++ ex) := hD0
    have c0 : 0 ≤ (seenV n a (nI K) (nI Y) lane ii (nI Z) (inP w 2)).1 := by rw [sv]; decide
    refine lv_aload_n hx hb dX2_odds_26 rfl (lv_at hl 0 rfl) ?_
    refine lv_bipush (v := 60) hx hb dX2_odds_27 (by decide) ?_
    refine lv_iload_n hx hb dX2_odds_29 rfl (lv_at hl 2 rfl) ?_
    refine lv_imul hx hb dX2_odds_30 ?_
    refine lv_iload hx hb dX2_odds_31 (lv_at hl 4 rfl) ?_
    refine lv_iadd hx hb dX2_odds_33 ?_
    refine lv_iload hx hb dX2_odds_34 (lv_at hl 5 rfl) ?_
    refine va_callv (va_runV (As := [.int ((60 * (nI Y)) + ii), .int (nI Z)]) (rest := []) ⟨hx, hb, hml, hown, hts⟩ (metX2_goLoans l dC dI ct A ex o q (upd g 0 0) a ((60 * (nI Y)) + ii) (nI Z) n (60 * Y + cix ii) Z hn6 hn (by rw [← ix_60, ← ei]) rfl (by omega) hF hpr) (cwV 2 hts (lw_V q1154 q1156 qs51 q74 q1157) rfl rfl rfl (by decide +kernel) ⟨Nat.le_of_ble_eq_true rfl, Nat.le_of_ble_eq_true rfl⟩) (mPV hK hP hD _) rfl rfl hl.1 rfl (lv_room (Nat.le_of_ble_eq_true rfl)) dX2_odds_36 ⟨Nat.zero_le _, Nat.zero_le _⟩) hS (fun q _ h => h) (fun q h => h) (fun u t H1 locs ht hvm hw hB hz1 hk1 hS => ?_)
    subst hw
    obtain ⟨hP, -, hD⟩ := hB
    rw [ht] at hP
    generalize H1 = H at hP hS ⊢
    have hP : va_P (dC, dI) clA (mW ct o q (upd (upd (upd g 0 0) 17 ((lgo (fuM (a 4)) (fun c => lastsV ((a 2) c) ((a 5) c)) (a 4) n (fun t => cix ((a 27) ((60 * Y + cix ii) + t))) (mbeg n (a 3) (a 4) ((a 12), (a 13), (a 14), (a 15), (a 16))) Z).2.1)) 18 ((lgo (fuM (a 4)) (fun c => lastsV ((a 2) c) ((a 5) c)) (a 4) n (fun t => cix ((a 27) ((60 * Y + cix ii) + t))) (mbeg n (a 3) (a 4) ((a 12), (a 13), (a 14), (a 15), (a 16))) Z).2.2)) (va_up (va_up (va_up (va_up (va_up a 12 (((lgo (fuM (a 4)) (fun c => lastsV ((a 2) c) ((a 5) c)) (a 4) n (fun t => cix ((a 27) ((60 * Y + cix ii) + t))) (mbeg n (a 3) (a 4) ((a 12), (a 13), (a 14), (a 15), (a 16))) Z).1).1)) 13 (((lgo (fuM (a 4)) (fun c => lastsV ((a 2) c) ((a 5) c)) (a 4) n (fun t => cix ((a 27) ((60 * Y + cix ii) + t))) (mbeg n (a 3) (a 4) ((a 12), (a 13), (a 14), (a 15), (a 16))) Z).1).2.1)) 14 (((lgo (fuM (a 4)) (fun c => lastsV ((a 2) c) ((a 5) c)) (a 4) n (fun t => cix ((a 27) ((60 * Y + cix ii) + t))) (mbeg n (a 3) (a 4) ((a 12), (a 13), (a 14), (a 15), (a 16))) Z).1).2.2.1)) 15 (((lgo (fuM (a 4)) (fun c => lastsV ((a 2) c) ((a 5) c)) (a 4) n (fun t => cix ((a 27) ((60 * Y + cix ii) + t))) (mbeg n (a 3) (a 4) ((a 12), (a 13), (a 14), (a 15), (a 16))) Z).1).2.2.2.1)) 16 (((lgo (fuM (a 4)) (fun c => lastsV ((a 2) c) ((a 5) c)) (a 4) n (fun t => cix ((a 27) ((60 * Y + cix ii) + t))) (mbeg n (a 3) (a 4) ((a 12), (a 13), (a 14), (a 15), (a 16))) Z).1).2.2.2.2)) ++ ex) H := hP
    have hD : va_D A (mW ct o q (upd (upd (upd g 0 0) 17 ((lgo (fuM (a 4)) (fun c => lastsV ((a 2) c) ((a 5) c)) (a 4) n (fun t => cix ((a 27) ((60 * Y + cix ii) + t))) (mbeg n (a 3) (a 4) ((a 12), (a 13), (a 14), (a 15), (a 16))) Z).2.1)) 18 ((lgo (fuM (a 4)) (fun c => lastsV ((a 2) c) ((a 5) c)) (a 4) n (fun t => cix ((a 27) ((60 * Y + cix ii) + t))) (mbeg n (a 3) (a 4) ((a 12), (a 13), (a 14), (a 15), (a 16))) Z).2.2)) (va_up (va_up (va_up (va_up (va_up a 12 (((lgo (fuM (a 4)) (fun c => lastsV ((a 2) c) ((a 5) c)) (a 4) n (fun t => cix ((a 27) ((60 * Y + cix ii) + t))) (mbeg n (a 3) (a 4) ((a 12), (a 13), (a 14), (a 15), (a 16))) Z).1).1)) 13 (((lgo (fuM (a 4)) (fun c => lastsV ((a 2) c) ((a 5) c)) (a 4) n (fun t => cix ((a 27) ((60 * Y + cix ii) + t))) (mbeg n (a 3) (a 4) ((a 12), (a 13), (a 14), (a 15), (a 16))) Z).1).2.1)) 14 (((lgo (fuM (a 4)) (fun c => lastsV ((a 2) c) ((a 5) c)) (a 4) n (fun t => cix ((a 27) ((60 * Y + cix ii) + t))) (mbeg n (a 3) (a 4) ((a 12), (a 13), (a 14), (a 15), (a 16))) Z).1).2.2.1)) 15 (((lgo (fuM (a 4)) (fun c => lastsV ((a 2) c) ((a 5) c)) (a 4) n (fun t => cix ((a 27) ((60 * Y + cix ii) + t))) (mbeg n (a 3) (a 4) ((a 12), (a 13), (a 14), (a 15), (a 16))) Z).1).2.2.2.1)) 16 (((lgo (fuM (a 4)) (fun c => lastsV ((a 2) c) ((a 5) c)) (a 4) n (fun t => cix ((a 27) ((60 * Y + cix ii) + t))) (mbeg n (a 3) (a 4) ((a 12), (a 13), (a 14), (a 15), (a 16))) Z).1).2.2.2.2)) ++ ex) := hD
    obtain ⟨-, q1, q2⟩ := cgo_of (n := n) (sc := a 3) (wa := a 4) (la := (fun c => lastsV (a 2 c) (a 5 c))) (sc' := a 3) (wa' := a 4) (la' := (fun c => lastsV (a 2 c) (a 5 c))) (by omega) (fun _ _ => rfl) (fun _ _ => rfl) (fun _ _ => rfl) (a 12, a 13, a 14, a 15, a 16) (pr := (fun t => cix (a 27 (60 * Y + cix ii + t)))) (pr' := (fun t => cix (a 27 (60 * Y + cix ii + t)))) (N := Z) (fun t ht => (hpr t ht).2) (fun _ _ => rfl)
    refine lv_aload_n hx hb dX2_odds_39 rfl (lv_at hl 0 rfl) ?_
    refine m_get (v := .int ((lgo (fuM (a 4)) (fun c => lastsV ((a 2) c) ((a 5) c)) (a 4) n (fun t => cix ((a 27) ((60 * Y + cix ii) + t))) (mbeg n (a 3) (a 4) ((a 12), (a 13), (a 14), (a 15), (a 16))) Z).2.1)) hx hb hts hown hK hP 17 (by decide) rfl q1001 rfl dX2_odds_40 ?_
    refine lv_if_lt (tgt := 50) hx hb dX2_odds_43 (by decide) (fun c_3 => ?_) (fun c_3 => ?_)
    · skip
      refine lv_aload_n hx hb dX2_odds_50 rfl (lv_at hl 0 rfl) ?_
      refine m_get (v := .ref (q 4)) hx hb hts hown hK hP 4 (by decide) rfl q988 rfl dX2_odds_51 ?_
      refine lv_iload_n hx hb dX2_odds_54 rfl (lv_at hl 1 rfl) ?_
      refine m_ild hx hb hK hP (mWa4 _ _ _ _ _ _) (a 4) rfl K rfl (by omega) (by decide) dX2_odds_55 ?_
      refine lv_bipush (v := 6) hx hb dX2_odds_56 (by decide) ?_
      refine lv_icmp_ne (tgt := 63) hx hb dX2_odds_58 (by decide) (fun c_4 => ?_) (fun c_4 => ?_)
      · skip
        refine lv_iconst (v := 0) hx hb dX2_odds_63 (by decide) ?_
        refine lv_istore (lv' := [(7, .int 0), (0, .ref o), (1, .int (nI K)), (2, .int (nI Y)), (3, .int lane), (4, .int ii), (5, .int (nI Z)), (6, .int w)]) hx hb dX2_odds_64 hl (by decide) rfl (fun ls hl => ?_)
        refine lv_iconst (v := 0) hx hb dX2_odds_66 (by decide) ?_
        refine lv_istore (lv' := [(8, .int 0), (7, .int 0), (0, .ref o), (1, .int (nI K)), (2, .int (nI Y)), (3, .int lane), (4, .int ii), (5, .int (nI Z)), (6, .int w)]) hx hb dX2_odds_67 hl (by decide) rfl (fun ls hl => ?_)
        have loop1 : ∀ (f1 : Nat) (i : Nat), i ≤ n → n + 1 ≤ i + f1 → ∀ (H : Heap) (locs : List Loc), va_P (dC, dI) clA (mW ct o q (upd (upd (upd g 0 0) 17 ((lgo (fuM (a 4)) (fun c => lastsV (a 2 c) (a 5 c)) (a 4) n (fun t => cix (a 27 (60 * Y + cix ii + t))) (mbeg n (a 3) (a 4) ((a 12), (a 13), (a 14), (a 15), (a 16))) Z).2.1)) 18 ((lgo (fuM (a 4)) (fun c => lastsV (a 2 c) (a 5 c)) (a 4) n (fun t => cix (a 27 (60 * Y + cix ii + t))) (mbeg n (a 3) (a 4) ((a 12), (a 13), (a 14), (a 15), (a 16))) Z).2.2)) (va_up (va_up (va_up (va_up (va_up a 12 (((lgo (fuM (a 4)) (fun c => lastsV (a 2 c) (a 5 c)) (a 4) n (fun t => cix (a 27 (60 * Y + cix ii + t))) (mbeg n (a 3) (a 4) ((a 12), (a 13), (a 14), (a 15), (a 16))) Z).1).1)) 13 (((lgo (fuM (a 4)) (fun c => lastsV (a 2 c) (a 5 c)) (a 4) n (fun t => cix (a 27 (60 * Y + cix ii + t))) (mbeg n (a 3) (a 4) ((a 12), (a 13), (a 14), (a 15), (a 16))) Z).1).2.1)) 14 (((lgo (fuM (a 4)) (fun c => lastsV (a 2 c) (a 5 c)) (a 4) n (fun t => cix (a 27 (60 * Y + cix ii + t))) (mbeg n (a 3) (a 4) ((a 12), (a 13), (a 14), (a 15), (a 16))) Z).1).2.2.1)) 15 (((lgo (fuM (a 4)) (fun c => lastsV (a 2 c) (a 5 c)) (a 4) n (fun t => cix (a 27 (60 * Y + cix ii + t))) (mbeg n (a 3) (a 4) ((a 12), (a 13), (a 14), (a 15), (a 16))) Z).1).2.2.2.1)) 16 (((lgo (fuM (a 4)) (fun c => lastsV (a 2 c) (a 5 c)) (a 4) n (fun t => cix (a 27 (60 * Y + cix ii + t))) (mbeg n (a 3) (a 4) ((a 12), (a 13), (a 14), (a 15), (a 16))) Z).1).2.2.2.2)) ++ ex) H → va_D A (mW ct o q (upd (upd (upd g 0 0) 17 ((lgo (fuM (a 4)) (fun c => lastsV (a 2 c) (a 5 c)) (a 4) n (fun t => cix (a 27 (60 * Y + cix ii + t))) (mbeg n (a 3) (a 4) ((a 12), (a 13), (a 14), (a 15), (a 16))) Z).2.1)) 18 ((lgo (fuM (a 4)) (fun c => lastsV (a 2 c) (a 5 c)) (a 4) n (fun t => cix (a 27 (60 * Y + cix ii + t))) (mbeg n (a 3) (a 4) ((a 12), (a 13), (a 14), (a 15), (a 16))) Z).2.2)) (va_up (va_up (va_up (va_up (va_up a 12 (((lgo (fuM (a 4)) (fun c => lastsV (a 2 c) (a 5 c)) (a 4) n (fun t => cix (a 27 (60 * Y + cix ii + t))) (mbeg n (a 3) (a 4) ((a 12), (a 13), (a 14), (a 15), (a 16))) Z).1).1)) 13 (((lgo (fuM (a 4)) (fun c => lastsV (a 2 c) (a 5 c)) (a 4) n (fun t => cix (a 27 (60 * Y + cix ii + t))) (mbeg n (a 3) (a 4) ((a 12), (a 13), (a 14), (a 15), (a 16))) Z).1).2.1)) 14 (((lgo (fuM (a 4)) (fun c => lastsV (a 2 c) (a 5 c)) (a 4) n (fun t => cix (a 27 (60 * Y + cix ii + t))) (mbeg n (a 3) (a 4) ((a 12), (a 13), (a 14), (a 15), (a 16))) Z).1).2.2.1)) 15 (((lgo (fuM (a 4)) (fun c => lastsV (a 2 c) (a 5 c)) (a 4) n (fun t => cix (a 27 (60 * Y + cix ii + t))) (mbeg n (a 3) (a 4) ((a 12), (a 13), (a 14), (a 15), (a 16))) Z).1).2.2.2.1)) 16 (((lgo (fuM (a 4)) (fun c => lastsV (a 2 c) (a 5 c)) (a 4) n (fun t => cix (a 27 (60 * Y + cix ii + t))) (mbeg n (a 3) (a 4) ((a 12), (a 13), (a 14), (a 15), (a 16))) Z).1).2.2.2.2)) ++ ex) → va_S A s.heap H locs → ∀ (ls : Array Slot), lv_has ls 9 [(8, .int (nI i)), (7, .int (cntB (fun j => bq ((lgo (fuM (a 4)) (fun c => lastsV (a 2 c) (a 5 c)) (a 4) n (fun t => cix (a 27 (60 * Y + cix ii + t))) (mbeg n (a 3) (a 4) ((a 12), (a 13), (a 14), (a 15), (a 16))) Z).1.2.2.2.2 K) (nI j)) i)), (6, .int w), (1, .int (nI K)), (0, .ref o)] → W p l e (headSpec (ws_ yX2_odds cX2_odds 9 (some .long)) ({ frames := 4, cells := 0, slots := 0, locals := 100 })).room s m ([.ref o, .int (nI K), .int (nI Y), .int lane, .int ii, .int (nI Z), .int w] : List Value).toArray below meth c H locs 0 0 (MQ below (va_Ql (fun (r : Int64) (u : (Nat → Int32) × (Nat → Nat → Int32)) => r = (M_odds n a (nI K) (nI Y) lane ii (nI Z) w) ∧ ∃ (T : LnS (Nat → Int32) × Int32 × Int32), u = ((upd (upd (upd g 0 ((seenV n a (nI K) (nI Y) lane ii (nI Z) (inP w 2)).2)) 17 T.2.1) 18 T.2.2), (va_up (va_up (va_up (va_up (va_up a 12 ((T.1).1)) 13 ((T.1).2.1)) 14 ((T.1).2.2.1)) 15 ((T.1).2.2.2.1)) 16 ((T.1).2.2.2.2)))) (mB dC dI ct A ex o q) A) ([.ref o, .int (nI K), .int (nI Y), .int lane, .int ii, .int (nI Z), .int w] : List Value).toArray s 0 0 A) (F0 m 69 ls []) := by
          intro f1
          induction f1 with
          | zero => intro i hi hf; exact False.elim (by omega)
          | succ f1 ih1 =>
            intro i hi hf H locs hP hD hS ls hl
            refine lv_iload hx hb dX2_odds_69 (lv_at hl 0 rfl) ?_
            refine lv_aload_n hx hb dX2_odds_71 rfl (lv_at hl 4 rfl) ?_
            refine m_get (v := .int (g 1)) hx hb hts hown hK hP 1 (by decide) rfl q985 rfl dX2_odds_72 ?_
            refine lv_icmp_ge (tgt := 108) hx hb dX2_odds_75 (by decide) (fun c_5 => ?_) (fun c_5 => ?_)
            · skip
              have hge : i = n := by rw [hn] at c_5; exact Nat.le_antisymm (by omega) ((nI_leI (by omega) (by omega)).mp c_5)
              refine lv_iload hx hb dX2_odds_108 (lv_at hl 2 rfl) ?_
              refine lv_if_ne (tgt := 122) hx hb dX2_odds_110 (by decide) (fun c_6 => ?_) (fun c_6 => ?_)
              · skip
                refine lv_lconst (v := 1) hx hb dX2_odds_122 (by decide) ?_
                refine lv_iload hx hb dX2_odds_123 (lv_at hl 1 rfl) ?_
                refine lv_lshl hx hb dX2_odds_125 rfl ?_
                exact W.lret (v := (1 <<< (((cntB (fun j => bq ((lgo (fuM (a 4)) (fun c => lastsV (a 2 c) (a 5 c)) (a 4) n (fun t => cix (a 27 (60 * Y + cix ii + t))) (mbeg n (a 3) (a 4) ((a 12), (a 13), (a 14), (a 15), (a 16))) Z).1.2.2.2.2 K) (nI j)) i)).toInt64 &&& 63))) hx hb hr (fun t ht hW => ⟨⟨(1 <<< (((cntB (fun j => bq ((lgo (fuM (a 4)) (fun c => lastsV (a 2 c) (a 5 c)) (a 4) n (fun t => cix (a 27 (60 * Y + cix ii + t))) (mbeg n (a 3) (a 4) ((a 12), (a 13), (a 14), (a 15), (a 16))) Z).1.2.2.2.2 K) (nI j)) i)).toInt64 &&& 63)), ((upd (upd (upd g 0 0) 17 ((lgo (fuM (a 4)) (fun c => lastsV (a 2 c) (a 5 c)) (a 4) n (fun t => cix (a 27 (60 * Y + cix ii + t))) (mbeg n (a 3) (a 4) ((a 12), (a 13), (a 14), (a 15), (a 16))) Z).2.1)) 18 ((lgo (fuM (a 4)) (fun c => lastsV (a 2 c) (a 5 c)) (a 4) n (fun t => cix (a 27 (60 * Y + cix ii + t))) (mbeg n (a 3) (a 4) ((a 12), (a 13), (a 14), (a 15), (a 16))) Z).2.2)), (va_up (va_up (va_up (va_up (va_up a 12 (((lgo (fuM (a 4)) (fun c => lastsV (a 2 c) (a 5 c)) (a 4) n (fun t => cix (a 27 (60 * Y + cix ii + t))) (mbeg n (a 3) (a 4) ((a 12), (a 13), (a 14), (a 15), (a 16))) Z).1).1)) 13 (((lgo (fuM (a 4)) (fun c => lastsV (a 2 c) (a 5 c)) (a 4) n (fun t => cix (a 27 (60 * Y + cix ii + t))) (mbeg n (a 3) (a 4) ((a 12), (a 13), (a 14), (a 15), (a 16))) Z).1).2.1)) 14 (((lgo (fuM (a 4)) (fun c => lastsV (a 2 c) (a 5 c)) (a 4) n (fun t => cix (a 27 (60 * Y + cix ii + t))) (mbeg n (a 3) (a 4) ((a 12), (a 13), (a 14), (a 15), (a 16))) Z).1).2.2.1)) 15 (((lgo (fuM (a 4)) (fun c => lastsV (a 2 c) (a 5 c)) (a 4) n (fun t => cix (a 27 (60 * Y + cix ii + t))) (mbeg n (a 3) (a 4) ((a 12), (a 13), (a 14), (a 15), (a 16))) Z).1).2.2.2.1)) 16 (((lgo (fuM (a 4)) (fun c => lastsV (a 2 c) (a 5 c)) (a 4) n (fun t => cix (a 27 (60 * Y + cix ii + t))) (mbeg n (a 3) (a 4) ((a 12), (a 13), (a 14), (a 15), (a 16))) Z).1).2.2.2.2))), rfl, ⟨(by rw [M_odds, if_pos c0, eK, eY, eZ, ← q2, if_pos c_3, if_neg c_4, ← q1 K hKn, oddL, if_neg c_6, hge]), ⟨(lgo (fuM (a 4)) (fun c => lastsV (a 2 c) (a 5 c)) (a 4) n (fun t => cix (a 27 (60 * Y + cix ii + t))) (mbeg n (a 3) (a 4) ((a 12), (a 13), (a 14), (a 15), (a 16))) Z), by rw [sv]⟩⟩, by rw [ht]; exact hP, va_K.moved hW.alike hK, hD⟩, hS.F ht⟩) hS.2.2 dX2_odds_126
              · skip
                refine lv_lconst (v := 1) hx hb dX2_odds_113 (by decide) ?_
                refine lv_iload hx hb dX2_odds_114 (lv_at hl 1 rfl) ?_
                refine lv_lshl hx hb dX2_odds_116 rfl ?_
                refine lv_lconst (v := 1) hx hb dX2_odds_117 (by decide) ?_
                refine lv_lsub hx hb dX2_odds_118 ?_
                refine lv_goto (tgt := 126) hx hb dX2_odds_119 (by decide) ?_
                exact W.lret (v := ((1 <<< (((cntB (fun j => bq ((lgo (fuM (a 4)) (fun c => lastsV (a 2 c) (a 5 c)) (a 4) n (fun t => cix (a 27 (60 * Y + cix ii + t))) (mbeg n (a 3) (a 4) ((a 12), (a 13), (a 14), (a 15), (a 16))) Z).1.2.2.2.2 K) (nI j)) i)).toInt64 &&& 63)) - 1)) hx hb hr (fun t ht hW => ⟨⟨((1 <<< (((cntB (fun j => bq ((lgo (fuM (a 4)) (fun c => lastsV (a 2 c) (a 5 c)) (a 4) n (fun t => cix (a 27 (60 * Y + cix ii + t))) (mbeg n (a 3) (a 4) ((a 12), (a 13), (a 14), (a 15), (a 16))) Z).1.2.2.2.2 K) (nI j)) i)).toInt64 &&& 63)) - 1), ((upd (upd (upd g 0 0) 17 ((lgo (fuM (a 4)) (fun c => lastsV (a 2 c) (a 5 c)) (a 4) n (fun t => cix (a 27 (60 * Y + cix ii + t))) (mbeg n (a 3) (a 4) ((a 12), (a 13), (a 14), (a 15), (a 16))) Z).2.1)) 18 ((lgo (fuM (a 4)) (fun c => lastsV (a 2 c) (a 5 c)) (a 4) n (fun t => cix (a 27 (60 * Y + cix ii + t))) (mbeg n (a 3) (a 4) ((a 12), (a 13), (a 14), (a 15), (a 16))) Z).2.2)), (va_up (va_up (va_up (va_up (va_up a 12 (((lgo (fuM (a 4)) (fun c => lastsV (a 2 c) (a 5 c)) (a 4) n (fun t => cix (a 27 (60 * Y + cix ii + t))) (mbeg n (a 3) (a 4) ((a 12), (a 13), (a 14), (a 15), (a 16))) Z).1).1)) 13 (((lgo (fuM (a 4)) (fun c => lastsV (a 2 c) (a 5 c)) (a 4) n (fun t => cix (a 27 (60 * Y + cix ii + t))) (mbeg n (a 3) (a 4) ((a 12), (a 13), (a 14), (a 15), (a 16))) Z).1).2.1)) 14 (((lgo (fuM (a 4)) (fun c => lastsV (a 2 c) (a 5 c)) (a 4) n (fun t => cix (a 27 (60 * Y + cix ii + t))) (mbeg n (a 3) (a 4) ((a 12), (a 13), (a 14), (a 15), (a 16))) Z).1).2.2.1)) 15 (((lgo (fuM (a 4)) (fun c => lastsV (a 2 c) (a 5 c)) (a 4) n (fun t => cix (a 27 (60 * Y + cix ii + t))) (mbeg n (a 3) (a 4) ((a 12), (a 13), (a 14), (a 15), (a 16))) Z).1).2.2.2.1)) 16 (((lgo (fuM (a 4)) (fun c => lastsV (a 2 c) (a 5 c)) (a 4) n (fun t => cix (a 27 (60 * Y + cix ii + t))) (mbeg n (a 3) (a 4) ((a 12), (a 13), (a 14), (a 15), (a 16))) Z).1).2.2.2.2))), rfl, ⟨(by rw [M_odds, if_pos c0, eK, eY, eZ, ← q2, if_pos c_3, if_neg c_4, ← q1 K hKn, oddL, if_pos c_6, hge]), ⟨(lgo (fuM (a 4)) (fun c => lastsV (a 2 c) (a 5 c)) (a 4) n (fun t => cix (a 27 (60 * Y + cix ii + t))) (mbeg n (a 3) (a 4) ((a 12), (a 13), (a 14), (a 15), (a 16))) Z), by rw [sv]⟩⟩, by rw [ht]; exact hP, va_K.moved hW.alike hK, hD⟩, hS.F ht⟩) hS.2.2 dX2_odds_126
            · skip
              have hlt : i < n := by rw [hn] at c_5; exact Nat.lt_of_not_le (fun z => c_5 ((nI_leI (by omega) (by omega)).mpr z))
              refine lv_iload hx hb dX2_odds_78 (lv_at hl 1 rfl) ?_
              refine lv_aload_n hx hb dX2_odds_80 rfl (lv_at hl 4 rfl) ?_
              refine m_get (v := .ref (q 16)) hx hb hts hown hK hP 16 (by decide) rfl q1000 rfl dX2_odds_81 ?_
              refine lv_iload_n hx hb dX2_odds_84 rfl (lv_at hl 3 rfl) ?_
              refine m_ild hx hb hK hP (mWa16 _ _ _ _ _ _) (((lgo (fuM (a 4)) (fun c => lastsV (a 2 c) (a 5 c)) (a 4) n (fun t => cix (a 27 (60 * Y + cix ii + t))) (mbeg n (a 3) (a 4) ((a 12), (a 13), (a 14), (a 15), (a 16))) Z).1).2.2.2.2) rfl K rfl (by omega) (by decide) dX2_odds_85 ?_
              refine lv_iload hx hb dX2_odds_86 (lv_at hl 0 rfl) ?_
              refine vp_callSi ((va_runS (As := [.int (((lgo (fuM (a 4)) (fun c => lastsV (a 2 c) (a 5 c)) (a 4) n (fun t => cix (a 27 (60 * Y + cix ii + t))) (mbeg n (a 3) (a 4) ((a 12), (a 13), (a 14), (a 15), (a 16))) Z).1).2.2.2.2 K), .int (nI i)]) (rest := [.int (cntB (fun j => bq ((lgo (fuM (a 4)) (fun c => lastsV (a 2 c) (a 5 c)) (a 4) n (fun t => cix (a 27 (60 * Y + cix ii + t))) (mbeg n (a 3) (a 4) ((a 12), (a 13), (a 14), (a 15), (a 16))) Z).1.2.2.2.2 K) (nI j)) i)]) ⟨hx, hb, hml, hown, hts⟩ (metX2_isIn l (((lgo (fuM (a 4)) (fun c => lastsV (a 2 c) (a 5 c)) (a 4) n (fun t => cix (a 27 (60 * Y + cix ii + t))) (mbeg n (a 3) (a 4) ((a 12), (a 13), (a 14), (a 15), (a 16))) Z).1).2.2.2.2 K) (nI i) ) (va_cwS 2 hts (lw_S q1166 q1167 q74 q1168) rfl rfl rfl (by decide +kernel) ⟨Nat.le_of_ble_eq_true rfl, Nat.le_of_ble_eq_true rfl⟩) (pcS _) rfl rfl hl.1 rfl (lv_room (Nat.le_of_ble_eq_true rfl)) dX2_odds_88 ⟨Nat.zero_le _, Nat.zero_le _⟩)).run (fun r hw => ?_)
              have hw : r = (b2i (bq (((lgo (fuM (a 4)) (fun c => lastsV (a 2 c) (a 5 c)) (a 4) n (fun t => cix (a 27 (60 * Y + cix ii + t))) (mbeg n (a 3) (a 4) ((a 12), (a 13), (a 14), (a 15), (a 16))) Z).1).2.2.2.2 K) (nI i))) := hw
              subst hw
              refine bz_eq (tgt := 98) hx hb dX2_odds_91 (by decide) (fun c_7 => ?_) (fun c_7 => ?_)
              · skip
                refine lv_iconst (v := 0) hx hb dX2_odds_98 (by decide) ?_
                refine lv_iadd hx hb dX2_odds_99 ?_
                refine lv_topi (fun z_8 ez_8 => ?_)
                have ez_8 : z_8 = (cntB (fun j => bq ((lgo (fuM (a 4)) (fun c => lastsV (a 2 c) (a 5 c)) (a 4) n (fun t => cix (a 27 (60 * Y + cix ii + t))) (mbeg n (a 3) (a 4) ((a 12), (a 13), (a 14), (a 15), (a 16))) Z).1.2.2.2.2 K) (nI j)) (i + 1)) := ez_8.trans ((Int32.add_zero _).trans (cntB_f (f := fun j => bq ((lgo (fuM (a 4)) (fun c => lastsV (a 2 c) (a 5 c)) (a 4) n (fun t => cix (a 27 (60 * Y + cix ii + t))) (mbeg n (a 3) (a 4) ((a 12), (a 13), (a 14), (a 15), (a 16))) Z).1.2.2.2.2 K) (nI j)) c_7))
                subst ez_8
                refine lv_istore (lv' := [(7, .int (cntB (fun j => bq ((lgo (fuM (a 4)) (fun c => lastsV (a 2 c) (a 5 c)) (a 4) n (fun t => cix (a 27 (60 * Y + cix ii + t))) (mbeg n (a 3) (a 4) ((a 12), (a 13), (a 14), (a 15), (a 16))) Z).1.2.2.2.2 K) (nI j)) (i + 1))), (8, .int (nI i)), (6, .int w), (1, .int (nI K)), (0, .ref o)]) hx hb dX2_odds_100 hl (by decide) rfl (fun ls hl => ?_)
                refine lv_iinc (v := (nI (i + 1))) (lv' := [(8, .int (nI (i + 1))), (7, .int (cntB (fun j => bq ((lgo (fuM (a 4)) (fun c => lastsV (a 2 c) (a 5 c)) (a 4) n (fun t => cix (a 27 (60 * Y + cix ii + t))) (mbeg n (a 3) (a 4) ((a 12), (a 13), (a 14), (a 15), (a 16))) Z).1.2.2.2.2 K) (nI j)) (i + 1))), (6, .int w), (1, .int (nI K)), (0, .ref o)]) hx hb dX2_odds_102 hl (k := 1) rfl (nI_1 i) (by decide) rfl (fun ls hl => ?_)
                refine lv_goto (tgt := 69) hx hb dX2_odds_105 (by decide) ?_
                exact ih1 (i + 1) (by omega) (by omega) _ _ hP hD hS _ (lv_sub hl [0, 1, 2, 3, 4] rfl)
              · skip
                refine lv_iconst (v := 1) hx hb dX2_odds_94 (by decide) ?_
                refine lv_goto (tgt := 99) hx hb dX2_odds_95 (by decide) ?_
                refine lv_iadd hx hb dX2_odds_99 ?_
                refine lv_topi (fun z_9 ez_9 => ?_)
                have ez_9 : z_9 = (cntB (fun j => bq ((lgo (fuM (a 4)) (fun c => lastsV (a 2 c) (a 5 c)) (a 4) n (fun t => cix (a 27 (60 * Y + cix ii + t))) (mbeg n (a 3) (a 4) ((a 12), (a 13), (a 14), (a 15), (a 16))) Z).1.2.2.2.2 K) (nI j)) (i + 1)) := ez_9.trans (cntB_t (f := fun j => bq ((lgo (fuM (a 4)) (fun c => lastsV (a 2 c) (a 5 c)) (a 4) n (fun t => cix (a 27 (60 * Y + cix ii + t))) (mbeg n (a 3) (a 4) ((a 12), (a 13), (a 14), (a 15), (a 16))) Z).1.2.2.2.2 K) (nI j)) c_7)
                subst ez_9
                refine lv_istore (lv' := [(7, .int (cntB (fun j => bq ((lgo (fuM (a 4)) (fun c => lastsV (a 2 c) (a 5 c)) (a 4) n (fun t => cix (a 27 (60 * Y + cix ii + t))) (mbeg n (a 3) (a 4) ((a 12), (a 13), (a 14), (a 15), (a 16))) Z).1.2.2.2.2 K) (nI j)) (i + 1))), (8, .int (nI i)), (6, .int w), (1, .int (nI K)), (0, .ref o)]) hx hb dX2_odds_100 hl (by decide) rfl (fun ls hl => ?_)
                refine lv_iinc (v := (nI (i + 1))) (lv' := [(8, .int (nI (i + 1))), (7, .int (cntB (fun j => bq ((lgo (fuM (a 4)) (fun c => lastsV (a 2 c) (a 5 c)) (a 4) n (fun t => cix (a 27 (60 * Y + cix ii + t))) (mbeg n (a 3) (a 4) ((a 12), (a 13), (a 14), (a 15), (a 16))) Z).1.2.2.2.2 K) (nI j)) (i + 1))), (6, .int w), (1, .int (nI K)), (0, .ref o)]) hx hb dX2_odds_102 hl (k := 1) rfl (nI_1 i) (by decide) rfl (fun ls hl => ?_)
                refine lv_goto (tgt := 69) hx hb dX2_odds_105 (by decide) ?_
                exact ih1 (i + 1) (by omega) (by omega) _ _ hP hD hS _ (lv_sub hl [0, 1, 2, 3, 4] rfl)
        exact loop1 (n + 1) 0 (by omega) (by omega) _ _ hP hD hS _ (lv_sub hl [0, 1, 8, 3, 2] rfl)
      · skip
        refine lv_lconst (v := 1) hx hb dX2_odds_61 (by decide) ?_
        exact W.lret (v := 1) hx hb hr (fun t ht hW => ⟨⟨1, ((upd (upd (upd g 0 0) 17 ((lgo (fuM (a 4)) (fun c => lastsV ((a 2) c) ((a 5) c)) (a 4) n (fun t => cix ((a 27) ((60 * Y + cix ii) + t))) (mbeg n (a 3) (a 4) ((a 12), (a 13), (a 14), (a 15), (a 16))) Z).2.1)) 18 ((lgo (fuM (a 4)) (fun c => lastsV ((a 2) c) ((a 5) c)) (a 4) n (fun t => cix ((a 27) ((60 * Y + cix ii) + t))) (mbeg n (a 3) (a 4) ((a 12), (a 13), (a 14), (a 15), (a 16))) Z).2.2)), (va_up (va_up (va_up (va_up (va_up a 12 (((lgo (fuM (a 4)) (fun c => lastsV ((a 2) c) ((a 5) c)) (a 4) n (fun t => cix ((a 27) ((60 * Y + cix ii) + t))) (mbeg n (a 3) (a 4) ((a 12), (a 13), (a 14), (a 15), (a 16))) Z).1).1)) 13 (((lgo (fuM (a 4)) (fun c => lastsV ((a 2) c) ((a 5) c)) (a 4) n (fun t => cix ((a 27) ((60 * Y + cix ii) + t))) (mbeg n (a 3) (a 4) ((a 12), (a 13), (a 14), (a 15), (a 16))) Z).1).2.1)) 14 (((lgo (fuM (a 4)) (fun c => lastsV ((a 2) c) ((a 5) c)) (a 4) n (fun t => cix ((a 27) ((60 * Y + cix ii) + t))) (mbeg n (a 3) (a 4) ((a 12), (a 13), (a 14), (a 15), (a 16))) Z).1).2.2.1)) 15 (((lgo (fuM (a 4)) (fun c => lastsV ((a 2) c) ((a 5) c)) (a 4) n (fun t => cix ((a 27) ((60 * Y + cix ii) + t))) (mbeg n (a 3) (a 4) ((a 12), (a 13), (a 14), (a 15), (a 16))) Z).1).2.2.2.1)) 16 (((lgo (fuM (a 4)) (fun c => lastsV ((a 2) c) ((a 5) c)) (a 4) n (fun t => cix ((a 27) ((60 * Y + cix ii) + t))) (mbeg n (a 3) (a 4) ((a 12), (a 13), (a 14), (a 15), (a 16))) Z).1).2.2.2.2))), rfl, ⟨(by rw [M_odds, if_pos c0, eK, eY, eZ, ← q2, if_pos c_3, if_pos c_4]), ⟨(lgo (fuM (a 4)) (fun c => lastsV (a 2 c) (a 5 c)) (a 4) n (fun t => cix (a 27 (60 * Y + cix ii + t))) (mbeg n (a 3) (a 4) ((a 12), (a 13), (a 14), (a 15), (a 16))) Z), by rw [sv]⟩⟩, by rw [ht]; exact hP, va_K.moved hW.alike hK, hD⟩, hS.F ht⟩) hS.2.2 dX2_odds_62
    · skip
      refine vp_callSl ((va_runS (As := []) (rest := []) ⟨hx, hb, hml, hown, hts⟩ (metX2_lost l  ) (va_cwS 0 hts (lw_S q1251 q1252 q74 q1253) rfl rfl rfl (by decide +kernel) ⟨Nat.le_of_ble_eq_true rfl, Nat.le_of_ble_eq_true rfl⟩) (pcS _) rfl rfl hl.1 rfl (lv_room (Nat.le_of_ble_eq_true rfl)) dX2_odds_46 ⟨Nat.zero_le _, Nat.zero_le _⟩)).run (fun r hw => ?_)
      have hw : r = (-9223372036854775808) := hw
      subst hw
      exact W.lret (v := (-9223372036854775808)) hx hb hr (fun t ht hW => ⟨⟨(-9223372036854775808), ((upd (upd (upd g 0 0) 17 ((lgo (fuM (a 4)) (fun c => lastsV ((a 2) c) ((a 5) c)) (a 4) n (fun t => cix ((a 27) ((60 * Y + cix ii) + t))) (mbeg n (a 3) (a 4) ((a 12), (a 13), (a 14), (a 15), (a 16))) Z).2.1)) 18 ((lgo (fuM (a 4)) (fun c => lastsV ((a 2) c) ((a 5) c)) (a 4) n (fun t => cix ((a 27) ((60 * Y + cix ii) + t))) (mbeg n (a 3) (a 4) ((a 12), (a 13), (a 14), (a 15), (a 16))) Z).2.2)), (va_up (va_up (va_up (va_up (va_up a 12 (((lgo (fuM (a 4)) (fun c => lastsV ((a 2) c) ((a 5) c)) (a 4) n (fun t => cix ((a 27) ((60 * Y + cix ii) + t))) (mbeg n (a 3) (a 4) ((a 12), (a 13), (a 14), (a 15), (a 16))) Z).1).1)) 13 (((lgo (fuM (a 4)) (fun c => lastsV ((a 2) c) ((a 5) c)) (a 4) n (fun t => cix ((a 27) ((60 * Y + cix ii) + t))) (mbeg n (a 3) (a 4) ((a 12), (a 13), (a 14), (a 15), (a 16))) Z).1).2.1)) 14 (((lgo (fuM (a 4)) (fun c => lastsV ((a 2) c) ((a 5) c)) (a 4) n (fun t => cix ((a 27) ((60 * Y + cix ii) + t))) (mbeg n (a 3) (a 4) ((a 12), (a 13), (a 14), (a 15), (a 16))) Z).1).2.2.1)) 15 (((lgo (fuM (a 4)) (fun c => lastsV ((a 2) c) ((a 5) c)) (a 4) n (fun t => cix ((a 27) ((60 * Y + cix ii) + t))) (mbeg n (a 3) (a 4) ((a 12), (a 13), (a 14), (a 15), (a 16))) Z).1).2.2.2.1)) 16 (((lgo (fuM (a 4)) (fun c => lastsV ((a 2) c) ((a 5) c)) (a 4) n (fun t => cix ((a 27) ((60 * Y + cix ii) + t))) (mbeg n (a 3) (a 4) ((a 12), (a 13), (a 14), (a 15), (a 16))) Z).1).2.2.2.2))), rfl, ⟨(by rw [M_odds, if_pos c0, eK, eY, eZ, ← q2, if_neg c_3]), ⟨(lgo (fuM (a 4)) (fun c => lastsV (a 2 c) (a 5 c)) (a 4) n (fun t => cix (a 27 (60 * Y + cix ii + t))) (mbeg n (a 3) (a 4) ((a 12), (a 13), (a 14), (a 15), (a 16))) Z), by rw [sv]⟩⟩, by rw [ht]; exact hP, va_K.moved hW.alike hK, hD⟩, hS.F ht⟩) hS.2.2 dX2_odds_49
  · skip
    refine vp_callSl ((va_runS (As := []) (rest := []) ⟨hx, hb, hml, hown, hts⟩ (metX2_lost l  ) (va_cwS 0 hts (lw_S q1251 q1252 q74 q1253) rfl rfl rfl (by decide +kernel) ⟨Nat.le_of_ble_eq_true rfl, Nat.le_of_ble_eq_true rfl⟩) (pcS _) rfl rfl hl.1 rfl (lv_room (Nat.le_of_ble_eq_true rfl)) dX2_odds_22 ⟨Nat.zero_le _, Nat.zero_le _⟩)).run (fun r hw => ?_)
    have hw : r = (-9223372036854775808) := hw
    subst hw
    exact W.lret (v := (-9223372036854775808)) hx hb hr (fun t ht hW => ⟨⟨(-9223372036854775808), ((upd g 0 ((seenV n a x y lane ii z (inP w 2)).2)), a), rfl, ⟨(by rw [M_odds, if_neg c_2]), ⟨((a 12, a 13, a 14, a 15, a 16), g 17, g 18), tr_id g a _⟩⟩, by rw [ht]; exact hP, va_K.moved hW.alike hK, hD⟩, hS.F ht⟩) hS.2.2 dX2_odds_25
