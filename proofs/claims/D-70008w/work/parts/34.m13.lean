/-! THE MODEL: the match -/
set_option maxHeartbeats 4000000 in
set_option maxRecDepth 100000 in
theorem metX2_matchBy (l : Launch) (dC : Nat → ClassId) (dI : Nat → Nat → Nat) (ct : Nat → ClassId) (A : Nat → Prop) (ex : va_W) (o : Nat) (q : Nat → Nat) (g : Nat → Int32) (a : Nat → Nat → Int32) (x : Int32) (n R : Nat) (hn6 : n ≤ 6) (hn1 : 0 < n) (hn : g 1 = nI n) (ex0 : x = nI R) (hR : R < 50000) : Met l yX2_matchBy (ws_ yX2_matchBy cX2_matchBy 8 (some .int)) ({ frames := 1, cells := 0, slots := 0, locals := 21 }) (mPre dC dI ct A ex o q g a [.ref o, .int x]) (va_Qi (fun (r : Int32) (u : (Nat → Int32) × (Nat → Nat → Int32)) => r = (mbV (a 3) (a 4) n R) ∧ u = (g, (va_up a 20 (tdF n R n 0 (a 20))))) (mB dC dI ct A ex o q) A) 0 0 A := by
  refine Met.ofW (cc := cX2_matchBy) (maxL := 8) (ret := (some .int)) (by decide) rfl ?_
  intro p e s m args below meth c s₁ B hml hv
  obtain ⟨rfl, hP, hK, hD⟩ := hv
  have hx := B.exec
  have hb := B.bytes
  have hr := B.returns
  have hts := atoms_spec (ws := ws_ yX2_matchBy cX2_matchBy 8 (some .int)) B.pre
  have hts : ∀ w ∈ lw_all, w.before _ s = true := fun w h => hts w (List.mem_cons_of_mem _ h)
  have hown : s.vm.findClass RX2 = some m.cls := findClass_of_methodNamed B.named
  have hlocks := B.notSynchronized
  have hS : va_S A s.heap s.heap [] := va_S.rf
  have hl := lv_entry ([.ref o, .int x]) (n := 8) (Nat.le_of_ble_eq_true rfl)
  rw [lg_entry_eq]
  generalize (lg_sl ([.ref o, .int x]) ++ List.replicate (8 - (lg_sl ([.ref o, .int x])).length) Slot.unset).toArray = ls at hl ⊢
  have hl : lv_has ls 8 [(0, .ref o), (1, .int x)] := hl
  subst ex0
  refine lv_iload_n hx hb dX2_matchBy_0 rfl (lv_at hl 1 rfl) ?_
  refine lv_topi (fun z_1 ez_1 => ?_)
  have ez_1 : z_1 = (nI (R / n ^ 0)) := ez_1.trans (congrArg nI (by rw [Nat.pow_zero, Nat.div_one]))
  subst ez_1
  refine lv_istore_n (lv' := [(2, .int (nI (R / n ^ 0))), (0, .ref o), (1, .int (nI R))]) hx hb dX2_matchBy_1 rfl hl (by decide) rfl (fun ls hl => ?_)
  refine lv_iconst (v := 0) hx hb dX2_matchBy_2 (by decide) ?_
  refine lv_istore_n (lv' := [(3, .int 0), (2, .int (nI (R / n ^ 0))), (0, .ref o), (1, .int (nI R))]) hx hb dX2_matchBy_3 rfl hl (by decide) rfl (fun ls hl => ?_)
  refine lv_iconst (v := 0) hx hb dX2_matchBy_4 (by decide) ?_
  refine lv_istore (lv' := [(4, .int 0), (3, .int 0), (2, .int (nI (R / n ^ 0))), (0, .ref o), (1, .int (nI R))]) hx hb dX2_matchBy_5 hl (by decide) rfl (fun ls hl => ?_)
  refine lv_aload_n hx hb dX2_matchBy_7 rfl (lv_at hl 3 rfl) ?_
  refine m_get (v := .int (g 1)) hx hb hts hown hK hP 1 (by decide) rfl q985 rfl dX2_matchBy_8 ?_
  refine lv_iconst (v := 1) hx hb dX2_matchBy_11 (by decide) ?_
  refine lv_isub hx hb dX2_matchBy_12 ?_
  refine lv_topi (fun z_2 ez_2 => ?_)
  have ez_2 : z_2 = ((nI n) - 1) := ez_2.trans (by rw [hn])
  subst ez_2
  refine lv_istore (lv' := [(5, .int ((nI n) - 1)), (4, .int 0), (3, .int 0), (2, .int (nI (R / n ^ 0))), (0, .ref o), (1, .int (nI R))]) hx hb dX2_matchBy_13 hl (by decide) rfl (fun ls hl => ?_)
  have loop1 : ∀ (f1 : Nat) (tt : Nat), (tt ≤ n) → (tt + 1 ≤ f1) → ∀ (H : Heap) (locs : List Loc), va_P (dC, dI) clA (mW ct o q g (va_up a 20 (tdF n R n tt (a 20))) ++ ex) H → va_D A (mW ct o q g (va_up a 20 (tdF n R n tt (a 20))) ++ ex) → va_S A s.heap H locs → ∀ (ls : Array Slot), lv_has ls 8 [(5, .int ((nI tt) - 1)), (4, .int (mbC (isfV (a 3) (a 4)) (dg n R n) n (n - tt))), (3, .int (mbT (dg n R n) n (n - tt))), (2, .int (nI (R / n ^ (n - tt)))), (0, .ref o)] → W p l e (headSpec (ws_ yX2_matchBy cX2_matchBy 8 (some .int)) ({ frames := 1, cells := 0, slots := 0, locals := 21 })).room s m ([.ref o, .int (nI R)] : List Value).toArray below meth c H locs 0 0 (MQ below (va_Qi (fun (r : Int32) (u : (Nat → Int32) × (Nat → Nat → Int32)) => r = (mbV (a 3) (a 4) n R) ∧ u = (g, (va_up a 20 (tdF n R n 0 (a 20))))) (mB dC dI ct A ex o q) A) ([.ref o, .int (nI R)] : List Value).toArray s 0 0 A) (F0 m 15 ls []) := by
    intro f1
    induction f1 with
    | zero => intro tt ht hf; exact False.elim (by omega)
    | succ f1 ih1 =>
      intro tt ht hf H locs hP hD hS ls hl
      refine lv_iload hx hb dX2_matchBy_15 (lv_at hl 0 rfl) ?_
      refine lv_if_lt (tgt := 119) hx hb dX2_matchBy_17 (by decide) (fun c_3 => ?_) (fun c_3 => ?_)
      · skip
        have ht0 : tt = 0 := (pre_neg tt (by omega)).mp c_3
        subst ht0
        refine lv_iload_n hx hb dX2_matchBy_119 rfl (lv_at hl 2 rfl) ?_
        refine lv_aload_n hx hb dX2_matchBy_120 rfl (lv_at hl 4 rfl) ?_
        refine vp_callSi ((va_runV (As := []) (rest := [.int (mbT (dg n R n) n (n - 0))]) ⟨hx, hb, hml, hown, hts⟩ (metX2_everybody l dC dI ct A ex o q g (va_up a 20 (tdF n R n 0 (a 20)))  n hn) (cwV 0 hts (lw_V q1177 q1179 qs56 q74 q1180) rfl rfl rfl (by decide +kernel) ⟨Nat.le_of_ble_eq_true rfl, Nat.le_of_ble_eq_true rfl⟩) (mPV hK hP hD _) rfl rfl hl.1 rfl (lv_room (Nat.le_of_ble_eq_true rfl)) dX2_matchBy_121 ⟨Nat.zero_le _, Nat.zero_le _⟩)).run (fun r hw => ?_)
        have hw : r = (evb n) := hw
        subst hw
        refine lv_icmp_ne (tgt := 132) hx hb dX2_matchBy_124 (by decide) (fun c_4 => ?_) (fun c_4 => ?_)
        · skip
          refine lv_bipush (v := (-9)) hx hb dX2_matchBy_132 (by decide) ?_
          exact W.iret (v := (-9)) hx hb hr (fun t ht hW => ⟨⟨(-9), (g, (va_up a 20 (tdF n R n 0 (a 20)))), rfl, ⟨(by rw [mbV]; exact (if_neg c_4).symm), rfl⟩, by rw [ht]; exact hP, va_K.moved hW.alike hK, hD⟩, hS.F ht⟩) hS.2.2 dX2_matchBy_134
        · skip
          refine lv_iload hx hb dX2_matchBy_127 (lv_at hl 1 rfl) ?_
          refine lv_goto (tgt := 134) hx hb dX2_matchBy_129 (by decide) ?_
          exact W.iret (v := (mbC (isfV (a 3) (a 4)) (dg n R n) n (n - 0))) hx hb hr (fun t ht hW => ⟨⟨(mbC (isfV (a 3) (a 4)) (dg n R n) n (n - 0)), (g, (va_up a 20 (tdF n R n 0 (a 20)))), rfl, ⟨(by rw [mbV]; exact (if_pos c_4).symm), rfl⟩, by rw [ht]; exact hP, va_K.moved hW.alike hK, hD⟩, hS.F ht⟩) hS.2.2 dX2_matchBy_134
      · skip
        obtain ⟨t1, ht1⟩ : ∃ z, tt = z + 1 := ⟨tt - 1, by have z := mt (pre_neg tt (by omega)).mpr c_3; omega⟩
        subst ht1
        have hq : (R / n ^ (n - (t1 + 1))) < 2 ^ 31 := Nat.lt_of_le_of_lt (Nat.div_le_self _ _) (by omega)
        have hd : (dg n R n) t1 < n := dg_lt hn1
        refine lv_iload_n hx hb dX2_matchBy_20 rfl (lv_at hl 3 rfl) ?_
        refine lv_aload_n hx hb dX2_matchBy_21 rfl (lv_at hl 4 rfl) ?_
        refine m_get (v := .int (g 1)) hx hb hts hown hK hP 1 (by decide) rfl q985 rfl dX2_matchBy_22 ?_
        refine lv_irem hx hb dX2_matchBy_25 (by rw [hn]; exact nI_ne0 hn1 (by omega)) ?_
        refine lv_topi (fun z_5 ez_5 => ?_)
        have ez_5 : z_5 = (nI ((dg n R n) t1)) := ez_5.trans (by rw [hn, nI_rem hq hn1 (by omega), dg_eq (by omega)])
        subst ez_5
        refine lv_istore (lv' := [(6, .int (nI ((dg n R n) t1))), (5, .int ((nI (t1 + 1)) - 1)), (4, .int (mbC (isfV (a 3) (a 4)) (dg n R n) n (n - (t1 + 1)))), (3, .int (mbT (dg n R n) n (n - (t1 + 1)))), (2, .int (nI (R / n ^ (n - (t1 + 1))))), (0, .ref o)]) hx hb dX2_matchBy_26 hl (by decide) rfl (fun ls hl => ?_)
        refine lv_iload_n hx hb dX2_matchBy_28 rfl (lv_at hl 4 rfl) ?_
        refine lv_aload_n hx hb dX2_matchBy_29 rfl (lv_at hl 5 rfl) ?_
        refine m_get (v := .int (g 1)) hx hb hts hown hK hP 1 (by decide) rfl q985 rfl dX2_matchBy_30 ?_
        refine lv_idiv hx hb dX2_matchBy_33 (by rw [hn]; exact nI_ne0 hn1 (by omega)) ?_
        refine lv_topi (fun z_6 ez_6 => ?_)
        have ez_6 : z_6 = (nI (R / n ^ (n - t1))) := ez_6.trans (by rw [hn, pk_div hq hn1 (by omega), dg_div (by omega)])
        subst ez_6
        refine lv_istore_n (lv' := [(2, .int (nI (R / n ^ (n - t1)))), (6, .int (nI ((dg n R n) t1))), (5, .int ((nI (t1 + 1)) - 1)), (4, .int (mbC (isfV (a 3) (a 4)) (dg n R n) n (n - (t1 + 1)))), (3, .int (mbT (dg n R n) n (n - (t1 + 1)))), (0, .ref o)]) hx hb dX2_matchBy_34 rfl hl (by decide) rfl (fun ls hl => ?_)
        refine lv_aload_n hx hb dX2_matchBy_35 rfl (lv_at hl 5 rfl) ?_
        refine m_get (v := .ref (q 4)) hx hb hts hown hK hP 4 (by decide) rfl q988 rfl dX2_matchBy_36 ?_
        refine lv_iload hx hb dX2_matchBy_39 (lv_at hl 2 rfl) ?_
        refine m_ild hx hb hK hP (mWa4 _ _ _ _ _ _) (a 4) rfl t1 (nI_pred t1) (by omega) (by decide) dX2_matchBy_41 ?_
        refine lv_bipush (v := 6) hx hb dX2_matchBy_42 (by decide) ?_
        refine lv_icmp_eq (tgt := 75) hx hb dX2_matchBy_44 (by decide) (fun c_7 => ?_) (fun c_7 => ?_)
        · skip
          have hi1 : isfV (a 3) (a 4) t1 ((dg n R n) t1) = true := by rw [isfV, decide_eq_true c_7]; rfl
          refine lv_iconst (v := 1) hx hb dX2_matchBy_75 (by decide) ?_
          refine lv_goto (tgt := 80) hx hb dX2_matchBy_76 (by decide) ?_
          refine lv_istore (lv' := [(7, .int 1), (2, .int (nI (R / n ^ (n - t1)))), (6, .int (nI ((dg n R n) t1))), (5, .int ((nI (t1 + 1)) - 1)), (4, .int (mbC (isfV (a 3) (a 4)) (dg n R n) n (n - (t1 + 1)))), (3, .int (mbT (dg n R n) n (n - (t1 + 1)))), (0, .ref o)]) hx hb dX2_matchBy_80 hl (by decide) rfl (fun ls hl => ?_)
          refine lv_iload hx hb dX2_matchBy_82 (lv_at hl 4 rfl) ?_
          refine lv_iload hx hb dX2_matchBy_84 (lv_at hl 0 rfl) ?_
          refine lv_if_eq (tgt := 93) hx hb dX2_matchBy_86 (by decide) (fun c_8 => ?_) (fun c_8 => ?_)
          · skip
            exact absurd c_8 (by decide)
          · skip
            refine lv_iconst (v := 1) hx hb dX2_matchBy_89 (by decide) ?_
            refine lv_goto (tgt := 94) hx hb dX2_matchBy_90 (by decide) ?_
            refine lv_iadd hx hb dX2_matchBy_94 ?_
            refine lv_topi (fun z_9 ez_9 => ?_)
            have ez_9 : z_9 = (mbC (isfV (a 3) (a 4)) (dg n R n) n (n - t1)) := ez_9.trans (mbC_t (by omega) hi1)
            subst ez_9
            refine lv_istore (lv' := [(4, .int (mbC (isfV (a 3) (a 4)) (dg n R n) n (n - t1))), (7, .int 1), (2, .int (nI (R / n ^ (n - t1)))), (6, .int (nI ((dg n R n) t1))), (5, .int ((nI (t1 + 1)) - 1)), (3, .int (mbT (dg n R n) n (n - (t1 + 1)))), (0, .ref o)]) hx hb dX2_matchBy_95 hl (by decide) rfl (fun ls hl => ?_)
            refine lv_iload_n hx hb dX2_matchBy_97 rfl (lv_at hl 5 rfl) ?_
            refine lv_iconst (v := 1) hx hb dX2_matchBy_98 (by decide) ?_
            refine lv_iload hx hb dX2_matchBy_99 (lv_at hl 3 rfl) ?_
            refine lv_ishl hx hb dX2_matchBy_101 ?_
            refine lv_ior hx hb dX2_matchBy_102 ?_
            refine lv_topi (fun z_10 ez_10 => ?_)
            have ez_10 : z_10 = (mbT (dg n R n) n (n - t1)) := ez_10.trans (mbT_s (by omega))
            subst ez_10
            refine lv_istore_n (lv' := [(3, .int (mbT (dg n R n) n (n - t1))), (4, .int (mbC (isfV (a 3) (a 4)) (dg n R n) n (n - t1))), (7, .int 1), (2, .int (nI (R / n ^ (n - t1)))), (6, .int (nI ((dg n R n) t1))), (5, .int ((nI (t1 + 1)) - 1)), (0, .ref o)]) hx hb dX2_matchBy_103 rfl hl (by decide) rfl (fun ls hl => ?_)
            refine lv_aload_n hx hb dX2_matchBy_104 rfl (lv_at hl 6 rfl) ?_
            refine m_get (v := .ref (q 20)) hx hb hts hown hK hP 20 (by decide) rfl q1004 rfl dX2_matchBy_105 ?_
            refine lv_iload hx hb dX2_matchBy_108 (lv_at hl 5 rfl) ?_
            refine lv_iload hx hb dX2_matchBy_110 (lv_at hl 4 rfl) ?_
            refine m_ist (x := (nI ((dg n R n) t1))) hx hb hK hP hD hS (mWa20 _ _ _ _ _ _) (mWs20 _ _ _ _ _ _) (tdF n R n (t1 + 1) (a 20)) rfl t1 (nI_pred t1) (by omega) (by decide) dX2_matchBy_112 (fun H locs hP hD hS => ?_)
            have eW_11 : ∀  (za20 : Nat → Int32) (zn : Nat → Int32), mW ct o q g (va_up (va_up a 20 za20) 20 zn) ++ ex = mW ct o q g (va_up a 20 zn) ++ ex := fun _ _ => rfl
            have hP : va_P (dC, dI) clA (mW ct o q g (va_up a 20 (upd (tdF n R n (t1 + 1) (a 20)) t1 (nI ((dg n R n) t1)))) ++ ex) H := Eq.mp (congrArg (fun w => va_P (dC, dI) clA w H) (eW_11 (tdF n R n (t1 + 1) (a 20)) (upd (tdF n R n (t1 + 1) (a 20)) t1 (nI ((dg n R n) t1))))) hP
            have hD : va_D A (mW ct o q g (va_up a 20 (upd (tdF n R n (t1 + 1) (a 20)) t1 (nI ((dg n R n) t1)))) ++ ex) := Eq.mp (congrArg (fun w => va_D A w) (eW_11 (tdF n R n (t1 + 1) (a 20)) (upd (tdF n R n (t1 + 1) (a 20)) t1 (nI ((dg n R n) t1))))) hD
            have e_12 : (upd (tdF n R n (t1 + 1) (a 20)) t1 (nI ((dg n R n) t1))) = (tdF n R n t1 (a 20)) := tdF_s (by omega) (by rw [dg_eq (by omega)])
            rw [e_12] at hP hD
            refine lv_iinc (v := ((nI t1) - 1)) (lv' := [(5, .int ((nI t1) - 1)), (3, .int (mbT (dg n R n) n (n - t1))), (4, .int (mbC (isfV (a 3) (a 4)) (dg n R n) n (n - t1))), (7, .int 1), (2, .int (nI (R / n ^ (n - t1)))), (6, .int (nI ((dg n R n) t1))), (0, .ref o)]) hx hb dX2_matchBy_113 hl (k := 5) rfl (dec_one t1) (by decide) rfl (fun ls hl => ?_)
            refine lv_goto (tgt := 15) hx hb dX2_matchBy_116 (by decide) ?_
            exact ih1 t1 (by omega) (by omega) _ _ hP hD hS _ (lv_sub hl [0, 2, 1, 4, 6] rfl)
        · skip
          have hi0 : ¬ a 4 t1 = 6 := c_7
          refine lv_aload_n hx hb dX2_matchBy_47 rfl (lv_at hl 5 rfl) ?_
          refine m_get (v := .ref (q 3)) hx hb hts hown hK hP 3 (by decide) rfl q987 rfl dX2_matchBy_48 ?_
          refine lv_iload hx hb dX2_matchBy_51 (lv_at hl 2 rfl) ?_
          refine m_ild hx hb hK hP (mWa3 _ _ _ _ _ _) (a 3) rfl t1 (nI_pred t1) (by omega) (by decide) dX2_matchBy_53 ?_
          refine lv_aload_n hx hb dX2_matchBy_54 rfl (lv_at hl 5 rfl) ?_
          refine m_get (v := .ref (q 3)) hx hb hts hown hK hP 3 (by decide) rfl q987 rfl dX2_matchBy_55 ?_
          refine lv_iload hx hb dX2_matchBy_58 (lv_at hl 1 rfl) ?_
          refine m_ild hx hb hK hP (mWa3 _ _ _ _ _ _) (a 3) rfl ((dg n R n) t1) rfl (by omega) (by decide) dX2_matchBy_60 ?_
          refine lv_ior hx hb dX2_matchBy_61 ?_
          refine lv_aload_n hx hb dX2_matchBy_62 rfl (lv_at hl 5 rfl) ?_
          refine m_get (v := .ref (q 4)) hx hb hts hown hK hP 4 (by decide) rfl q988 rfl dX2_matchBy_63 ?_
          refine lv_iload hx hb dX2_matchBy_66 (lv_at hl 2 rfl) ?_
          refine m_ild hx hb hK hP (mWa4 _ _ _ _ _ _) (a 4) rfl t1 (nI_pred t1) (by omega) (by decide) dX2_matchBy_68 ?_
          refine vp_callSi ((va_runS (As := [.int (((a 3) t1) ||| ((a 3) ((dg n R n) t1))), .int ((a 4) t1)]) (rest := []) ⟨hx, hb, hml, hown, hts⟩ (metX2_isIn l (((a 3) t1) ||| ((a 3) ((dg n R n) t1))) ((a 4) t1) ) (va_cwS 2 hts (lw_S q1166 q1167 q74 q1168) rfl rfl rfl (by decide +kernel) ⟨Nat.le_of_ble_eq_true rfl, Nat.le_of_ble_eq_true rfl⟩) (pcS _) rfl rfl hl.1 rfl (lv_room (Nat.le_of_ble_eq_true rfl)) dX2_matchBy_69 ⟨Nat.zero_le _, Nat.zero_le _⟩)).run (fun r hw => ?_)
          have hw : r = (b2i (bq (((a 3) t1) ||| ((a 3) ((dg n R n) t1))) ((a 4) t1))) := hw
          subst hw
          refine bz_eq (tgt := 79) hx hb dX2_matchBy_72 (by decide) (fun c_13 => ?_) (fun c_13 => ?_)
          · skip
            have hi1 : isfV (a 3) (a 4) t1 ((dg n R n) t1) = false := by rw [isfV, decide_eq_false hi0, c_13]; rfl
            refine lv_iconst (v := 0) hx hb dX2_matchBy_79 (by decide) ?_
            refine lv_istore (lv' := [(7, .int 0), (2, .int (nI (R / n ^ (n - t1)))), (6, .int (nI ((dg n R n) t1))), (5, .int ((nI (t1 + 1)) - 1)), (4, .int (mbC (isfV (a 3) (a 4)) (dg n R n) n (n - (t1 + 1)))), (3, .int (mbT (dg n R n) n (n - (t1 + 1)))), (0, .ref o)]) hx hb dX2_matchBy_80 hl (by decide) rfl (fun ls hl => ?_)
            refine lv_iload hx hb dX2_matchBy_82 (lv_at hl 4 rfl) ?_
            refine lv_iload hx hb dX2_matchBy_84 (lv_at hl 0 rfl) ?_
            refine lv_if_eq (tgt := 93) hx hb dX2_matchBy_86 (by decide) (fun c_14 => ?_) (fun c_14 => ?_)
            · skip
              refine lv_iconst (v := 0) hx hb dX2_matchBy_93 (by decide) ?_
              refine lv_iadd hx hb dX2_matchBy_94 ?_
              refine lv_topi (fun z_15 ez_15 => ?_)
              have ez_15 : z_15 = (mbC (isfV (a 3) (a 4)) (dg n R n) n (n - t1)) := ez_15.trans (mbC_f (by omega) hi1)
              subst ez_15
              refine lv_istore (lv' := [(4, .int (mbC (isfV (a 3) (a 4)) (dg n R n) n (n - t1))), (7, .int 0), (2, .int (nI (R / n ^ (n - t1)))), (6, .int (nI ((dg n R n) t1))), (5, .int ((nI (t1 + 1)) - 1)), (3, .int (mbT (dg n R n) n (n - (t1 + 1)))), (0, .ref o)]) hx hb dX2_matchBy_95 hl (by decide) rfl (fun ls hl => ?_)
              refine lv_iload_n hx hb dX2_matchBy_97 rfl (lv_at hl 5 rfl) ?_
              refine lv_iconst (v := 1) hx hb dX2_matchBy_98 (by decide) ?_
              refine lv_iload hx hb dX2_matchBy_99 (lv_at hl 3 rfl) ?_
              refine lv_ishl hx hb dX2_matchBy_101 ?_
              refine lv_ior hx hb dX2_matchBy_102 ?_
              refine lv_topi (fun z_16 ez_16 => ?_)
              have ez_16 : z_16 = (mbT (dg n R n) n (n - t1)) := ez_16.trans (mbT_s (by omega))
              subst ez_16
              refine lv_istore_n (lv' := [(3, .int (mbT (dg n R n) n (n - t1))), (4, .int (mbC (isfV (a 3) (a 4)) (dg n R n) n (n - t1))), (7, .int 0), (2, .int (nI (R / n ^ (n - t1)))), (6, .int (nI ((dg n R n) t1))), (5, .int ((nI (t1 + 1)) - 1)), (0, .ref o)]) hx hb dX2_matchBy_103 rfl hl (by decide) rfl (fun ls hl => ?_)
              refine lv_aload_n hx hb dX2_matchBy_104 rfl (lv_at hl 6 rfl) ?_
              refine m_get (v := .ref (q 20)) hx hb hts hown hK hP 20 (by decide) rfl q1004 rfl dX2_matchBy_105 ?_
              refine lv_iload hx hb dX2_matchBy_108 (lv_at hl 5 rfl) ?_
              refine lv_iload hx hb dX2_matchBy_110 (lv_at hl 4 rfl) ?_
              refine m_ist (x := (nI ((dg n R n) t1))) hx hb hK hP hD hS (mWa20 _ _ _ _ _ _) (mWs20 _ _ _ _ _ _) (tdF n R n (t1 + 1) (a 20)) rfl t1 (nI_pred t1) (by omega) (by decide) dX2_matchBy_112 (fun H locs hP hD hS => ?_)
              have eW_17 : ∀  (za20 : Nat → Int32) (zn : Nat → Int32), mW ct o q g (va_up (va_up a 20 za20) 20 zn) ++ ex = mW ct o q g (va_up a 20 zn) ++ ex := fun _ _ => rfl
              have hP : va_P (dC, dI) clA (mW ct o q g (va_up a 20 (upd (tdF n R n (t1 + 1) (a 20)) t1 (nI ((dg n R n) t1)))) ++ ex) H := Eq.mp (congrArg (fun w => va_P (dC, dI) clA w H) (eW_17 (tdF n R n (t1 + 1) (a 20)) (upd (tdF n R n (t1 + 1) (a 20)) t1 (nI ((dg n R n) t1))))) hP
              have hD : va_D A (mW ct o q g (va_up a 20 (upd (tdF n R n (t1 + 1) (a 20)) t1 (nI ((dg n R n) t1)))) ++ ex) := Eq.mp (congrArg (fun w => va_D A w) (eW_17 (tdF n R n (t1 + 1) (a 20)) (upd (tdF n R n (t1 + 1) (a 20)) t1 (nI ((dg n R n) t1))))) hD
              have e_18 : (upd (tdF n R n (t1 + 1) (a 20)) t1 (nI ((dg n R n) t1))) = (tdF n R n t1 (a 20)) := tdF_s (by omega) (by rw [dg_eq (by omega)])
              rw [e_18] at hP hD
              refine lv_iinc (v := ((nI t1) - 1)) (lv' := [(5, .int ((nI t1) - 1)), (3, .int (mbT (dg n R n) n (n - t1))), (4, .int (mbC (isfV (a 3) (a 4)) (dg n R n) n (n - t1))), (7, .int 0), (2, .int (nI (R / n ^ (n - t1)))), (6, .int (nI ((dg n R n) t1))), (0, .ref o)]) hx hb dX2_matchBy_113 hl (k := 5) rfl (dec_one t1) (by decide) rfl (fun ls hl => ?_)
              refine lv_goto (tgt := 15) hx hb dX2_matchBy_116 (by decide) ?_
              exact ih1 t1 (by omega) (by omega) _ _ hP hD hS _ (lv_sub hl [0, 2, 1, 4, 6] rfl)
            · skip
              exact absurd c_14 (by decide)
          · skip
            have hi1 : isfV (a 3) (a 4) t1 ((dg n R n) t1) = true := by rw [isfV, decide_eq_false hi0, c_13]; rfl
            refine lv_iconst (v := 1) hx hb dX2_matchBy_75 (by decide) ?_
            refine lv_goto (tgt := 80) hx hb dX2_matchBy_76 (by decide) ?_
            refine lv_istore (lv' := [(7, .int 1), (2, .int (nI (R / n ^ (n - t1)))), (6, .int (nI ((dg n R n) t1))), (5, .int ((nI (t1 + 1)) - 1)), (4, .int (mbC (isfV (a 3) (a 4)) (dg n R n) n (n - (t1 + 1)))), (3, .int (mbT (dg n R n) n (n - (t1 + 1)))), (0, .ref o)]) hx hb dX2_matchBy_80 hl (by decide) rfl (fun ls hl => ?_)
            refine lv_iload hx hb dX2_matchBy_82 (lv_at hl 4 rfl) ?_
            refine lv_iload hx hb dX2_matchBy_84 (lv_at hl 0 rfl) ?_
            refine lv_if_eq (tgt := 93) hx hb dX2_matchBy_86 (by decide) (fun c_19 => ?_) (fun c_19 => ?_)
            · skip
              exact absurd c_19 (by decide)
            · skip
              refine lv_iconst (v := 1) hx hb dX2_matchBy_89 (by decide) ?_
              refine lv_goto (tgt := 94) hx hb dX2_matchBy_90 (by decide) ?_
              refine lv_iadd hx hb dX2_matchBy_94 ?_
              refine lv_topi (fun z_20 ez_20 => ?_)
              have ez_20 : z_20 = (mbC (isfV (a 3) (a 4)) (dg n R n) n (n - t1)) := ez_20.trans (mbC_t (by omega) hi1)
              subst ez_20
              refine lv_istore (lv' := [(4, .int (mbC (isfV (a 3) (a 4)) (dg n R n) n (n - t1))), (7, .int 1), (2, .int (nI (R / n ^ (n - t1)))), (6, .int (nI ((dg n R n) t1))), (5, .int ((nI (t1 + 1)) - 1)), (3, .int (mbT (dg n R n) n (n - (t1 + 1)))), (0, .ref o)]) hx hb dX2_matchBy_95 hl (by decide) rfl (fun ls hl => ?_)
              refine lv_iload_n hx hb dX2_matchBy_97 rfl (lv_at hl 5 rfl) ?_
              refine lv_iconst (v := 1) hx hb dX2_matchBy_98 (by decide) ?_
              refine lv_iload hx hb dX2_matchBy_99 (lv_at hl 3 rfl) ?_
              refine lv_ishl hx hb dX2_matchBy_101 ?_
              refine lv_ior hx hb dX2_matchBy_102 ?_
              refine lv_topi (fun z_21 ez_21 => ?_)
              have ez_21 : z_21 = (mbT (dg n R n) n (n - t1)) := ez_21.trans (mbT_s (by omega))
              subst ez_21
              refine lv_istore_n (lv' := [(3, .int (mbT (dg n R n) n (n - t1))), (4, .int (mbC (isfV (a 3) (a 4)) (dg n R n) n (n - t1))), (7, .int 1), (2, .int (nI (R / n ^ (n - t1)))), (6, .int (nI ((dg n R n) t1))), (5, .int ((nI (t1 + 1)) - 1)), (0, .ref o)]) hx hb dX2_matchBy_103 rfl hl (by decide) rfl (fun ls hl => ?_)
              refine lv_aload_n hx hb dX2_matchBy_104 rfl (lv_at hl 6 rfl) ?_
              refine m_get (v := .ref (q 20)) hx hb hts hown hK hP 20 (by decide) rfl q1004 rfl dX2_matchBy_105 ?_
              refine lv_iload hx hb dX2_matchBy_108 (lv_at hl 5 rfl) ?_
              refine lv_iload hx hb dX2_matchBy_110 (lv_at hl 4 rfl) ?_
              refine m_ist (x := (nI ((dg n R n) t1))) hx hb hK hP hD hS (mWa20 _ _ _ _ _ _) (mWs20 _ _ _ _ _ _) (tdF n R n (t1 + 1) (a 20)) rfl t1 (nI_pred t1) (by omega) (by decide) dX2_matchBy_112 (fun H locs hP hD hS => ?_)
              have eW_22 : ∀  (za20 : Nat → Int32) (zn : Nat → Int32), mW ct o q g (va_up (va_up a 20 za20) 20 zn) ++ ex = mW ct o q g (va_up a 20 zn) ++ ex := fun _ _ => rfl
              have hP : va_P (dC, dI) clA (mW ct o q g (va_up a 20 (upd (tdF n R n (t1 + 1) (a 20)) t1 (nI ((dg n R n) t1)))) ++ ex) H := Eq.mp (congrArg (fun w => va_P (dC, dI) clA w H) (eW_22 (tdF n R n (t1 + 1) (a 20)) (upd (tdF n R n (t1 + 1) (a 20)) t1 (nI ((dg n R n) t1))))) hP
              have hD : va_D A (mW ct o q g (va_up a 20 (upd (tdF n R n (t1 + 1) (a 20)) t1 (nI ((dg n R n) t1)))) ++ ex) := Eq.mp (congrArg (fun w => va_D A w) (eW_22 (tdF n R n (t1 + 1) (a 20)) (upd (tdF n R n (t1 + 1) (a 20)) t1 (nI ((dg n R n) t1))))) hD
              have e_23 : (upd (tdF n R n (t1 + 1) (a 20)) t1 (nI ((dg n R n) t1))) = (tdF n R n t1 (a 20)) := tdF_s (by omega) (by rw [dg_eq (by omega)])
              rw [e_23] at hP hD
              refine lv_iinc (v := ((nI t1) - 1)) (lv' := [(5, .int ((nI t1) - 1)), (3, .int (mbT (dg n R n) n (n - t1))), (4, .int (mbC (isfV (a 3) (a 4)) (dg n R n) n (n - t1))), (7, .int 1), (2, .int (nI (R / n ^ (n - t1)))), (6, .int (nI ((dg n R n) t1))), (0, .ref o)]) hx hb dX2_matchBy_113 hl (k := 5) rfl (dec_one t1) (by decide) rfl (fun ls hl => ?_)
              refine lv_goto (tgt := 15) hx hb dX2_matchBy_116 (by decide) ?_
              exact ih1 t1 (by omega) (by omega) _ _ hP hD hS _ (lv_sub hl [0, 2, 1, 4, 6] rfl)
  exact loop1 (n + 1) n (by omega) (by omega) _ _ (by rw [tdF_M]; exact hP) (by rw [tdF_M]; exact hD) hS _ (by rw [Nat.sub_self]; exact (lv_sub hl [0, 1, 2, 3, 4] rfl))
set_option maxHeartbeats 4000000 in
set_option maxRecDepth 100000 in
theorem metX2_match (l : Launch) (dC : Nat → ClassId) (dI : Nat → Nat → Nat) (ct : Nat → ClassId) (A : Nat → Prop) (ex : va_W) (o : Nat) (q : Nat → Nat) (g : Nat → Int32) (a : Nat → Nat → Int32) (x : Int32) (n : Nat) (hn6 : n ≤ 6) (hn : g 1 = nI n) : Met l yX2_match (ws_ yX2_match cX2_match 7 (some .int)) ({ frames := 2, cells := 0, slots := 0, locals := 48 }) (mPre dC dI ct A ex o q g a [.ref o, .int x]) (va_Qi (fun (r : Int32) (u : (Nat → Int32) × (Nat → Nat → Int32)) => r = (M_match n a x) ∧ ∃ (D : Nat → Int32), u = (g, (va_up a 20 D))) (mB dC dI ct A ex o q) A) 0 0 A := by
  refine Met.ofW (cc := cX2_match) (maxL := 7) (ret := (some .int)) (by decide) rfl ?_
  intro p e s m args below meth c s₁ B hml hv
  obtain ⟨rfl, hP, hK, hD⟩ := hv
  have hx := B.exec
  have hb := B.bytes
  have hr := B.returns
  have hts := atoms_spec (ws := ws_ yX2_match cX2_match 7 (some .int)) B.pre
  have hts : ∀ w ∈ lw_all, w.before _ s = true := fun w h => hts w (List.mem_cons_of_mem _ h)
  have hown : s.vm.findClass RX2 = some m.cls := findClass_of_methodNamed B.named
  have hlocks := B.notSynchronized
  have hS : va_S A s.heap s.heap [] := va_S.rf
  have hl := lv_entry ([.ref o, .int x]) (n := 7) (Nat.le_of_ble_eq_true rfl)
  rw [lg_entry_eq]
  generalize (lg_sl ([.ref o, .int x]) ++ List.replicate (7 - (lg_sl ([.ref o, .int x])).length) Slot.unset).toArray = ls at hl ⊢
  have hl : lv_has ls 7 [(0, .ref o), (1, .int x)] := hl
  refine lv_iload_n hx hb dX2_match_0 rfl (lv_at hl 1 rfl) ?_
  refine lv_iconst (v := (-1)) hx hb dX2_match_1 (by decide) ?_
  refine lv_icmp_ge (tgt := 7) hx hb dX2_match_2 (by decide) (fun c_1 => ?_) (fun c_1 => ?_)
  · skip
    refine lv_aload_n hx hb dX2_match_7 rfl (lv_at hl 0 rfl) ?_
    refine m_get (v := .int (g 1)) hx hb hts hown hK hP 1 (by decide) rfl q985 rfl dX2_match_8 ?_
    refine lv_if_ne (tgt := 17) hx hb dX2_match_11 (by decide) (fun c_2 => ?_) (fun c_2 => ?_)
    · skip
      have hn0 : ¬ n = 0 := fun z => c_2 (by rw [hn, z]; rfl)
      refine lv_iconst (v := 1) hx hb dX2_match_17 (by decide) ?_
      refine lv_istore_n (lv' := [(2, .int 1), (0, .ref o), (1, .int x)]) hx hb dX2_match_18 rfl hl (by decide) rfl (fun ls hl => ?_)
      refine lv_iconst (v := 0) hx hb dX2_match_19 (by decide) ?_
      refine lv_istore_n (lv' := [(3, .int 0), (2, .int 1), (0, .ref o), (1, .int x)]) hx hb dX2_match_20 rfl hl (by decide) rfl (fun ls hl => ?_)
      have loop1 : ∀ (f1 : Nat) (k : Nat), (k ≤ n) → (n + 1 ≤ k + f1) → ∀ (H : Heap) (locs : List Loc), va_P (dC, dI) clA (mW ct o q g a ++ ex) H → va_D A (mW ct o q g a ++ ex) → va_S A s.heap H locs → ∀ (ls : Array Slot), lv_has ls 7 [(3, .int (nI k)), (2, .int (nI (n ^ k))), (1, .int x), (0, .ref o)] → W p l e (headSpec (ws_ yX2_match cX2_match 7 (some .int)) ({ frames := 2, cells := 0, slots := 0, locals := 48 })).room s m ([.ref o, .int x] : List Value).toArray below meth c H locs 0 0 (MQ below (va_Qi (fun (r : Int32) (u : (Nat → Int32) × (Nat → Nat → Int32)) => r = (M_match n a x) ∧ ∃ (D : Nat → Int32), u = (g, (va_up a 20 D))) (mB dC dI ct A ex o q) A) ([.ref o, .int x] : List Value).toArray s 0 0 A) (F0 m 21 ls []) := by
        intro f1
        induction f1 with
        | zero => intro k hk hf; exact False.elim (by omega)
        | succ f1 ih1 =>
          intro k hk hf H locs hP hD hS ls hl
          refine lv_iload_n hx hb dX2_match_21 rfl (lv_at hl 0 rfl) ?_
          refine lv_aload_n hx hb dX2_match_22 rfl (lv_at hl 3 rfl) ?_
          refine m_get (v := .int (g 1)) hx hb hts hown hK hP 1 (by decide) rfl q985 rfl dX2_match_23 ?_
          refine lv_icmp_ge (tgt := 42) hx hb dX2_match_26 (by decide) (fun c_3 => ?_) (fun c_3 => ?_)
          · skip
            have hge : k = n := by rw [hn] at c_3; exact Nat.le_antisymm (by omega) ((nI_leI (by omega) (by omega)).mp c_3)
            rw [hge] at hl
            have hp := pown_le n hn6
            refine lv_iconst (v := 0) hx hb dX2_match_42 (by decide) ?_
            refine lv_istore_n (lv' := [(3, .int 0), (2, .int (nI (n ^ n))), (1, .int x), (0, .ref o)]) hx hb dX2_match_43 rfl hl (by decide) rfl (fun ls hl => ?_)
            refine lv_iconst (v := (-1)) hx hb dX2_match_44 (by decide) ?_
            refine lv_istore (lv' := [(4, .int (-1)), (3, .int 0), (2, .int (nI (n ^ n))), (1, .int x), (0, .ref o)]) hx hb dX2_match_45 hl (by decide) rfl (fun ls hl => ?_)
            refine lv_iconst (v := 0) hx hb dX2_match_47 (by decide) ?_
            refine lv_istore (lv' := [(5, .int 0), (4, .int (-1)), (3, .int 0), (2, .int (nI (n ^ n))), (1, .int x), (0, .ref o)]) hx hb dX2_match_48 hl (by decide) rfl (fun ls hl => ?_)
            have loop2 : ∀ (f2 : Nat) (rr : Nat) (D : Nat → Int32), (rr ≤ n ^ n) → (n ^ n + 1 ≤ rr + f2) → ∀ (H : Heap) (locs : List Loc), va_P (dC, dI) clA (mW ct o q g (va_up a 20 D) ++ ex) H → va_D A (mW ct o q g (va_up a 20 D) ++ ex) → va_S A s.heap H locs → ∀ (ls : Array Slot), lv_has ls 7 [(5, .int (nI rr)), (4, .int ((bmV (mbV (a 3) (a 4) n) rr).2)), (3, .int (nI (bmV (mbV (a 3) (a 4) n) rr).1)), (2, .int (nI (n ^ n))), (1, .int x), (0, .ref o)] → W p l e (headSpec (ws_ yX2_match cX2_match 7 (some .int)) ({ frames := 2, cells := 0, slots := 0, locals := 48 })).room s m ([.ref o, .int x] : List Value).toArray below meth c H locs 0 0 (MQ below (va_Qi (fun (r : Int32) (u : (Nat → Int32) × (Nat → Nat → Int32)) => r = (M_match n a x) ∧ ∃ (D : Nat → Int32), u = (g, (va_up a 20 D))) (mB dC dI ct A ex o q) A) ([.ref o, .int x] : List Value).toArray s 0 0 A) (F0 m 50 ls []) := by
              intro f2
              induction f2 with
              | zero => intro rr D hrr hf2; exact False.elim (by omega)
              | succ f2 ih2 =>
                intro rr D hrr hf2 H locs hP hD hS ls hl
                refine lv_iload hx hb dX2_match_50 (lv_at hl 0 rfl) ?_
                refine lv_iload_n hx hb dX2_match_52 rfl (lv_at hl 3 rfl) ?_
                refine lv_icmp_ge (tgt := 100) hx hb dX2_match_53 (by decide) (fun c_4 => ?_) (fun c_4 => ?_)
                · skip
                  have hge2 : rr = n ^ n := Nat.le_antisymm hrr ((nI_leI (by omega) (by omega)).mp c_4)
                  have hbl := bmV_le (mbV (a 3) (a 4) n) (n ^ n)
                  rw [hge2] at hl
                  refine lv_aload_n hx hb dX2_match_100 rfl (lv_at hl 5 rfl) ?_
                  refine lv_iload_n hx hb dX2_match_101 rfl (lv_at hl 2 rfl) ?_
                  refine va_calli (va_runV (As := [.int (nI (bmV (mbV (a 3) (a 4) n) (n ^ n)).1)]) (rest := []) ⟨hx, hb, hml, hown, hts⟩ (metX2_matchBy l dC dI ct A ex o q g (va_up a 20 D) (nI (bmV (mbV (a 3) (a 4) n) (n ^ n)).1) n ((bmV (mbV (a 3) (a 4) n) (n ^ n)).1) hn6 (by omega) hn rfl (by omega)) (cwV 1 hts (lw_V q1210 q1212 qs62 q74 q1213) rfl rfl rfl (by decide +kernel) ⟨Nat.le_of_ble_eq_true rfl, Nat.le_of_ble_eq_true rfl⟩) (mPV hK hP hD _) rfl rfl hl.1 rfl (lv_room (Nat.le_of_ble_eq_true rfl)) dX2_match_102 ⟨Nat.zero_le _, Nat.zero_le _⟩) hS (fun q _ h => h) (fun q h => h) (fun r u t H1 locs ht hvm hw hB hz1 hk1 hS => ?_)
                  obtain ⟨hw, hw2⟩ := hw
                  have hw : r = (mbV (a 3) (a 4) n ((bmV (mbV (a 3) (a 4) n) (n ^ n)).1)) := hw
                  subst hw
                  subst hw2
                  obtain ⟨hP, -, hD⟩ := hB
                  rw [ht] at hP
                  generalize H1 = H at hP hS ⊢
                  have hP : va_P (dC, dI) clA (mW ct o q g (va_up a 20 (tdF n ((bmV (mbV (a 3) (a 4) n) (n ^ n)).1) n 0 D)) ++ ex) H := hP
                  have hD : va_D A (mW ct o q g (va_up a 20 (tdF n ((bmV (mbV (a 3) (a 4) n) (n ^ n)).1) n 0 D)) ++ ex) := hD
                  refine lv_pop hx hb dX2_match_105 rfl ?_
                  refine lv_iload_n hx hb dX2_match_106 rfl (lv_at hl 4 rfl) ?_
                  refine lv_if_ge (tgt := 115) hx hb dX2_match_107 (by decide) (fun c_5 => ?_) (fun c_5 => ?_)
                  · skip
                    refine lv_aload_n hx hb dX2_match_115 rfl (lv_at hl 5 rfl) ?_
                    refine lv_iload_n hx hb dX2_match_116 rfl (lv_at hl 4 rfl) ?_
                    refine vp_callSi ((va_runV (As := [.int x]) (rest := []) ⟨hx, hb, hml, hown, hts⟩ (metX2_noPerson l dC dI ct A ex o q g (va_up a 20 (tdF n ((bmV (mbV (a 3) (a 4) n) (n ^ n)).1) n 0 D)) x n hn6 hn) (cwV 1 hts (lw_V q1122 q1124 qs48 q74 q1125) rfl rfl rfl (by decide +kernel) ⟨Nat.le_of_ble_eq_true rfl, Nat.le_of_ble_eq_true rfl⟩) (mPV hK hP hD _) rfl rfl hl.1 rfl (lv_room (Nat.le_of_ble_eq_true rfl)) dX2_match_117 ⟨Nat.zero_le _, Nat.zero_le _⟩)).run (fun r hw => ?_)
                    have hw : r = (b2i (!(inP x n))) := hw
                    subst hw
                    refine bz_eq (tgt := 128) hx hb dX2_match_120 (by decide) (fun c_6 => ?_) (fun c_6 => ?_)
                    · skip
                      have bp : inP x n = true := by simpa using c_6
                      obtain ⟨ex1, hxn⟩ := inP_e (by omega) bp
                      refine lv_aload_n hx hb dX2_match_128 rfl (lv_at hl 5 rfl) ?_
                      refine m_get (v := .ref (q 20)) hx hb hts hown hK hP 20 (by decide) rfl q1004 rfl dX2_match_129 ?_
                      refine lv_iload_n hx hb dX2_match_132 rfl (lv_at hl 4 rfl) ?_
                      refine m_ild hx hb hK hP (mWa20 _ _ _ _ _ _) (tdF n ((bmV (mbV (a 3) (a 4) n) (n ^ n)).1) n 0 D) rfl (cix x) ex1 (by omega) (by decide) dX2_match_133 ?_
                      refine lv_topi (fun z_7 ez_7 => ?_)
                      have ez_7 : z_7 = (nI (dg n (bmV (mbV (a 3) (a 4) n) (n ^ n)).1 n (cix x))) := ez_7.trans (tdF_in hxn)
                      subst ez_7
                      exact W.iret (v := (nI (dg n (bmV (mbV (a 3) (a 4) n) (n ^ n)).1 n (cix x)))) hx hb hr (fun t ht hW => ⟨⟨(nI (dg n (bmV (mbV (a 3) (a 4) n) (n ^ n)).1 n (cix x))), (g, (va_up a 20 (tdF n ((bmV (mbV (a 3) (a 4) n) (n ^ n)).1) n 0 D))), rfl, ⟨(by rw [M_match, if_pos c_1, if_neg hn0, if_pos c_5, if_pos bp]), ⟨(tdF n (bmV (mbV (a 3) (a 4) n) (n ^ n)).1 n 0 D), rfl⟩⟩, by rw [ht]; exact hP, va_K.moved hW.alike hK, hD⟩, hS.F ht⟩) hS.2.2 dX2_match_134
                    · skip
                      have bp : inP x n = false := by simpa using c_6
                      refine lv_bipush (v := (-9)) hx hb dX2_match_123 (by decide) ?_
                      refine lv_goto (tgt := 134) hx hb dX2_match_125 (by decide) ?_
                      exact W.iret (v := (-9)) hx hb hr (fun t ht hW => ⟨⟨(-9), (g, (va_up a 20 (tdF n ((bmV (mbV (a 3) (a 4) n) (n ^ n)).1) n 0 D))), rfl, ⟨(by rw [M_match, if_pos c_1, if_neg hn0, if_pos c_5, if_neg (by rw [bp]; decide)]), ⟨(tdF n (bmV (mbV (a 3) (a 4) n) (n ^ n)).1 n 0 D), rfl⟩⟩, by rw [ht]; exact hP, va_K.moved hW.alike hK, hD⟩, hS.F ht⟩) hS.2.2 dX2_match_134
                  · skip
                    refine lv_iload hx hb dX2_match_110 (lv_at hl 1 rfl) ?_
                    refine lv_goto (tgt := 134) hx hb dX2_match_112 (by decide) ?_
                    exact W.iret (v := ((bmV (mbV (a 3) (a 4) n) (n ^ n)).2)) hx hb hr (fun t ht hW => ⟨⟨((bmV (mbV (a 3) (a 4) n) (n ^ n)).2), (g, (va_up a 20 (tdF n ((bmV (mbV (a 3) (a 4) n) (n ^ n)).1) n 0 D))), rfl, ⟨(by rw [M_match, if_pos c_1, if_neg hn0, if_neg c_5]), ⟨(tdF n (bmV (mbV (a 3) (a 4) n) (n ^ n)).1 n 0 D), rfl⟩⟩, by rw [ht]; exact hP, va_K.moved hW.alike hK, hD⟩, hS.F ht⟩) hS.2.2 dX2_match_134
                · skip
                  have hlt2 : rr < n ^ n := Nat.lt_of_not_le (fun z => c_4 ((nI_leI (by omega) (by omega)).mpr z))
                  refine lv_aload_n hx hb dX2_match_56 rfl (lv_at hl 5 rfl) ?_
                  refine lv_iload hx hb dX2_match_57 (lv_at hl 0 rfl) ?_
                  refine va_calli (va_runV (As := [.int (nI rr)]) (rest := []) ⟨hx, hb, hml, hown, hts⟩ (metX2_matchBy l dC dI ct A ex o q g (va_up a 20 D) (nI rr) n rr hn6 (by omega) hn rfl (by omega)) (cwV 1 hts (lw_V q1210 q1212 qs62 q74 q1213) rfl rfl rfl (by decide +kernel) ⟨Nat.le_of_ble_eq_true rfl, Nat.le_of_ble_eq_true rfl⟩) (mPV hK hP hD _) rfl rfl hl.1 rfl (lv_room (Nat.le_of_ble_eq_true rfl)) dX2_match_59 ⟨Nat.zero_le _, Nat.zero_le _⟩) hS (fun q _ h => h) (fun q h => h) (fun r u t H1 locs ht hvm hw hB hz1 hk1 hS => ?_)
                  obtain ⟨hw, hw2⟩ := hw
                  have hw : r = (mbV (a 3) (a 4) n rr) := hw
                  subst hw
                  subst hw2
                  obtain ⟨hP, -, hD⟩ := hB
                  rw [ht] at hP
                  generalize H1 = H at hP hS ⊢
                  have hP : va_P (dC, dI) clA (mW ct o q g (va_up a 20 (tdF n rr n 0 D)) ++ ex) H := hP
                  have hD : va_D A (mW ct o q g (va_up a 20 (tdF n rr n 0 D)) ++ ex) := hD
                  refine lv_istore (lv' := [(6, .int (mbV (a 3) (a 4) n rr)), (5, .int (nI rr)), (4, .int ((bmV (mbV (a 3) (a 4) n) rr).2)), (3, .int (nI (bmV (mbV (a 3) (a 4) n) rr).1)), (2, .int (nI (n ^ n))), (1, .int x), (0, .ref o)]) hx hb dX2_match_62 hl (by decide) rfl (fun ls hl => ?_)
                  refine lv_iload hx hb dX2_match_64 (lv_at hl 0 rfl) ?_
                  refine lv_iload hx hb dX2_match_66 (lv_at hl 2 rfl) ?_
                  refine lv_icmp_le (tgt := 76) hx hb dX2_match_68 (by decide) (fun c_8 => ?_) (fun c_8 => ?_)
                  · skip
                    have eb := bmV_k c_8
                    refine lv_iload_n hx hb dX2_match_76 rfl (lv_at hl 3 rfl) ?_
                    refine lv_istore_n (lv' := [(3, .int (nI (bmV (mbV (a 3) (a 4) n) rr).1)), (6, .int (mbV (a 3) (a 4) n rr)), (5, .int (nI rr)), (4, .int ((bmV (mbV (a 3) (a 4) n) rr).2)), (2, .int (nI (n ^ n))), (1, .int x), (0, .ref o)]) hx hb dX2_match_77 rfl hl (by decide) rfl (fun ls hl => ?_)
                    refine lv_iload hx hb dX2_match_78 (lv_at hl 1 rfl) ?_
                    refine lv_iload hx hb dX2_match_80 (lv_at hl 3 rfl) ?_
                    refine lv_icmp_le (tgt := 90) hx hb dX2_match_82 (by decide) (fun c_9 => ?_) (fun c_9 => ?_)
                    · skip
                      refine lv_iload hx hb dX2_match_90 (lv_at hl 3 rfl) ?_
                      refine lv_istore (lv' := [(4, .int ((bmV (mbV (a 3) (a 4) n) rr).2)), (3, .int (nI (bmV (mbV (a 3) (a 4) n) rr).1)), (6, .int (mbV (a 3) (a 4) n rr)), (5, .int (nI rr)), (2, .int (nI (n ^ n))), (1, .int x), (0, .ref o)]) hx hb dX2_match_92 hl (by decide) rfl (fun ls hl => ?_)
                      refine lv_iinc (v := (nI (rr + 1))) (lv' := [(5, .int (nI (rr + 1))), (4, .int ((bmV (mbV (a 3) (a 4) n) rr).2)), (3, .int (nI (bmV (mbV (a 3) (a 4) n) rr).1)), (6, .int (mbV (a 3) (a 4) n rr)), (2, .int (nI (n ^ n))), (1, .int x), (0, .ref o)]) hx hb dX2_match_94 hl (k := 3) rfl (nI_1 rr) (by decide) rfl (fun ls hl => ?_)
                      refine lv_goto (tgt := 50) hx hb dX2_match_97 (by decide) ?_
                      exact ih2 (rr + 1) (tdF n rr n 0 D) (by omega) (by omega) _ _ hP hD hS _ (by rw [eb]; exact (lv_sub hl [0, 1, 2, 4, 5, 6] rfl))
                    · skip
                      exact absurd c_8 c_9
                  · skip
                    have eb := bmV_n c_8
                    refine lv_iload hx hb dX2_match_71 (lv_at hl 1 rfl) ?_
                    refine lv_goto (tgt := 77) hx hb dX2_match_73 (by decide) ?_
                    refine lv_istore_n (lv' := [(3, .int (nI rr)), (6, .int (mbV (a 3) (a 4) n rr)), (5, .int (nI rr)), (4, .int ((bmV (mbV (a 3) (a 4) n) rr).2)), (2, .int (nI (n ^ n))), (1, .int x), (0, .ref o)]) hx hb dX2_match_77 rfl hl (by decide) rfl (fun ls hl => ?_)
                    refine lv_iload hx hb dX2_match_78 (lv_at hl 1 rfl) ?_
                    refine lv_iload hx hb dX2_match_80 (lv_at hl 3 rfl) ?_
                    refine lv_icmp_le (tgt := 90) hx hb dX2_match_82 (by decide) (fun c_10 => ?_) (fun c_10 => ?_)
                    · skip
                      exact absurd c_10 c_8
                    · skip
                      refine lv_iload hx hb dX2_match_85 (lv_at hl 1 rfl) ?_
                      refine lv_goto (tgt := 92) hx hb dX2_match_87 (by decide) ?_
                      refine lv_istore (lv' := [(4, .int (mbV (a 3) (a 4) n rr)), (3, .int (nI rr)), (6, .int (mbV (a 3) (a 4) n rr)), (5, .int (nI rr)), (2, .int (nI (n ^ n))), (1, .int x), (0, .ref o)]) hx hb dX2_match_92 hl (by decide) rfl (fun ls hl => ?_)
                      refine lv_iinc (v := (nI (rr + 1))) (lv' := [(5, .int (nI (rr + 1))), (4, .int (mbV (a 3) (a 4) n rr)), (3, .int (nI rr)), (6, .int (mbV (a 3) (a 4) n rr)), (2, .int (nI (n ^ n))), (1, .int x), (0, .ref o)]) hx hb dX2_match_94 hl (k := 3) rfl (nI_1 rr) (by decide) rfl (fun ls hl => ?_)
                      refine lv_goto (tgt := 50) hx hb dX2_match_97 (by decide) ?_
                      exact ih2 (rr + 1) (tdF n rr n 0 D) (by omega) (by omega) _ _ hP hD hS _ (by rw [eb]; exact (lv_sub hl [0, 1, 2, 4, 5, 6] rfl))
            exact loop2 (n ^ n + 1) 0 (a 20) (Nat.zero_le _) (Nat.le_of_eq (Nat.zero_add _).symm) _ _ hP hD hS _ (lv_sub hl [0, 1, 2, 3, 4, 5] rfl)
          · skip
            have hlt : k < n := by rw [hn] at c_3; exact Nat.lt_of_not_le (fun z => c_3 ((nI_leI (by omega) (by omega)).mpr z))
            refine lv_iload_n hx hb dX2_match_29 rfl (lv_at hl 1 rfl) ?_
            refine lv_aload_n hx hb dX2_match_30 rfl (lv_at hl 3 rfl) ?_
            refine m_get (v := .int (g 1)) hx hb hts hown hK hP 1 (by decide) rfl q985 rfl dX2_match_31 ?_
            refine lv_imul hx hb dX2_match_34 ?_
            refine lv_topi (fun z_11 ez_11 => ?_)
            have ez_11 : z_11 = (nI (n ^ (k + 1))) := ez_11.trans (by rw [hn]; exact (pk_mul (n ^ k) n).trans (congrArg nI (Nat.pow_succ ..).symm))
            subst ez_11
            refine lv_istore_n (lv' := [(2, .int (nI (n ^ (k + 1)))), (3, .int (nI k)), (1, .int x), (0, .ref o)]) hx hb dX2_match_35 rfl hl (by decide) rfl (fun ls hl => ?_)
            refine lv_iinc (v := (nI (k + 1))) (lv' := [(3, .int (nI (k + 1))), (2, .int (nI (n ^ (k + 1)))), (1, .int x), (0, .ref o)]) hx hb dX2_match_36 hl (k := 1) rfl (nI_1 k) (by decide) rfl (fun ls hl => ?_)
            refine lv_goto (tgt := 21) hx hb dX2_match_39 (by decide) ?_
            exact ih1 (k + 1) (by omega) (by omega) _ _ hP hD hS _ (lv_sub hl [0, 1, 2, 3] rfl)
      exact loop1 (n + 1) 0 (by omega) (by omega) _ _ hP hD hS _ (lv_sub hl [0, 1, 3, 2] rfl)
    · skip
      have hn0 : n = 0 := by rw [hn] at c_2; exact (nI_eq (a := n) (b := 0) (by omega) (by omega)).mp c_2
      refine lv_bipush (v := (-3)) hx hb dX2_match_14 (by decide) ?_
      exact W.iret (v := (-3)) hx hb hr (fun t ht hW => ⟨⟨(-3), (g, a), rfl, ⟨(by rw [M_match, if_pos c_1, if_pos hn0]), ⟨a 20, (congrArg (Prod.mk g) (va_up_id a 20)).symm⟩⟩, by rw [ht]; exact hP, va_K.moved hW.alike hK, hD⟩, hS.F ht⟩) hS.2.2 dX2_match_16
  · skip
    refine lv_iconst (v := (-1)) hx hb dX2_match_5 (by decide) ?_
    exact W.iret (v := (-1)) hx hb hr (fun t ht hW => ⟨⟨(-1), (g, a), rfl, ⟨(by rw [M_match, if_neg c_1]), ⟨a 20, (congrArg (Prod.mk g) (va_up_id a 20)).symm⟩⟩, by rw [ht]; exact hP, va_K.moved hW.alike hK, hD⟩, hS.F ht⟩) hS.2.2 dX2_match_6
