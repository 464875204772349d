/-! THE MODEL: the way home, loans -/
set_option maxHeartbeats 4000000 in
set_option maxRecDepth 100000 in
theorem metX2_homeBy (l : Launch) (dC : Nat → ClassId) (dI : Nat → Nat → Nat) (ct : Nat → ClassId) (A : Nat → Prop) (ex : va_W) (o : Nat) (q : Nat → Nat) (g : Nat → Int32) (a : Nat → Nat → Int32)  (n : Nat) (hn6 : n ≤ 6) (hn : g 1 = nI n) (hh : hasOk n (a 12)) : Met l yX2_homeBy (ws_ yX2_homeBy cX2_homeBy 5 (some .int)) ({ frames := 1, cells := 0, slots := 0, locals := 21 }) (mPre dC dI ct A ex o q g a [.ref o]) (vp_Si (fun r => r = (hmV n ((a 12), (a 13), (a 14), (a 15), (a 16))))) 0 0 (fun _ => False) := by
  refine Met.ofW (cc := cX2_homeBy) (maxL := 5) (ret := (some .int)) (by decide) rfl ?_
  intro p e s m args below meth c s₁ B hml hv
  obtain ⟨rfl, hP, hK, hD⟩ := hv
  have hx := B.exec
  have hb := B.bytes
  have hr := B.returns
  have hts := atoms_spec (ws := ws_ yX2_homeBy cX2_homeBy 5 (some .int)) B.pre
  have hts : ∀ w ∈ lw_all, w.before _ s = true := fun w h => hts w (List.mem_cons_of_mem _ h)
  have hown : s.vm.findClass RX2 = some m.cls := findClass_of_methodNamed B.named
  have hlocks := B.notSynchronized
  have hS : va_S A s.heap s.heap [] := va_S.rf
  have hl := lv_entry ([.ref o]) (n := 5) (Nat.le_of_ble_eq_true rfl)
  rw [lg_entry_eq]
  generalize (lg_sl ([.ref o]) ++ List.replicate (5 - (lg_sl ([.ref o])).length) Slot.unset).toArray = ls at hl ⊢
  have hl : lv_has ls 5 [(0, .ref o)] := hl
  refine lv_iconst (v := 0) hx hb dX2_homeBy_0 (by decide) ?_
  refine lv_topi (fun z_1 ez_1 => ?_)
  have ez_1 : z_1 = (mset (homM (fun j => cix (a 12 j)) n 0).1 n) := ez_1.trans (mset_F n).symm
  subst ez_1
  refine lv_istore_n (lv' := [(1, .int (mset (homM (fun j => cix (a 12 j)) n 0).1 n)), (0, .ref o)]) hx hb dX2_homeBy_1 rfl hl (by decide) rfl (fun ls hl => ?_)
  refine lv_iconst (v := 0) hx hb dX2_homeBy_2 (by decide) ?_
  refine lv_istore_n (lv' := [(2, .int 0), (1, .int (mset (homM (fun j => cix (a 12 j)) n 0).1 n)), (0, .ref o)]) hx hb dX2_homeBy_3 rfl hl (by decide) rfl (fun ls hl => ?_)
  refine lv_iconst (v := 0) hx hb dX2_homeBy_4 (by decide) ?_
  refine lv_istore_n (lv' := [(3, .int 0), (2, .int 0), (1, .int (mset (homM (fun j => cix (a 12 j)) n 0).1 n)), (0, .ref o)]) hx hb dX2_homeBy_5 rfl hl (by decide) rfl (fun ls hl => ?_)
  have loop1 : ∀ (f1 : Nat) (j1 : Nat), j1 ≤ n → n + 1 ≤ j1 + f1 → ∀ (ls : Array Slot), lv_has ls 5 [(3, .int (nI j1)), (2, .int (nI (homM (fun j => cix (a 12 j)) n j1).2)), (1, .int (mset (homM (fun j => cix (a 12 j)) n j1).1 n)), (0, .ref o)] → W p l e (headSpec (ws_ yX2_homeBy cX2_homeBy 5 (some .int)) ({ frames := 1, cells := 0, slots := 0, locals := 21 })).room s m ([.ref o] : List Value).toArray below meth c s.heap [] 0 0 (MQ below (vp_Si (fun r => r = (hmV n ((a 12), (a 13), (a 14), (a 15), (a 16))))) ([.ref o] : List Value).toArray s 0 0 (fun _ => False)) (F0 m 6 ls []) := by
    intro f1
    induction f1 with
    | zero => intro j1 hj hf; exact False.elim (by omega)
    | succ f1 ih1 =>
      intro j1 hj hf ls hl
      refine lv_iload_n hx hb dX2_homeBy_6 rfl (lv_at hl 0 rfl) ?_
      refine lv_aload_n hx hb dX2_homeBy_7 rfl (lv_at hl 3 rfl) ?_
      refine m_get (v := .int (g 1)) hx hb hts hown hK hP 1 (by decide) rfl q985 rfl dX2_homeBy_8 ?_
      refine lv_icmp_ge (tgt := 67) hx hb dX2_homeBy_11 (by decide) (fun c_2 => ?_) (fun c_2 => ?_)
      · skip
        have hge : j1 = n := by rw [hn] at c_2; exact Nat.le_antisymm (by omega) ((nI_leI (by omega) (by omega)).mp c_2)
        refine lv_aload_n hx hb dX2_homeBy_67 rfl (lv_at hl 3 rfl) ?_
        refine m_get (v := .int (g 1)) hx hb hts hown hK hP 1 (by decide) rfl q985 rfl dX2_homeBy_68 ?_
        refine lv_iload_n hx hb dX2_homeBy_71 rfl (lv_at hl 1 rfl) ?_
        refine lv_isub hx hb dX2_homeBy_72 ?_
        exact W.iret (v := ((g 1) - (nI (homM (fun j => cix (a 12 j)) n j1).2))) hx hb hr (fun t ht hW => ⟨((g 1) - (nI (homM (fun j => cix (a 12 j)) n j1).2)), rfl, (by rw [hge, hn]; rfl), ht⟩) (fun q h => by cases h) dX2_homeBy_73
      · skip
        have hlt : j1 < n := by rw [hn] at c_2; exact Nat.lt_of_not_le (fun z => c_2 ((nI_leI (by omega) (by omega)).mpr z))
        have hbq : bq (mset (homM (fun j => cix (a 12 j)) n j1).1 n) (nI j1) = (homM (fun j => cix (a 12 j)) n j1).1 j1 := mset_bq _ (by omega) hlt
        refine lv_iload_n hx hb dX2_homeBy_14 rfl (lv_at hl 1 rfl) ?_
        refine lv_iload_n hx hb dX2_homeBy_15 rfl (lv_at hl 2 rfl) ?_
        refine lv_iload_n hx hb dX2_homeBy_16 rfl (lv_at hl 0 rfl) ?_
        refine vp_callSi ((va_runS (As := [.int (mset (homM (fun j => cix (a 12 j)) n j1).1 n), .int (nI j1)]) (rest := [.int (nI (homM (fun j => cix (a 12 j)) n j1).2)]) ⟨hx, hb, hml, hown, hts⟩ (metX2_isIn l (mset (homM (fun j => cix (a 12 j)) n j1).1 n) (nI j1) ) (va_cwS 2 hts (lw_S q1166 q1167 q74 q1168) rfl rfl rfl (by decide +kernel) ⟨Nat.le_of_ble_eq_true rfl, Nat.le_of_ble_eq_true rfl⟩) (pcS _) rfl rfl hl.1 rfl (lv_room (Nat.le_of_ble_eq_true rfl)) dX2_homeBy_17 ⟨Nat.zero_le _, Nat.zero_le _⟩)).run (fun r hw => ?_)
        have hw : r = (b2i (bq (mset (homM (fun j => cix (a 12 j)) n j1).1 n) (nI j1))) := hw
        subst hw
        refine bz_eq (tgt := 27) hx hb dX2_homeBy_20 (by decide) (fun c_3 => ?_) (fun c_3 => ?_)
        · skip
          refine lv_iconst (v := 1) hx hb dX2_homeBy_27 (by decide) ?_
          refine lv_iadd hx hb dX2_homeBy_28 ?_
          refine lv_topi (fun z_4 ez_4 => ?_)
          have ez_4 : z_4 = (nI (homM (fun j => cix (a 12 j)) n (j1 + 1)).2) := ez_4.trans (show nI (homM (fun j => cix (a 12 j)) n j1).2 + 1 = nI ((homM (fun j => cix (a 12 j)) n j1).2 + (if (homM (fun j => cix (a 12 j)) n j1).1 j1 = true then 0 else 1)) by rw [hbq] at c_3; rw [if_neg (by rw [c_3]; decide)]; exact nI_1 _)
          subst ez_4
          refine lv_istore_n (lv' := [(2, .int (nI (homM (fun j => cix (a 12 j)) n (j1 + 1)).2)), (3, .int (nI j1)), (1, .int (mset (homM (fun j => cix (a 12 j)) n j1).1 n)), (0, .ref o)]) hx hb dX2_homeBy_29 rfl hl (by decide) rfl (fun ls hl => ?_)
          refine lv_iload_n hx hb dX2_homeBy_30 rfl (lv_at hl 1 rfl) ?_
          refine lv_istore (lv' := [(4, .int (nI j1)), (2, .int (nI (homM (fun j => cix (a 12 j)) n (j1 + 1)).2)), (3, .int (nI j1)), (1, .int (mset (homM (fun j => cix (a 12 j)) n j1).1 n)), (0, .ref o)]) hx hb dX2_homeBy_31 hl (by decide) rfl (fun ls hl => ?_)
          have loop2 : ∀ (f2 : Nat) (S : Nat → Bool) (y : Nat), y < n → ring (fun j => cix (a 12 j)) f2 S y = (ring (fun j => cix (a 12 j)) (n + 1) (homM (fun j => cix (a 12 j)) n j1).1 j1) → cU S n < f2 → ∀ (ls : Array Slot), lv_has ls 5 [(4, .int (nI y)), (3, .int (nI j1)), (2, .int (nI (homM (fun j => cix (a 12 j)) n (j1 + 1)).2)), (1, .int (mset S n)), (0, .ref o)] → W p l e (headSpec (ws_ yX2_homeBy cX2_homeBy 5 (some .int)) ({ frames := 1, cells := 0, slots := 0, locals := 21 })).room s m ([.ref o] : List Value).toArray below meth c s.heap [] 0 0 (MQ below (vp_Si (fun r => r = (hmV n ((a 12), (a 13), (a 14), (a 15), (a 16))))) ([.ref o] : List Value).toArray s 0 0 (fun _ => False)) (F0 m 33 ls []) := by
            intro f2
            induction f2 with
            | zero => intro S y hy hT hc; exact False.elim (by omega)
            | succ f2 ih2 =>
              intro S y hy hT hc ls hl
              refine lv_iload_n hx hb dX2_homeBy_33 rfl (lv_at hl 3 rfl) ?_
              refine lv_iload hx hb dX2_homeBy_34 (lv_at hl 0 rfl) ?_
              refine vp_callSi ((va_runS (As := [.int (mset S n), .int (nI y)]) (rest := []) ⟨hx, hb, hml, hown, hts⟩ (metX2_isIn l (mset S n) (nI y) ) (va_cwS 2 hts (lw_S q1166 q1167 q74 q1168) rfl rfl rfl (by decide +kernel) ⟨Nat.le_of_ble_eq_true rfl, Nat.le_of_ble_eq_true rfl⟩) (pcS _) rfl rfl hl.1 rfl (lv_room (Nat.le_of_ble_eq_true rfl)) dX2_homeBy_36 ⟨Nat.zero_le _, Nat.zero_le _⟩)).run (fun r hw => ?_)
              have hw : r = (b2i (bq (mset S n) (nI y))) := hw
              subst hw
              refine bz_ne (tgt := 61) hx hb dX2_homeBy_39 (by decide) (fun c_5 => ?_) (fun c_5 => ?_)
              · skip
                have hSy : S y = true := by rw [← c_5]; exact (mset_bq S (by omega) hy).symm
                have eS : S = (homM (fun j => cix (a 12 j)) n (j1 + 1)).1 := by show S = (ring (fun j => cix (a 12 j)) (n + 1) (homM (fun j => cix (a 12 j)) n j1).1 j1); rw [← hT, ring_t hSy]
                rw [eS] at hl
                refine lv_iinc (v := (nI (j1 + 1))) (lv' := [(3, .int (nI (j1 + 1))), (4, .int (nI y)), (2, .int (nI (homM (fun j => cix (a 12 j)) n (j1 + 1)).2)), (1, .int (mset (homM (fun j => cix (a 12 j)) n (j1 + 1)).1 n)), (0, .ref o)]) hx hb dX2_homeBy_61 hl (k := 1) rfl (nI_1 j1) (by decide) rfl (fun ls hl => ?_)
                refine lv_goto (tgt := 6) hx hb dX2_homeBy_64 (by decide) ?_
                exact ih1 (j1 + 1) (by omega) (by omega) _ (lv_sub hl [0, 2, 3, 4] rfl)
              · skip
                have hSy : S y = false := by rw [← c_5]; exact (mset_bq S (by omega) hy).symm
                refine lv_iload_n hx hb dX2_homeBy_42 rfl (lv_at hl 3 rfl) ?_
                refine lv_iconst (v := 1) hx hb dX2_homeBy_43 (by decide) ?_
                refine lv_iload hx hb dX2_homeBy_44 (lv_at hl 0 rfl) ?_
                refine lv_ishl hx hb dX2_homeBy_46 ?_
                refine lv_ior hx hb dX2_homeBy_47 ?_
                refine lv_topi (fun z_6 ez_6 => ?_)
                have ez_6 : z_6 = (mset (setB S y) n) := ez_6.trans (mset_set S (by omega) hy)
                subst ez_6
                refine lv_istore_n (lv' := [(1, .int (mset (setB S y) n)), (4, .int (nI y)), (3, .int (nI j1)), (2, .int (nI (homM (fun j => cix (a 12 j)) n (j1 + 1)).2)), (0, .ref o)]) hx hb dX2_homeBy_48 rfl hl (by decide) rfl (fun ls hl => ?_)
                refine lv_aload_n hx hb dX2_homeBy_49 rfl (lv_at hl 4 rfl) ?_
                refine m_get (v := .ref (q 12)) hx hb hts hown hK hP 12 (by decide) rfl q996 rfl dX2_homeBy_50 ?_
                refine lv_iload hx hb dX2_homeBy_53 (lv_at hl 1 rfl) ?_
                refine m_ild hx hb hK hP (mWa12 _ _ _ _ _ _) (a 12) rfl y rfl (Nat.lt_of_lt_of_le hy hn6) (by decide) dX2_homeBy_55 ?_
                refine lv_topi (fun z_7 ez_7 => ?_)
                have ez_7 : z_7 = (nI (cix (a 12 y))) := ez_7.trans (hh y hy).1
                subst ez_7
                refine lv_istore (lv' := [(4, .int (nI (cix (a 12 y)))), (1, .int (mset (setB S y) n)), (3, .int (nI j1)), (2, .int (nI (homM (fun j => cix (a 12 j)) n (j1 + 1)).2)), (0, .ref o)]) hx hb dX2_homeBy_56 hl (by decide) rfl (fun ls hl => ?_)
                refine lv_goto (tgt := 33) hx hb dX2_homeBy_58 (by decide) ?_
                exact ih2 (setB S y) (cix (a 12 y)) (hh y hy).2 (by rw [← hT, ring_f hSy]) (by have z := cU_lt hSy hy; omega) _ (lv_sub hl [0, 2, 3, 1, 4] rfl)
          exact loop2 (n + 1) ((homM (fun j => cix (a 12 j)) n j1).1) j1 hlt rfl (Nat.lt_succ_of_le (cU_le _ _)) _ (lv_sub hl [0, 2, 1, 3, 4] rfl)
        · skip
          refine lv_iconst (v := 0) hx hb dX2_homeBy_23 (by decide) ?_
          refine lv_goto (tgt := 28) hx hb dX2_homeBy_24 (by decide) ?_
          refine lv_iadd hx hb dX2_homeBy_28 ?_
          refine lv_topi (fun z_8 ez_8 => ?_)
          have ez_8 : z_8 = (nI (homM (fun j => cix (a 12 j)) n (j1 + 1)).2) := ez_8.trans (show nI (homM (fun j => cix (a 12 j)) n j1).2 + 0 = nI ((homM (fun j => cix (a 12 j)) n j1).2 + (if (homM (fun j => cix (a 12 j)) n j1).1 j1 = true then 0 else 1)) by rw [hbq] at c_3; rw [if_pos c_3]; exact nI_add _ 0)
          subst ez_8
          refine lv_istore_n (lv' := [(2, .int (nI (homM (fun j => cix (a 12 j)) n (j1 + 1)).2)), (3, .int (nI j1)), (1, .int (mset (homM (fun j => cix (a 12 j)) n j1).1 n)), (0, .ref o)]) hx hb dX2_homeBy_29 rfl hl (by decide) rfl (fun ls hl => ?_)
          refine lv_iload_n hx hb dX2_homeBy_30 rfl (lv_at hl 1 rfl) ?_
          refine lv_istore (lv' := [(4, .int (nI j1)), (2, .int (nI (homM (fun j => cix (a 12 j)) n (j1 + 1)).2)), (3, .int (nI j1)), (1, .int (mset (homM (fun j => cix (a 12 j)) n j1).1 n)), (0, .ref o)]) hx hb dX2_homeBy_31 hl (by decide) rfl (fun ls hl => ?_)
          have loop3 : ∀ (f2 : Nat) (S : Nat → Bool) (y : Nat), y < n → ring (fun j => cix (a 12 j)) f2 S y = (ring (fun j => cix (a 12 j)) (n + 1) (homM (fun j => cix (a 12 j)) n j1).1 j1) → cU S n < f2 → ∀ (ls : Array Slot), lv_has ls 5 [(4, .int (nI y)), (3, .int (nI j1)), (2, .int (nI (homM (fun j => cix (a 12 j)) n (j1 + 1)).2)), (1, .int (mset S n)), (0, .ref o)] → W p l e (headSpec (ws_ yX2_homeBy cX2_homeBy 5 (some .int)) ({ frames := 1, cells := 0, slots := 0, locals := 21 })).room s m ([.ref o] : List Value).toArray below meth c s.heap [] 0 0 (MQ below (vp_Si (fun r => r = (hmV n ((a 12), (a 13), (a 14), (a 15), (a 16))))) ([.ref o] : List Value).toArray s 0 0 (fun _ => False)) (F0 m 33 ls []) := by
            intro f2
            induction f2 with
            | zero => intro S y hy hT hc; exact False.elim (by omega)
            | succ f2 ih3 =>
              intro S y hy hT hc ls hl
              refine lv_iload_n hx hb dX2_homeBy_33 rfl (lv_at hl 3 rfl) ?_
              refine lv_iload hx hb dX2_homeBy_34 (lv_at hl 0 rfl) ?_
              refine vp_callSi ((va_runS (As := [.int (mset S n), .int (nI y)]) (rest := []) ⟨hx, hb, hml, hown, hts⟩ (metX2_isIn l (mset S n) (nI y) ) (va_cwS 2 hts (lw_S q1166 q1167 q74 q1168) rfl rfl rfl (by decide +kernel) ⟨Nat.le_of_ble_eq_true rfl, Nat.le_of_ble_eq_true rfl⟩) (pcS _) rfl rfl hl.1 rfl (lv_room (Nat.le_of_ble_eq_true rfl)) dX2_homeBy_36 ⟨Nat.zero_le _, Nat.zero_le _⟩)).run (fun r hw => ?_)
              have hw : r = (b2i (bq (mset S n) (nI y))) := hw
              subst hw
              refine bz_ne (tgt := 61) hx hb dX2_homeBy_39 (by decide) (fun c_9 => ?_) (fun c_9 => ?_)
              · skip
                have hSy : S y = true := by rw [← c_9]; exact (mset_bq S (by omega) hy).symm
                have eS : S = (homM (fun j => cix (a 12 j)) n (j1 + 1)).1 := by show S = (ring (fun j => cix (a 12 j)) (n + 1) (homM (fun j => cix (a 12 j)) n j1).1 j1); rw [← hT, ring_t hSy]
                rw [eS] at hl
                refine lv_iinc (v := (nI (j1 + 1))) (lv' := [(3, .int (nI (j1 + 1))), (4, .int (nI y)), (2, .int (nI (homM (fun j => cix (a 12 j)) n (j1 + 1)).2)), (1, .int (mset (homM (fun j => cix (a 12 j)) n (j1 + 1)).1 n)), (0, .ref o)]) hx hb dX2_homeBy_61 hl (k := 1) rfl (nI_1 j1) (by decide) rfl (fun ls hl => ?_)
                refine lv_goto (tgt := 6) hx hb dX2_homeBy_64 (by decide) ?_
                exact ih1 (j1 + 1) (by omega) (by omega) _ (lv_sub hl [0, 2, 3, 4] rfl)
              · skip
                have hSy : S y = false := by rw [← c_9]; exact (mset_bq S (by omega) hy).symm
                refine lv_iload_n hx hb dX2_homeBy_42 rfl (lv_at hl 3 rfl) ?_
                refine lv_iconst (v := 1) hx hb dX2_homeBy_43 (by decide) ?_
                refine lv_iload hx hb dX2_homeBy_44 (lv_at hl 0 rfl) ?_
                refine lv_ishl hx hb dX2_homeBy_46 ?_
                refine lv_ior hx hb dX2_homeBy_47 ?_
                refine lv_topi (fun z_10 ez_10 => ?_)
                have ez_10 : z_10 = (mset (setB S y) n) := ez_10.trans (mset_set S (by omega) hy)
                subst ez_10
                refine lv_istore_n (lv' := [(1, .int (mset (setB S y) n)), (4, .int (nI y)), (3, .int (nI j1)), (2, .int (nI (homM (fun j => cix (a 12 j)) n (j1 + 1)).2)), (0, .ref o)]) hx hb dX2_homeBy_48 rfl hl (by decide) rfl (fun ls hl => ?_)
                refine lv_aload_n hx hb dX2_homeBy_49 rfl (lv_at hl 4 rfl) ?_
                refine m_get (v := .ref (q 12)) hx hb hts hown hK hP 12 (by decide) rfl q996 rfl dX2_homeBy_50 ?_
                refine lv_iload hx hb dX2_homeBy_53 (lv_at hl 1 rfl) ?_
                refine m_ild hx hb hK hP (mWa12 _ _ _ _ _ _) (a 12) rfl y rfl (Nat.lt_of_lt_of_le hy hn6) (by decide) dX2_homeBy_55 ?_
                refine lv_topi (fun z_11 ez_11 => ?_)
                have ez_11 : z_11 = (nI (cix (a 12 y))) := ez_11.trans (hh y hy).1
                subst ez_11
                refine lv_istore (lv' := [(4, .int (nI (cix (a 12 y)))), (1, .int (mset (setB S y) n)), (3, .int (nI j1)), (2, .int (nI (homM (fun j => cix (a 12 j)) n (j1 + 1)).2)), (0, .ref o)]) hx hb dX2_homeBy_56 hl (by decide) rfl (fun ls hl => ?_)
                refine lv_goto (tgt := 33) hx hb dX2_homeBy_58 (by decide) ?_
                exact ih3 (setB S y) (cix (a 12 y)) (hh y hy).2 (by rw [← hT, ring_f hSy]) (by have z := cU_lt hSy hy; omega) _ (lv_sub hl [0, 2, 3, 1, 4] rfl)
          exact loop3 (n + 1) ((homM (fun j => cix (a 12 j)) n j1).1) j1 hlt rfl (Nat.lt_succ_of_le (cU_le _ _)) _ (lv_sub hl [0, 2, 1, 3, 4] rfl)
  exact loop1 (n + 1) 0 (by omega) (by omega) _ (lv_sub hl [0, 1, 2, 3] rfl)
set_option maxHeartbeats 4000000 in
set_option maxRecDepth 100000 in
theorem metX2_loans (l : Launch) (dC : Nat → ClassId) (dI : Nat → Nat → Nat) (ct : Nat → ClassId) (A : Nat → Prop) (ex : va_W) (o : Nat) (q : Nat → Nat) (g : Nat → Int32) (a : Nat → Nat → Int32) (x : Int32) (lane : Int32) (ii : Int32) (z : Int32) (w : Int32) (n : Nat) (hn6 : n ≤ 6) (hn : g 1 = nI n) (hz : szOk (a 25)) : Met l yX2_loans (ws_ yX2_loans cX2_loans 9 (some .int)) ({ frames := 4, cells := 0, slots := 0, locals := 92 }) (mPre dC dI ct A ex o q g a [.ref o, .int x, .int lane, .int ii, .int z, .int w]) (va_Qi (fun (r : Int32) (u : (Nat → Int32) × (Nat → Nat → Int32)) => r = (M_loans n a x lane ii z w).1 ∧ ∃ (T : LnS (Nat → Int32) × Int32 × Int32), u = ((upd (upd (upd g 0 ((M_loans n a x lane ii z w).2)) 17 T.2.1) 18 T.2.2), (va_up (va_up (va_up (va_up (va_up a 12 ((T.1).1)) 13 ((T.1).2.1)) 14 ((T.1).2.2.1)) 15 ((T.1).2.2.2.1)) 16 ((T.1).2.2.2.2)))) (mB dC dI ct A ex o q) A) 0 0 A := by
  refine Met.ofW (cc := cX2_loans) (maxL := 9) (ret := (some .int)) (by decide) rfl ?_
  intro p e s m args below meth c s₁ B hml hv
  obtain ⟨rfl, hP, hK, hD⟩ := hv
  have hx := B.exec
  have hb := B.bytes
  have hr := B.returns
  have hts := atoms_spec (ws := ws_ yX2_loans cX2_loans 9 (some .int)) B.pre
  have hts : ∀ w ∈ lw_all, w.before _ s = true := fun w h => hts w (List.mem_cons_of_mem _ h)
  have hown : s.vm.findClass RX2 = some m.cls := findClass_of_methodNamed B.named
  have hlocks := B.notSynchronized
  have hS : va_S A s.heap s.heap [] := va_S.rf
  have hl := lv_entry ([.ref o, .int x, .int lane, .int ii, .int z, .int w]) (n := 9) (Nat.le_of_ble_eq_true rfl)
  rw [lg_entry_eq]
  generalize (lg_sl ([.ref o, .int x, .int lane, .int ii, .int z, .int w]) ++ List.replicate (9 - (lg_sl ([.ref o, .int x, .int lane, .int ii, .int z, .int w])).length) Slot.unset).toArray = ls at hl ⊢
  have hl : lv_has ls 9 [(0, .ref o), (1, .int x), (2, .int lane), (3, .int ii), (4, .int z), (5, .int w)] := hl
  refine lv_iload_n hx hb dX2_loans_0 rfl (lv_at hl 1 rfl) ?_
  refine vp_callSi ((va_runS (As := [.int x]) (rest := []) ⟨hx, hb, hml, hown, hts⟩ (metX2_noSheet l x ) (va_cwS 1 hts (lw_S q1079 q1080 q74 q1081) rfl rfl rfl (by decide +kernel) ⟨Nat.le_of_ble_eq_true rfl, Nat.le_of_ble_eq_true rfl⟩) (pcS _) rfl rfl hl.1 rfl (lv_room (Nat.le_of_ble_eq_true rfl)) dX2_loans_1 ⟨Nat.zero_le _, Nat.zero_le _⟩)).run (fun r hw => ?_)
  have hw : r = (b2i (!(inP x 4))) := hw
  subst hw
  refine bz_eq (tgt := 13) hx hb dX2_loans_4 (by decide) (fun c_1 => ?_) (fun c_1 => ?_)
  · skip
    obtain ⟨K, hK4, ekK⟩ := inP_of (x := x) (n := 4) (by omega) (by simpa using c_1)
    subst ekK
    have eK : cix (nI K) = K := cix_nI (by omega)
    have bK : inP (nI K) 4 = true := by rw [inP_nI (by omega)]; exact decide_eq_true hK4
    have join1 : ∀ (H : Heap) (locs : List Loc), va_P (dC, dI) clA (mW ct o q g a ++ ex) H → va_D A (mW ct o q g a ++ ex) → va_S A s.heap H locs → ∀ (ls : Array Slot), lv_has ls 9 [(0, .ref o), (1, .int (nI K)), (2, .int lane), (3, .int ii), (4, .int z), (5, .int w)] → W p l e (headSpec (ws_ yX2_loans cX2_loans 9 (some .int)) ({ frames := 4, cells := 0, slots := 0, locals := 92 })).room s m ([.ref o, .int (nI K), .int lane, .int ii, .int z, .int w] : List Value).toArray below meth c H locs 0 0 (MQ below (va_Qi (fun (r : Int32) (u : (Nat → Int32) × (Nat → Nat → Int32)) => r = (M_loans n a (nI K) lane ii z w).1 ∧ ∃ (T : LnS (Nat → Int32) × Int32 × Int32), u = ((upd (upd (upd g 0 ((M_loans n a (nI K) lane ii z w).2)) 17 T.2.1) 18 T.2.2), (va_up (va_up (va_up (va_up (va_up a 12 ((T.1).1)) 13 ((T.1).2.1)) 14 ((T.1).2.2.1)) 15 ((T.1).2.2.2.1)) 16 ((T.1).2.2.2.2)))) (mB dC dI ct A ex o q) A) ([.ref o, .int (nI K), .int lane, .int ii, .int z, .int w] : List Value).toArray s 0 0 A) (F0 m 76 ls [.int (b2i (whatV w))]) := by
      intro   H locs hP hD hS ls hl
      refine lv_istore (lv' := [(6, .int (b2i (whatV w))), (0, .ref o), (1, .int (nI K)), (2, .int lane), (3, .int ii), (4, .int z), (5, .int w)]) hx hb dX2_loans_76 hl (by decide) rfl (fun ls hl => ?_)
      refine lv_iload_n hx hb dX2_loans_78 rfl (lv_at hl 3 rfl) ?_
      refine lv_i2l (v := (Int32.toInt64 lane)) hx hb dX2_loans_79 rfl ?_
      refine lv_lconst (v := 0) hx hb dX2_loans_80 (by decide) ?_
      refine lv_ldc2 (v := 2) hx hb hown (hts _ q1090) dX2_loans_81 ?_
      refine vp_callSi ((va_runS (As := [.long (Int32.toInt64 lane), .long 0, .long 2]) (rest := []) ⟨hx, hb, hml, hown, hts⟩ (metX2_in l (Int32.toInt64 lane) 0 2 ) (va_cwS 3 hts (lw_S q1083 q1084 q74 q1085) rfl rfl rfl (by decide +kernel) ⟨Nat.le_of_ble_eq_true rfl, Nat.le_of_ble_eq_true rfl⟩) (pcS _) rfl rfl hl.1 rfl (lv_room (Nat.le_of_ble_eq_true rfl)) dX2_loans_84 ⟨Nat.zero_le _, Nat.zero_le _⟩)).run (fun r hw => ?_)
      have hw : r = (b2i (lin (Int32.toInt64 lane) 0 2)) := hw
      subst hw
      refine bz_eq (tgt := 108) hx hb dX2_loans_87 (by decide) (fun c_2 => ?_) (fun c_2 => ?_)
      · skip
        rw [lin_inP _ _ 3 (by decide)] at c_2
        refine lv_aload_n hx hb dX2_loans_108 rfl (lv_at hl 1 rfl) ?_
        refine lv_bipush (v := (-2)) hx hb dX2_loans_109 (by decide) ?_
        refine va_calli (va_runV (As := [.int (-2)]) (rest := []) ⟨hx, hb, hml, hown, hts⟩ (metX2_refused l dC dI ct A ex o q g a (-2) ) (cwV 1 hts (lw_V q1086 q1088 qs41 q74 q1089) rfl rfl rfl (by decide +kernel) ⟨Nat.le_of_ble_eq_true rfl, Nat.le_of_ble_eq_true rfl⟩) (mPV hK hP hD _) rfl rfl hl.1 rfl (lv_room (Nat.le_of_ble_eq_true rfl)) dX2_loans_111 ⟨Nat.zero_le _, Nat.zero_le _⟩) hS (fun q _ h => h) (fun q h => h) (fun r u t H1 locs ht hvm hw hB hz1 hk1 hS => ?_)
        obtain ⟨hw, hw2⟩ := hw
        have hw : r = (-2) := hw
        subst hw
        subst hw2
        obtain ⟨hP, -, hD⟩ := hB
        rw [ht] at hP
        generalize H1 = H at hP hS ⊢
        have hP : va_P (dC, dI) clA (mW ct o q (upd g 0 0) a ++ ex) H := hP
        have hD : va_D A (mW ct o q (upd g 0 0) a ++ ex) := hD
        have eL : M_loans n a (nI K) lane ii z w = (-2, 0) := by rw [M_loans, if_pos bK, if_neg]; rintro ⟨z1, z2, z3⟩; first | exact absurd (z1.symm.trans c_2) (by decide) | exact absurd (z2.symm.trans c_2) (by decide) | exact absurd (z3.symm.trans c_2) (by decide)
        exact W.iret (v := (-2)) hx hb hr (fun t ht hW => ⟨⟨(-2), ((upd g 0 0), a), rfl, ⟨(by rw [eL]), ⟨((a 12, a 13, a 14, a 15, a 16), g 17, g 18), by rw [eL]; exact tr_id g a 0⟩⟩, by rw [ht]; exact hP, va_K.moved hW.alike hK, hD⟩, hS.F ht⟩) hS.2.2 dX2_loans_114
      · skip
        rw [lin_inP _ _ 3 (by decide)] at c_2
        have bL := c_2
        refine lv_iload hx hb dX2_loans_90 (lv_at hl 5 rfl) ?_
        refine lv_i2l (v := (Int32.toInt64 z)) hx hb dX2_loans_92 rfl ?_
        refine lv_lconst (v := 0) hx hb dX2_loans_93 (by decide) ?_
        refine lv_ldc2 (v := 20) hx hb hown (hts _ q1146) dX2_loans_94 ?_
        refine vp_callSi ((va_runS (As := [.long (Int32.toInt64 z), .long 0, .long 20]) (rest := []) ⟨hx, hb, hml, hown, hts⟩ (metX2_in l (Int32.toInt64 z) 0 20 ) (va_cwS 3 hts (lw_S q1083 q1084 q74 q1085) rfl rfl rfl (by decide +kernel) ⟨Nat.le_of_ble_eq_true rfl, Nat.le_of_ble_eq_true rfl⟩) (pcS _) rfl rfl hl.1 rfl (lv_room (Nat.le_of_ble_eq_true rfl)) dX2_loans_97 ⟨Nat.zero_le _, Nat.zero_le _⟩)).run (fun r hw => ?_)
        have hw : r = (b2i (lin (Int32.toInt64 z) 0 20)) := hw
        subst hw
        refine bz_eq (tgt := 108) hx hb dX2_loans_100 (by decide) (fun c_3 => ?_) (fun c_3 => ?_)
        · skip
          rw [lin_inP _ _ 21 (by decide)] at c_3
          refine lv_aload_n hx hb dX2_loans_108 rfl (lv_at hl 1 rfl) ?_
          refine lv_bipush (v := (-2)) hx hb dX2_loans_109 (by decide) ?_
          refine va_calli (va_runV (As := [.int (-2)]) (rest := []) ⟨hx, hb, hml, hown, hts⟩ (metX2_refused l dC dI ct A ex o q g a (-2) ) (cwV 1 hts (lw_V q1086 q1088 qs41 q74 q1089) rfl rfl rfl (by decide +kernel) ⟨Nat.le_of_ble_eq_true rfl, Nat.le_of_ble_eq_true rfl⟩) (mPV hK hP hD _) rfl rfl hl.1 rfl (lv_room (Nat.le_of_ble_eq_true rfl)) dX2_loans_111 ⟨Nat.zero_le _, Nat.zero_le _⟩) hS (fun q _ h => h) (fun q h => h) (fun r u t H1 locs ht hvm hw hB hz1 hk1 hS => ?_)
          obtain ⟨hw, hw2⟩ := hw
          have hw : r = (-2) := hw
          subst hw
          subst hw2
          obtain ⟨hP, -, hD⟩ := hB
          rw [ht] at hP
          generalize H1 = H at hP hS ⊢
          have hP : va_P (dC, dI) clA (mW ct o q (upd g 0 0) a ++ ex) H := hP
          have hD : va_D A (mW ct o q (upd g 0 0) a ++ ex) := hD
          have eL : M_loans n a (nI K) lane ii z w = (-2, 0) := by rw [M_loans, if_pos bK, if_neg]; rintro ⟨z1, z2, z3⟩; first | exact absurd (z1.symm.trans c_3) (by decide) | exact absurd (z2.symm.trans c_3) (by decide) | exact absurd (z3.symm.trans c_3) (by decide)
          exact W.iret (v := (-2)) hx hb hr (fun t ht hW => ⟨⟨(-2), ((upd g 0 0), a), rfl, ⟨(by rw [eL]), ⟨((a 12, a 13, a 14, a 15, a 16), g 17, g 18), by rw [eL]; exact tr_id g a 0⟩⟩, by rw [ht]; exact hP, va_K.moved hW.alike hK, hD⟩, hS.F ht⟩) hS.2.2 dX2_loans_114
        · skip
          rw [lin_inP _ _ 21 (by decide)] at c_3
          obtain ⟨Z, hZ, ekZ⟩ := inP_of (x := z) (n := 21) (by omega) c_3
          subst ekZ
          have eZ : cix (nI Z) = Z := cix_nI (by omega)
          have bZ : inP (nI Z) 21 = true := by rw [inP_nI (by omega)]; exact decide_eq_true hZ
          refine lv_iload hx hb dX2_loans_103 (lv_at hl 0 rfl) ?_
          refine bz_ne (tgt := 115) hx hb dX2_loans_105 (by decide) (fun c_4 => ?_) (fun c_4 => ?_)
          · skip
            have bW := c_4
            refine lv_aload_n hx hb dX2_loans_115 rfl (lv_at hl 1 rfl) ?_
            refine m_get (v := .int (g 1)) hx hb hts hown hK hP 1 (by decide) rfl q985 rfl dX2_loans_116 ?_
            refine lv_if_ne (tgt := 129) hx hb dX2_loans_119 (by decide) (fun c_5 => ?_) (fun c_5 => ?_)
            · skip
              have hn0 : ¬ n = 0 := fun z => c_5 (by rw [hn, z]; rfl)
              refine lv_aload_n hx hb dX2_loans_129 rfl (lv_at hl 1 rfl) ?_
              refine lv_iload_n hx hb dX2_loans_130 rfl (lv_at hl 2 rfl) ?_
              refine lv_iload_n hx hb dX2_loans_131 rfl (lv_at hl 3 rfl) ?_
              refine lv_iload_n hx hb dX2_loans_132 rfl (lv_at hl 4 rfl) ?_
              refine lv_iload hx hb dX2_loans_133 (lv_at hl 5 rfl) ?_
              refine va_calli (va_runV (As := [.int (nI K), .int lane, .int ii, .int (nI Z)]) (rest := []) ⟨hx, hb, hml, hown, hts⟩ (metX2_pairsBarred l dC dI ct A ex o q g a (nI K) lane ii (nI Z) n K Z hn6 hn hK4 rfl rfl (by omega) hz) (cwV 4 hts (lw_V q1150 q1152 qs50 q74 q1153) rfl rfl rfl (by decide +kernel) ⟨Nat.le_of_ble_eq_true rfl, Nat.le_of_ble_eq_true rfl⟩) (mPV hK hP hD _) rfl rfl hl.1 rfl (lv_room (Nat.le_of_ble_eq_true rfl)) dX2_loans_135 ⟨Nat.zero_le _, Nat.zero_le _⟩) hS (fun q _ h => h) (fun q h => h) (fun r u t H1 locs ht hvm hw hB hz1 hk1 hS => ?_)
              obtain ⟨hw, hw2⟩ := hw
              have hw : r = (if (barV ((a 25) K) ((a 26) K) lane ii (lN (2 * Z))) = 0 then (if (allP n (fun t => (a 27) (60 * K + cix ii + t)) (2 * Z)) = true then 0 else (-1)) else (-10) - (barV ((a 25) K) ((a 26) K) lane ii (lN (2 * Z)))) := hw
              subst hw
              subst hw2
              obtain ⟨hP, -, hD⟩ := hB
              rw [ht] at hP
              generalize H1 = H at hP hS ⊢
              have hP : va_P (dC, dI) clA (mW ct o q (upd g 0 (if (barV ((a 25) K) ((a 26) K) lane ii (lN (2 * Z))) = 0 then 0 else (barV ((a 25) K) ((a 26) K) lane ii (lN (2 * Z))))) a ++ ex) H := hP
              have hD : va_D A (mW ct o q (upd g 0 (if (barV ((a 25) K) ((a 26) K) lane ii (lN (2 * Z))) = 0 then 0 else (barV ((a 25) K) ((a 26) K) lane ii (lN (2 * Z))))) a ++ ex) := hD
              refine lv_istore (lv' := [(7, .int (if (barV ((a 25) K) ((a 26) K) lane ii (lN (2 * Z))) = 0 then (if (allP n (fun t => (a 27) (60 * K + cix ii + t)) (2 * Z)) = true then 0 else (-1)) else (-10) - (barV ((a 25) K) ((a 26) K) lane ii (lN (2 * Z))))), (6, .int (b2i (whatV w))), (0, .ref o), (1, .int (nI K)), (2, .int lane), (3, .int ii), (4, .int (nI Z)), (5, .int w)]) hx hb dX2_loans_138 hl (by decide) rfl (fun ls hl => ?_)
              refine lv_iload hx hb dX2_loans_140 (lv_at hl 0 rfl) ?_
              refine lv_if_ge (tgt := 148) hx hb dX2_loans_142 (by decide) (fun c_6 => ?_) (fun c_6 => ?_)
              · skip
                have c0 : 0 ≤ (pairsV n (a 25 K) (a 26 K) (fun t => a 27 (60 * K + cix ii + t)) lane ii Z).1 := by unfold pairsV; by_cases z9 : barV (a 25 K) (a 26 K) lane ii (lN (2 * Z)) = 0 <;> simp only [z9, if_true, if_false] at c_6 ⊢ <;> exact c_6
                obtain ⟨sv, s6, s7⟩ := pairsV_0 c0
                obtain ⟨ei, hF, hpr⟩ := pairs_at (by omega) (by omega) (hz K hK4) s6 s7 hK4
                have hP0 := hP
                have hD0 := hD
                rw [s6, if_pos rfl] at hP0 hD0
                have hP : va_P (dC, dI) clA (mW ct o q (upd g 0 0) a ++ ex) H := hP0
                have hD : va_D A (mW ct o q (upd g 0 0) a ++ ex) := hD0
                refine lv_aload_n hx hb dX2_loans_148 rfl (lv_at hl 2 rfl) ?_
                refine lv_bipush (v := 60) hx hb dX2_loans_149 (by decide) ?_
                refine lv_iload_n hx hb dX2_loans_151 rfl (lv_at hl 3 rfl) ?_
                refine lv_imul hx hb dX2_loans_152 ?_
                refine lv_iload_n hx hb dX2_loans_153 rfl (lv_at hl 5 rfl) ?_
                refine lv_iadd hx hb dX2_loans_154 ?_
                refine lv_iload hx hb dX2_loans_155 (lv_at hl 6 rfl) ?_
                refine va_callv (va_runV (As := [.int ((60 * (nI K)) + ii), .int (nI Z)]) (rest := []) ⟨hx, hb, hml, hown, hts⟩ (metX2_goLoans l dC dI ct A ex o q (upd g 0 0) a ((60 * (nI K)) + ii) (nI Z) n (60 * K + cix ii) Z hn6 hn (by rw [← ix_60, ← ei]) rfl (by omega) hF hpr) (cwV 2 hts (lw_V q1154 q1156 qs51 q74 q1157) rfl rfl rfl (by decide +kernel) ⟨Nat.le_of_ble_eq_true rfl, Nat.le_of_ble_eq_true rfl⟩) (mPV hK hP hD _) rfl rfl hl.1 rfl (lv_room (Nat.le_of_ble_eq_true rfl)) dX2_loans_157 ⟨Nat.zero_le _, Nat.zero_le _⟩) hS (fun q _ h => h) (fun q h => h) (fun u t H1 locs ht hvm hw hB hz1 hk1 hS => ?_)
                subst hw
                obtain ⟨hP, -, hD⟩ := hB
                rw [ht] at hP
                generalize H1 = H at hP hS ⊢
                have hP : va_P (dC, dI) clA (mW ct o q (upd (upd (upd g 0 0) 17 ((lgo (fuM (a 4)) (fun c => lastsV ((a 2) c) ((a 5) c)) (a 4) n (fun t => cix ((a 27) ((60 * K + cix ii) + t))) (mbeg n (a 3) (a 4) ((a 12), (a 13), (a 14), (a 15), (a 16))) Z).2.1)) 18 ((lgo (fuM (a 4)) (fun c => lastsV ((a 2) c) ((a 5) c)) (a 4) n (fun t => cix ((a 27) ((60 * K + cix ii) + t))) (mbeg n (a 3) (a 4) ((a 12), (a 13), (a 14), (a 15), (a 16))) Z).2.2)) (va_up (va_up (va_up (va_up (va_up a 12 (((lgo (fuM (a 4)) (fun c => lastsV ((a 2) c) ((a 5) c)) (a 4) n (fun t => cix ((a 27) ((60 * K + cix ii) + t))) (mbeg n (a 3) (a 4) ((a 12), (a 13), (a 14), (a 15), (a 16))) Z).1).1)) 13 (((lgo (fuM (a 4)) (fun c => lastsV ((a 2) c) ((a 5) c)) (a 4) n (fun t => cix ((a 27) ((60 * K + cix ii) + t))) (mbeg n (a 3) (a 4) ((a 12), (a 13), (a 14), (a 15), (a 16))) Z).1).2.1)) 14 (((lgo (fuM (a 4)) (fun c => lastsV ((a 2) c) ((a 5) c)) (a 4) n (fun t => cix ((a 27) ((60 * K + cix ii) + t))) (mbeg n (a 3) (a 4) ((a 12), (a 13), (a 14), (a 15), (a 16))) Z).1).2.2.1)) 15 (((lgo (fuM (a 4)) (fun c => lastsV ((a 2) c) ((a 5) c)) (a 4) n (fun t => cix ((a 27) ((60 * K + cix ii) + t))) (mbeg n (a 3) (a 4) ((a 12), (a 13), (a 14), (a 15), (a 16))) Z).1).2.2.2.1)) 16 (((lgo (fuM (a 4)) (fun c => lastsV ((a 2) c) ((a 5) c)) (a 4) n (fun t => cix ((a 27) ((60 * K + cix ii) + t))) (mbeg n (a 3) (a 4) ((a 12), (a 13), (a 14), (a 15), (a 16))) Z).1).2.2.2.2)) ++ ex) H := hP
                have hD : va_D A (mW ct o q (upd (upd (upd g 0 0) 17 ((lgo (fuM (a 4)) (fun c => lastsV ((a 2) c) ((a 5) c)) (a 4) n (fun t => cix ((a 27) ((60 * K + cix ii) + t))) (mbeg n (a 3) (a 4) ((a 12), (a 13), (a 14), (a 15), (a 16))) Z).2.1)) 18 ((lgo (fuM (a 4)) (fun c => lastsV ((a 2) c) ((a 5) c)) (a 4) n (fun t => cix ((a 27) ((60 * K + cix ii) + t))) (mbeg n (a 3) (a 4) ((a 12), (a 13), (a 14), (a 15), (a 16))) Z).2.2)) (va_up (va_up (va_up (va_up (va_up a 12 (((lgo (fuM (a 4)) (fun c => lastsV ((a 2) c) ((a 5) c)) (a 4) n (fun t => cix ((a 27) ((60 * K + cix ii) + t))) (mbeg n (a 3) (a 4) ((a 12), (a 13), (a 14), (a 15), (a 16))) Z).1).1)) 13 (((lgo (fuM (a 4)) (fun c => lastsV ((a 2) c) ((a 5) c)) (a 4) n (fun t => cix ((a 27) ((60 * K + cix ii) + t))) (mbeg n (a 3) (a 4) ((a 12), (a 13), (a 14), (a 15), (a 16))) Z).1).2.1)) 14 (((lgo (fuM (a 4)) (fun c => lastsV ((a 2) c) ((a 5) c)) (a 4) n (fun t => cix ((a 27) ((60 * K + cix ii) + t))) (mbeg n (a 3) (a 4) ((a 12), (a 13), (a 14), (a 15), (a 16))) Z).1).2.2.1)) 15 (((lgo (fuM (a 4)) (fun c => lastsV ((a 2) c) ((a 5) c)) (a 4) n (fun t => cix ((a 27) ((60 * K + cix ii) + t))) (mbeg n (a 3) (a 4) ((a 12), (a 13), (a 14), (a 15), (a 16))) Z).1).2.2.2.1)) 16 (((lgo (fuM (a 4)) (fun c => lastsV ((a 2) c) ((a 5) c)) (a 4) n (fun t => cix ((a 27) ((60 * K + cix ii) + t))) (mbeg n (a 3) (a 4) ((a 12), (a 13), (a 14), (a 15), (a 16))) Z).1).2.2.2.2)) ++ ex) := hD
                obtain ⟨q0, q1, q2⟩ := cgo_of (n := n) (sc := a 3) (wa := a 4) (la := (fun c => lastsV (a 2 c) (a 5 c))) (sc' := a 3) (wa' := a 4) (la' := (fun c => lastsV (a 2 c) (a 5 c))) (by omega) (fun _ _ => rfl) (fun _ _ => rfl) (fun _ _ => rfl) (a 12, a 13, a 14, a 15, a 16) (pr := fun t => cix (a 27 (60 * K + cix ii + t))) (pr' := fun t => cix (a 27 (60 * K + cix ii + t))) (N := Z) (fun t ht => (hpr t ht).2) (fun _ _ => rfl)
                have hh : hasOk n (lgo (fuM (a 4)) (fun c => lastsV (a 2 c) (a 5 c)) (a 4) n (fun t => cix (a 27 (60 * K + cix ii + t))) (mbeg n (a 3) (a 4) ((a 12), (a 13), (a 14), (a 15), (a 16))) Z).1.1 := hasOk_go (N := Z) (mbeg_ok _ _ _ (by omega)) (fun t ht => (hpr t ht).2) Z (Nat.le_refl Z)
                have eL : M_loans n a (nI K) lane ii (nI Z) w = (lval n (a 4) (lgo (fuM (a 4)) (fun c => lastsV (a 2 c) (a 5 c)) (a 4) n (fun t => cix (a 27 (60 * K + cix ii + t))) (mbeg n (a 3) (a 4) ((a 12), (a 13), (a 14), (a 15), (a 16))) Z) (hmV n (lgo (fuM (a 4)) (fun c => lastsV (a 2 c) (a 5 c)) (a 4) n (fun t => cix (a 27 (60 * K + cix ii + t))) (mbeg n (a 3) (a 4) ((a 12), (a 13), (a 14), (a 15), (a 16))) Z).1) w, 0) := by rw [M_loans, if_pos bK, if_pos (And.intro bL (And.intro bZ bW)), if_neg hn0, eK, eZ, if_pos c0, ← lval_congr (by omega) (fun _ _ => rfl) q0 q2 (hm_congr q0 hh)]
                refine lv_iload hx hb dX2_loans_160 (lv_at hl 7 rfl) ?_
                refine lv_iconst (v := 1) hx hb dX2_loans_162 (by decide) ?_
                refine lv_icmp_ne (tgt := 171) hx hb dX2_loans_163 (by decide) (fun c_7 => ?_) (fun c_7 => ?_)
                · skip
                  refine lv_aload_n hx hb dX2_loans_171 rfl (lv_at hl 2 rfl) ?_
                  refine m_get (v := .int ((lgo (fuM (a 4)) (fun c => lastsV ((a 2) c) ((a 5) c)) (a 4) n (fun t => cix ((a 27) ((60 * K + cix ii) + t))) (mbeg n (a 3) (a 4) ((a 12), (a 13), (a 14), (a 15), (a 16))) Z).2.1)) hx hb hts hown hK hP 17 (by decide) rfl q1001 rfl dX2_loans_172 ?_
                  refine lv_if_lt (tgt := 186) hx hb dX2_loans_175 (by decide) (fun c_8 => ?_) (fun c_8 => ?_)
                  · skip
                    refine lv_iload hx hb dX2_loans_186 (lv_at hl 7 rfl) ?_
                    refine lv_bipush (v := 9) hx hb dX2_loans_188 (by decide) ?_
                    refine lv_icmp_le (tgt := 256) hx hb dX2_loans_190 (by decide) (fun c_9 => ?_) (fun c_9 => ?_)
                    · skip
                      refine lv_iload hx hb dX2_loans_256 (lv_at hl 7 rfl) ?_
                      refine lv_if_ne (tgt := 268) hx hb dX2_loans_258 (by decide) (fun c_10 => ?_) (fun c_10 => ?_)
                      · skip
                        refine lv_iload hx hb dX2_loans_268 (lv_at hl 7 rfl) ?_
                        refine lv_iconst (v := 2) hx hb dX2_loans_270 (by decide) ?_
                        refine lv_icmp_ne (tgt := 281) hx hb dX2_loans_271 (by decide) (fun c_11 => ?_) (fun c_11 => ?_)
                        · skip
                          refine lv_aload_n hx hb dX2_loans_281 rfl (lv_at hl 2 rfl) ?_
                          refine vp_callSi ((va_runV (As := []) (rest := []) ⟨hx, hb, hml, hown, hts⟩ (metX2_homeBy l dC dI ct A ex o q (upd (upd (upd g 0 0) 17 ((lgo (fuM (a 4)) (fun c => lastsV ((a 2) c) ((a 5) c)) (a 4) n (fun t => cix ((a 27) ((60 * K + cix ii) + t))) (mbeg n (a 3) (a 4) ((a 12), (a 13), (a 14), (a 15), (a 16))) Z).2.1)) 18 ((lgo (fuM (a 4)) (fun c => lastsV ((a 2) c) ((a 5) c)) (a 4) n (fun t => cix ((a 27) ((60 * K + cix ii) + t))) (mbeg n (a 3) (a 4) ((a 12), (a 13), (a 14), (a 15), (a 16))) Z).2.2)) (va_up (va_up (va_up (va_up (va_up a 12 (((lgo (fuM (a 4)) (fun c => lastsV ((a 2) c) ((a 5) c)) (a 4) n (fun t => cix ((a 27) ((60 * K + cix ii) + t))) (mbeg n (a 3) (a 4) ((a 12), (a 13), (a 14), (a 15), (a 16))) Z).1).1)) 13 (((lgo (fuM (a 4)) (fun c => lastsV ((a 2) c) ((a 5) c)) (a 4) n (fun t => cix ((a 27) ((60 * K + cix ii) + t))) (mbeg n (a 3) (a 4) ((a 12), (a 13), (a 14), (a 15), (a 16))) Z).1).2.1)) 14 (((lgo (fuM (a 4)) (fun c => lastsV ((a 2) c) ((a 5) c)) (a 4) n (fun t => cix ((a 27) ((60 * K + cix ii) + t))) (mbeg n (a 3) (a 4) ((a 12), (a 13), (a 14), (a 15), (a 16))) Z).1).2.2.1)) 15 (((lgo (fuM (a 4)) (fun c => lastsV ((a 2) c) ((a 5) c)) (a 4) n (fun t => cix ((a 27) ((60 * K + cix ii) + t))) (mbeg n (a 3) (a 4) ((a 12), (a 13), (a 14), (a 15), (a 16))) Z).1).2.2.2.1)) 16 (((lgo (fuM (a 4)) (fun c => lastsV ((a 2) c) ((a 5) c)) (a 4) n (fun t => cix ((a 27) ((60 * K + cix ii) + t))) (mbeg n (a 3) (a 4) ((a 12), (a 13), (a 14), (a 15), (a 16))) Z).1).2.2.2.2))  n hn6 hn hh) (cwV 0 hts (lw_V q1193 q1195 qs60 q74 q1196) rfl rfl rfl (by decide +kernel) ⟨Nat.le_of_ble_eq_true rfl, Nat.le_of_ble_eq_true rfl⟩) (mPV hK hP hD _) rfl rfl hl.1 rfl (lv_room (Nat.le_of_ble_eq_true rfl)) dX2_loans_282 ⟨Nat.zero_le _, Nat.zero_le _⟩)).run (fun r hw => ?_)
                          have hw : r = (hmV n ((lgo (fuM (a 4)) (fun c => lastsV ((a 2) c) ((a 5) c)) (a 4) n (fun t => cix ((a 27) ((60 * K + cix ii) + t))) (mbeg n (a 3) (a 4) ((a 12), (a 13), (a 14), (a 15), (a 16))) Z).1)) := hw
                          subst hw
                          exact W.iret (v := (hmV n ((lgo (fuM (a 4)) (fun c => lastsV ((a 2) c) ((a 5) c)) (a 4) n (fun t => cix ((a 27) ((60 * K + cix ii) + t))) (mbeg n (a 3) (a 4) ((a 12), (a 13), (a 14), (a 15), (a 16))) Z).1))) hx hb hr (fun t ht hW => ⟨⟨(hmV n ((lgo (fuM (a 4)) (fun c => lastsV ((a 2) c) ((a 5) c)) (a 4) n (fun t => cix ((a 27) ((60 * K + cix ii) + t))) (mbeg n (a 3) (a 4) ((a 12), (a 13), (a 14), (a 15), (a 16))) Z).1)), ((upd (upd (upd g 0 0) 17 ((lgo (fuM (a 4)) (fun c => lastsV ((a 2) c) ((a 5) c)) (a 4) n (fun t => cix ((a 27) ((60 * K + cix ii) + t))) (mbeg n (a 3) (a 4) ((a 12), (a 13), (a 14), (a 15), (a 16))) Z).2.1)) 18 ((lgo (fuM (a 4)) (fun c => lastsV ((a 2) c) ((a 5) c)) (a 4) n (fun t => cix ((a 27) ((60 * K + cix ii) + t))) (mbeg n (a 3) (a 4) ((a 12), (a 13), (a 14), (a 15), (a 16))) Z).2.2)), (va_up (va_up (va_up (va_up (va_up a 12 (((lgo (fuM (a 4)) (fun c => lastsV ((a 2) c) ((a 5) c)) (a 4) n (fun t => cix ((a 27) ((60 * K + cix ii) + t))) (mbeg n (a 3) (a 4) ((a 12), (a 13), (a 14), (a 15), (a 16))) Z).1).1)) 13 (((lgo (fuM (a 4)) (fun c => lastsV ((a 2) c) ((a 5) c)) (a 4) n (fun t => cix ((a 27) ((60 * K + cix ii) + t))) (mbeg n (a 3) (a 4) ((a 12), (a 13), (a 14), (a 15), (a 16))) Z).1).2.1)) 14 (((lgo (fuM (a 4)) (fun c => lastsV ((a 2) c) ((a 5) c)) (a 4) n (fun t => cix ((a 27) ((60 * K + cix ii) + t))) (mbeg n (a 3) (a 4) ((a 12), (a 13), (a 14), (a 15), (a 16))) Z).1).2.2.1)) 15 (((lgo (fuM (a 4)) (fun c => lastsV ((a 2) c) ((a 5) c)) (a 4) n (fun t => cix ((a 27) ((60 * K + cix ii) + t))) (mbeg n (a 3) (a 4) ((a 12), (a 13), (a 14), (a 15), (a 16))) Z).1).2.2.2.1)) 16 (((lgo (fuM (a 4)) (fun c => lastsV ((a 2) c) ((a 5) c)) (a 4) n (fun t => cix ((a 27) ((60 * K + cix ii) + t))) (mbeg n (a 3) (a 4) ((a 12), (a 13), (a 14), (a 15), (a 16))) Z).1).2.2.2.2))), rfl, ⟨(by rw [eL, lval, if_neg c_7, if_pos c_8, if_pos c_9, if_neg c_10, if_neg c_11]), ⟨(lgo (fuM (a 4)) (fun c => lastsV (a 2 c) (a 5 c)) (a 4) n (fun t => cix (a 27 (60 * K + cix ii + t))) (mbeg n (a 3) (a 4) ((a 12), (a 13), (a 14), (a 15), (a 16))) Z), by rw [eL]⟩⟩, by rw [ht]; exact hP, va_K.moved hW.alike hK, hD⟩, hS.F ht⟩) hS.2.2 dX2_loans_285
                        · skip
                          refine lv_aload_n hx hb dX2_loans_274 rfl (lv_at hl 2 rfl) ?_
                          refine m_get (v := .int ((lgo (fuM (a 4)) (fun c => lastsV ((a 2) c) ((a 5) c)) (a 4) n (fun t => cix ((a 27) ((60 * K + cix ii) + t))) (mbeg n (a 3) (a 4) ((a 12), (a 13), (a 14), (a 15), (a 16))) Z).2.2)) hx hb hts hown hK hP 18 (by decide) rfl q1002 rfl dX2_loans_275 ?_
                          refine lv_goto (tgt := 285) hx hb dX2_loans_278 (by decide) ?_
                          exact W.iret (v := ((lgo (fuM (a 4)) (fun c => lastsV ((a 2) c) ((a 5) c)) (a 4) n (fun t => cix ((a 27) ((60 * K + cix ii) + t))) (mbeg n (a 3) (a 4) ((a 12), (a 13), (a 14), (a 15), (a 16))) Z).2.2)) hx hb hr (fun t ht hW => ⟨⟨((lgo (fuM (a 4)) (fun c => lastsV ((a 2) c) ((a 5) c)) (a 4) n (fun t => cix ((a 27) ((60 * K + cix ii) + t))) (mbeg n (a 3) (a 4) ((a 12), (a 13), (a 14), (a 15), (a 16))) Z).2.2), ((upd (upd (upd g 0 0) 17 ((lgo (fuM (a 4)) (fun c => lastsV ((a 2) c) ((a 5) c)) (a 4) n (fun t => cix ((a 27) ((60 * K + cix ii) + t))) (mbeg n (a 3) (a 4) ((a 12), (a 13), (a 14), (a 15), (a 16))) Z).2.1)) 18 ((lgo (fuM (a 4)) (fun c => lastsV ((a 2) c) ((a 5) c)) (a 4) n (fun t => cix ((a 27) ((60 * K + cix ii) + t))) (mbeg n (a 3) (a 4) ((a 12), (a 13), (a 14), (a 15), (a 16))) Z).2.2)), (va_up (va_up (va_up (va_up (va_up a 12 (((lgo (fuM (a 4)) (fun c => lastsV ((a 2) c) ((a 5) c)) (a 4) n (fun t => cix ((a 27) ((60 * K + cix ii) + t))) (mbeg n (a 3) (a 4) ((a 12), (a 13), (a 14), (a 15), (a 16))) Z).1).1)) 13 (((lgo (fuM (a 4)) (fun c => lastsV ((a 2) c) ((a 5) c)) (a 4) n (fun t => cix ((a 27) ((60 * K + cix ii) + t))) (mbeg n (a 3) (a 4) ((a 12), (a 13), (a 14), (a 15), (a 16))) Z).1).2.1)) 14 (((lgo (fuM (a 4)) (fun c => lastsV ((a 2) c) ((a 5) c)) (a 4) n (fun t => cix ((a 27) ((60 * K + cix ii) + t))) (mbeg n (a 3) (a 4) ((a 12), (a 13), (a 14), (a 15), (a 16))) Z).1).2.2.1)) 15 (((lgo (fuM (a 4)) (fun c => lastsV ((a 2) c) ((a 5) c)) (a 4) n (fun t => cix ((a 27) ((60 * K + cix ii) + t))) (mbeg n (a 3) (a 4) ((a 12), (a 13), (a 14), (a 15), (a 16))) Z).1).2.2.2.1)) 16 (((lgo (fuM (a 4)) (fun c => lastsV ((a 2) c) ((a 5) c)) (a 4) n (fun t => cix ((a 27) ((60 * K + cix ii) + t))) (mbeg n (a 3) (a 4) ((a 12), (a 13), (a 14), (a 15), (a 16))) Z).1).2.2.2.2))), rfl, ⟨(by rw [eL, lval, if_neg c_7, if_pos c_8, if_pos c_9, if_neg c_10, if_pos c_11]), ⟨(lgo (fuM (a 4)) (fun c => lastsV (a 2 c) (a 5 c)) (a 4) n (fun t => cix (a 27 (60 * K + cix ii + t))) (mbeg n (a 3) (a 4) ((a 12), (a 13), (a 14), (a 15), (a 16))) Z), by rw [eL]⟩⟩, by rw [ht]; exact hP, va_K.moved hW.alike hK, hD⟩, hS.F ht⟩) hS.2.2 dX2_loans_285
                      · skip
                        refine lv_aload_n hx hb dX2_loans_261 rfl (lv_at hl 2 rfl) ?_
                        refine vp_callSi ((va_runV (As := []) (rest := []) ⟨hx, hb, hml, hown, hts⟩ (metX2_mendedNow l dC dI ct A ex o q (upd (upd (upd g 0 0) 17 ((lgo (fuM (a 4)) (fun c => lastsV ((a 2) c) ((a 5) c)) (a 4) n (fun t => cix ((a 27) ((60 * K + cix ii) + t))) (mbeg n (a 3) (a 4) ((a 12), (a 13), (a 14), (a 15), (a 16))) Z).2.1)) 18 ((lgo (fuM (a 4)) (fun c => lastsV ((a 2) c) ((a 5) c)) (a 4) n (fun t => cix ((a 27) ((60 * K + cix ii) + t))) (mbeg n (a 3) (a 4) ((a 12), (a 13), (a 14), (a 15), (a 16))) Z).2.2)) (va_up (va_up (va_up (va_up (va_up a 12 (((lgo (fuM (a 4)) (fun c => lastsV ((a 2) c) ((a 5) c)) (a 4) n (fun t => cix ((a 27) ((60 * K + cix ii) + t))) (mbeg n (a 3) (a 4) ((a 12), (a 13), (a 14), (a 15), (a 16))) Z).1).1)) 13 (((lgo (fuM (a 4)) (fun c => lastsV ((a 2) c) ((a 5) c)) (a 4) n (fun t => cix ((a 27) ((60 * K + cix ii) + t))) (mbeg n (a 3) (a 4) ((a 12), (a 13), (a 14), (a 15), (a 16))) Z).1).2.1)) 14 (((lgo (fuM (a 4)) (fun c => lastsV ((a 2) c) ((a 5) c)) (a 4) n (fun t => cix ((a 27) ((60 * K + cix ii) + t))) (mbeg n (a 3) (a 4) ((a 12), (a 13), (a 14), (a 15), (a 16))) Z).1).2.2.1)) 15 (((lgo (fuM (a 4)) (fun c => lastsV ((a 2) c) ((a 5) c)) (a 4) n (fun t => cix ((a 27) ((60 * K + cix ii) + t))) (mbeg n (a 3) (a 4) ((a 12), (a 13), (a 14), (a 15), (a 16))) Z).1).2.2.2.1)) 16 (((lgo (fuM (a 4)) (fun c => lastsV ((a 2) c) ((a 5) c)) (a 4) n (fun t => cix ((a 27) ((60 * K + cix ii) + t))) (mbeg n (a 3) (a 4) ((a 12), (a 13), (a 14), (a 15), (a 16))) Z).1).2.2.2.2))  n hn6 hn) (cwV 0 hts (lw_V q1169 q1171 qs54 q74 q1172) rfl rfl rfl (by decide +kernel) ⟨Nat.le_of_ble_eq_true rfl, Nat.le_of_ble_eq_true rfl⟩) (mPV hK hP hD _) rfl rfl hl.1 rfl (lv_room (Nat.le_of_ble_eq_true rfl)) dX2_loans_262 ⟨Nat.zero_le _, Nat.zero_le _⟩)).run (fun r hw => ?_)
                        have hw : r = (mset (fun p => isMend ((a 4) p) (((lgo (fuM (a 4)) (fun c => lastsV ((a 2) c) ((a 5) c)) (a 4) n (fun t => cix ((a 27) ((60 * K + cix ii) + t))) (mbeg n (a 3) (a 4) ((a 12), (a 13), (a 14), (a 15), (a 16))) Z).1).2.2.2.1 p)) n) := hw
                        subst hw
                        refine lv_goto (tgt := 285) hx hb dX2_loans_265 (by decide) ?_
                        exact W.iret (v := (mset (fun p => isMend ((a 4) p) (((lgo (fuM (a 4)) (fun c => lastsV ((a 2) c) ((a 5) c)) (a 4) n (fun t => cix ((a 27) ((60 * K + cix ii) + t))) (mbeg n (a 3) (a 4) ((a 12), (a 13), (a 14), (a 15), (a 16))) Z).1).2.2.2.1 p)) n)) hx hb hr (fun t ht hW => ⟨⟨(mset (fun p => isMend ((a 4) p) (((lgo (fuM (a 4)) (fun c => lastsV ((a 2) c) ((a 5) c)) (a 4) n (fun t => cix ((a 27) ((60 * K + cix ii) + t))) (mbeg n (a 3) (a 4) ((a 12), (a 13), (a 14), (a 15), (a 16))) Z).1).2.2.2.1 p)) n), ((upd (upd (upd g 0 0) 17 ((lgo (fuM (a 4)) (fun c => lastsV ((a 2) c) ((a 5) c)) (a 4) n (fun t => cix ((a 27) ((60 * K + cix ii) + t))) (mbeg n (a 3) (a 4) ((a 12), (a 13), (a 14), (a 15), (a 16))) Z).2.1)) 18 ((lgo (fuM (a 4)) (fun c => lastsV ((a 2) c) ((a 5) c)) (a 4) n (fun t => cix ((a 27) ((60 * K + cix ii) + t))) (mbeg n (a 3) (a 4) ((a 12), (a 13), (a 14), (a 15), (a 16))) Z).2.2)), (va_up (va_up (va_up (va_up (va_up a 12 (((lgo (fuM (a 4)) (fun c => lastsV ((a 2) c) ((a 5) c)) (a 4) n (fun t => cix ((a 27) ((60 * K + cix ii) + t))) (mbeg n (a 3) (a 4) ((a 12), (a 13), (a 14), (a 15), (a 16))) Z).1).1)) 13 (((lgo (fuM (a 4)) (fun c => lastsV ((a 2) c) ((a 5) c)) (a 4) n (fun t => cix ((a 27) ((60 * K + cix ii) + t))) (mbeg n (a 3) (a 4) ((a 12), (a 13), (a 14), (a 15), (a 16))) Z).1).2.1)) 14 (((lgo (fuM (a 4)) (fun c => lastsV ((a 2) c) ((a 5) c)) (a 4) n (fun t => cix ((a 27) ((60 * K + cix ii) + t))) (mbeg n (a 3) (a 4) ((a 12), (a 13), (a 14), (a 15), (a 16))) Z).1).2.2.1)) 15 (((lgo (fuM (a 4)) (fun c => lastsV ((a 2) c) ((a 5) c)) (a 4) n (fun t => cix ((a 27) ((60 * K + cix ii) + t))) (mbeg n (a 3) (a 4) ((a 12), (a 13), (a 14), (a 15), (a 16))) Z).1).2.2.2.1)) 16 (((lgo (fuM (a 4)) (fun c => lastsV ((a 2) c) ((a 5) c)) (a 4) n (fun t => cix ((a 27) ((60 * K + cix ii) + t))) (mbeg n (a 3) (a 4) ((a 12), (a 13), (a 14), (a 15), (a 16))) Z).1).2.2.2.2))), rfl, ⟨(by rw [eL, lval, if_neg c_7, if_pos c_8, if_pos c_9, if_pos c_10]; rfl), ⟨(lgo (fuM (a 4)) (fun c => lastsV (a 2 c) (a 5 c)) (a 4) n (fun t => cix (a 27 (60 * K + cix ii + t))) (mbeg n (a 3) (a 4) ((a 12), (a 13), (a 14), (a 15), (a 16))) Z), by rw [eL]⟩⟩, by rw [ht]; exact hP, va_K.moved hW.alike hK, hD⟩, hS.F ht⟩) hS.2.2 dX2_loans_285
                    · skip
                      refine lv_iload hx hb dX2_loans_193 (lv_at hl 7 rfl) ?_
                      refine lv_bipush (v := 10) hx hb dX2_loans_195 (by decide) ?_
                      refine lv_irem hx hb dX2_loans_197 (by decide) ?_
                      refine lv_istore (lv' := [(8, .int (w - w / 10 * 10)), (7, .int (if (barV ((a 25) K) ((a 26) K) lane ii (lN (2 * Z))) = 0 then (if (allP n (fun t => (a 27) (60 * K + cix ii + t)) (2 * Z)) = true then 0 else (-1)) else (-10) - (barV ((a 25) K) ((a 26) K) lane ii (lN (2 * Z))))), (6, .int (b2i (whatV w))), (0, .ref o), (1, .int (nI K)), (2, .int lane), (3, .int ii), (4, .int (nI Z)), (5, .int w)]) hx hb dX2_loans_198 hl (by decide) rfl (fun ls hl => ?_)
                      refine lv_aload_n hx hb dX2_loans_200 rfl (lv_at hl 3 rfl) ?_
                      refine lv_iload hx hb dX2_loans_201 (lv_at hl 0 rfl) ?_
                      refine vp_callSi ((va_runV (As := [.int (w - w / 10 * 10)]) (rest := []) ⟨hx, hb, hml, hown, hts⟩ (metX2_noPerson l dC dI ct A ex o q (upd (upd (upd g 0 0) 17 ((lgo (fuM (a 4)) (fun c => lastsV ((a 2) c) ((a 5) c)) (a 4) n (fun t => cix ((a 27) ((60 * K + cix ii) + t))) (mbeg n (a 3) (a 4) ((a 12), (a 13), (a 14), (a 15), (a 16))) Z).2.1)) 18 ((lgo (fuM (a 4)) (fun c => lastsV ((a 2) c) ((a 5) c)) (a 4) n (fun t => cix ((a 27) ((60 * K + cix ii) + t))) (mbeg n (a 3) (a 4) ((a 12), (a 13), (a 14), (a 15), (a 16))) Z).2.2)) (va_up (va_up (va_up (va_up (va_up a 12 (((lgo (fuM (a 4)) (fun c => lastsV ((a 2) c) ((a 5) c)) (a 4) n (fun t => cix ((a 27) ((60 * K + cix ii) + t))) (mbeg n (a 3) (a 4) ((a 12), (a 13), (a 14), (a 15), (a 16))) Z).1).1)) 13 (((lgo (fuM (a 4)) (fun c => lastsV ((a 2) c) ((a 5) c)) (a 4) n (fun t => cix ((a 27) ((60 * K + cix ii) + t))) (mbeg n (a 3) (a 4) ((a 12), (a 13), (a 14), (a 15), (a 16))) Z).1).2.1)) 14 (((lgo (fuM (a 4)) (fun c => lastsV ((a 2) c) ((a 5) c)) (a 4) n (fun t => cix ((a 27) ((60 * K + cix ii) + t))) (mbeg n (a 3) (a 4) ((a 12), (a 13), (a 14), (a 15), (a 16))) Z).1).2.2.1)) 15 (((lgo (fuM (a 4)) (fun c => lastsV ((a 2) c) ((a 5) c)) (a 4) n (fun t => cix ((a 27) ((60 * K + cix ii) + t))) (mbeg n (a 3) (a 4) ((a 12), (a 13), (a 14), (a 15), (a 16))) Z).1).2.2.2.1)) 16 (((lgo (fuM (a 4)) (fun c => lastsV ((a 2) c) ((a 5) c)) (a 4) n (fun t => cix ((a 27) ((60 * K + cix ii) + t))) (mbeg n (a 3) (a 4) ((a 12), (a 13), (a 14), (a 15), (a 16))) Z).1).2.2.2.2)) (w - w / 10 * 10) n hn6 hn) (cwV 1 hts (lw_V q1122 q1124 qs48 q74 q1125) rfl rfl rfl (by decide +kernel) ⟨Nat.le_of_ble_eq_true rfl, Nat.le_of_ble_eq_true rfl⟩) (mPV hK hP hD _) rfl rfl hl.1 rfl (lv_room (Nat.le_of_ble_eq_true rfl)) dX2_loans_203 ⟨Nat.zero_le _, Nat.zero_le _⟩)).run (fun r hw => ?_)
                      have hw : r = (b2i (!(inP (w - w / 10 * 10) n))) := hw
                      subst hw
                      refine bz_eq (tgt := 214) hx hb dX2_loans_206 (by decide) (fun c_12 => ?_) (fun c_12 => ?_)
                      · skip
                        have bp : inP (w - w / 10 * 10) n = true := by simpa using c_12
                        obtain ⟨ep, hpn⟩ := inP_e (by omega) bp
                        refine lv_iload hx hb dX2_loans_214 (lv_at hl 8 rfl) ?_
                        refine lv_bipush (v := 20) hx hb dX2_loans_216 (by decide) ?_
                        refine lv_icmp_ge (tgt := 231) hx hb dX2_loans_218 (by decide) (fun c_13 => ?_) (fun c_13 => ?_)
                        · skip
                          refine lv_iload hx hb dX2_loans_231 (lv_at hl 8 rfl) ?_
                          refine lv_bipush (v := 30) hx hb dX2_loans_233 (by decide) ?_
                          refine lv_icmp_ge (tgt := 248) hx hb dX2_loans_235 (by decide) (fun c_14 => ?_) (fun c_14 => ?_)
                          · skip
                            refine lv_aload_n hx hb dX2_loans_248 rfl (lv_at hl 3 rfl) ?_
                            refine m_get (v := .ref (q 13)) hx hb hts hown hK hP 13 (by decide) rfl q997 rfl dX2_loans_249 ?_
                            refine lv_iload hx hb dX2_loans_252 (lv_at hl 0 rfl) ?_
                            refine m_ild hx hb hK hP (mWa13 _ _ _ _ _ _) (((lgo (fuM (a 4)) (fun c => lastsV ((a 2) c) ((a 5) c)) (a 4) n (fun t => cix ((a 27) ((60 * K + cix ii) + t))) (mbeg n (a 3) (a 4) ((a 12), (a 13), (a 14), (a 15), (a 16))) Z).1).2.1) rfl (cix (w - w / 10 * 10)) ep (Nat.lt_of_lt_of_le hpn hn6) (by decide) dX2_loans_254 ?_
                            exact W.iret (v := (((lgo (fuM (a 4)) (fun c => lastsV ((a 2) c) ((a 5) c)) (a 4) n (fun t => cix ((a 27) ((60 * K + cix ii) + t))) (mbeg n (a 3) (a 4) ((a 12), (a 13), (a 14), (a 15), (a 16))) Z).1).2.1 (cix (w - w / 10 * 10)))) hx hb hr (fun t ht hW => ⟨⟨(((lgo (fuM (a 4)) (fun c => lastsV ((a 2) c) ((a 5) c)) (a 4) n (fun t => cix ((a 27) ((60 * K + cix ii) + t))) (mbeg n (a 3) (a 4) ((a 12), (a 13), (a 14), (a 15), (a 16))) Z).1).2.1 (cix (w - w / 10 * 10))), ((upd (upd (upd g 0 0) 17 ((lgo (fuM (a 4)) (fun c => lastsV ((a 2) c) ((a 5) c)) (a 4) n (fun t => cix ((a 27) ((60 * K + cix ii) + t))) (mbeg n (a 3) (a 4) ((a 12), (a 13), (a 14), (a 15), (a 16))) Z).2.1)) 18 ((lgo (fuM (a 4)) (fun c => lastsV ((a 2) c) ((a 5) c)) (a 4) n (fun t => cix ((a 27) ((60 * K + cix ii) + t))) (mbeg n (a 3) (a 4) ((a 12), (a 13), (a 14), (a 15), (a 16))) Z).2.2)), (va_up (va_up (va_up (va_up (va_up a 12 (((lgo (fuM (a 4)) (fun c => lastsV ((a 2) c) ((a 5) c)) (a 4) n (fun t => cix ((a 27) ((60 * K + cix ii) + t))) (mbeg n (a 3) (a 4) ((a 12), (a 13), (a 14), (a 15), (a 16))) Z).1).1)) 13 (((lgo (fuM (a 4)) (fun c => lastsV ((a 2) c) ((a 5) c)) (a 4) n (fun t => cix ((a 27) ((60 * K + cix ii) + t))) (mbeg n (a 3) (a 4) ((a 12), (a 13), (a 14), (a 15), (a 16))) Z).1).2.1)) 14 (((lgo (fuM (a 4)) (fun c => lastsV ((a 2) c) ((a 5) c)) (a 4) n (fun t => cix ((a 27) ((60 * K + cix ii) + t))) (mbeg n (a 3) (a 4) ((a 12), (a 13), (a 14), (a 15), (a 16))) Z).1).2.2.1)) 15 (((lgo (fuM (a 4)) (fun c => lastsV ((a 2) c) ((a 5) c)) (a 4) n (fun t => cix ((a 27) ((60 * K + cix ii) + t))) (mbeg n (a 3) (a 4) ((a 12), (a 13), (a 14), (a 15), (a 16))) Z).1).2.2.2.1)) 16 (((lgo (fuM (a 4)) (fun c => lastsV ((a 2) c) ((a 5) c)) (a 4) n (fun t => cix ((a 27) ((60 * K + cix ii) + t))) (mbeg n (a 3) (a 4) ((a 12), (a 13), (a 14), (a 15), (a 16))) Z).1).2.2.2.2))), rfl, ⟨(by rw [eL, lval, if_neg c_7, if_pos c_8, if_neg c_9, if_pos bp, if_pos c_13, if_pos c_14]), ⟨(lgo (fuM (a 4)) (fun c => lastsV (a 2 c) (a 5 c)) (a 4) n (fun t => cix (a 27 (60 * K + cix ii + t))) (mbeg n (a 3) (a 4) ((a 12), (a 13), (a 14), (a 15), (a 16))) Z), by rw [eL]⟩⟩, by rw [ht]; exact hP, va_K.moved hW.alike hK, hD⟩, hS.F ht⟩) hS.2.2 dX2_loans_255
                          · skip
                            refine lv_aload_n hx hb dX2_loans_238 rfl (lv_at hl 3 rfl) ?_
                            refine m_get (v := .ref (q 15)) hx hb hts hown hK hP 15 (by decide) rfl q999 rfl dX2_loans_239 ?_
                            refine lv_iload hx hb dX2_loans_242 (lv_at hl 0 rfl) ?_
                            refine m_ild hx hb hK hP (mWa15 _ _ _ _ _ _) (((lgo (fuM (a 4)) (fun c => lastsV ((a 2) c) ((a 5) c)) (a 4) n (fun t => cix ((a 27) ((60 * K + cix ii) + t))) (mbeg n (a 3) (a 4) ((a 12), (a 13), (a 14), (a 15), (a 16))) Z).1).2.2.2.1) rfl (cix (w - w / 10 * 10)) ep (Nat.lt_of_lt_of_le hpn hn6) (by decide) dX2_loans_244 ?_
                            refine lv_goto (tgt := 255) hx hb dX2_loans_245 (by decide) ?_
                            exact W.iret (v := (((lgo (fuM (a 4)) (fun c => lastsV ((a 2) c) ((a 5) c)) (a 4) n (fun t => cix ((a 27) ((60 * K + cix ii) + t))) (mbeg n (a 3) (a 4) ((a 12), (a 13), (a 14), (a 15), (a 16))) Z).1).2.2.2.1 (cix (w - w / 10 * 10)))) hx hb hr (fun t ht hW => ⟨⟨(((lgo (fuM (a 4)) (fun c => lastsV ((a 2) c) ((a 5) c)) (a 4) n (fun t => cix ((a 27) ((60 * K + cix ii) + t))) (mbeg n (a 3) (a 4) ((a 12), (a 13), (a 14), (a 15), (a 16))) Z).1).2.2.2.1 (cix (w - w / 10 * 10))), ((upd (upd (upd g 0 0) 17 ((lgo (fuM (a 4)) (fun c => lastsV ((a 2) c) ((a 5) c)) (a 4) n (fun t => cix ((a 27) ((60 * K + cix ii) + t))) (mbeg n (a 3) (a 4) ((a 12), (a 13), (a 14), (a 15), (a 16))) Z).2.1)) 18 ((lgo (fuM (a 4)) (fun c => lastsV ((a 2) c) ((a 5) c)) (a 4) n (fun t => cix ((a 27) ((60 * K + cix ii) + t))) (mbeg n (a 3) (a 4) ((a 12), (a 13), (a 14), (a 15), (a 16))) Z).2.2)), (va_up (va_up (va_up (va_up (va_up a 12 (((lgo (fuM (a 4)) (fun c => lastsV ((a 2) c) ((a 5) c)) (a 4) n (fun t => cix ((a 27) ((60 * K + cix ii) + t))) (mbeg n (a 3) (a 4) ((a 12), (a 13), (a 14), (a 15), (a 16))) Z).1).1)) 13 (((lgo (fuM (a 4)) (fun c => lastsV ((a 2) c) ((a 5) c)) (a 4) n (fun t => cix ((a 27) ((60 * K + cix ii) + t))) (mbeg n (a 3) (a 4) ((a 12), (a 13), (a 14), (a 15), (a 16))) Z).1).2.1)) 14 (((lgo (fuM (a 4)) (fun c => lastsV ((a 2) c) ((a 5) c)) (a 4) n (fun t => cix ((a 27) ((60 * K + cix ii) + t))) (mbeg n (a 3) (a 4) ((a 12), (a 13), (a 14), (a 15), (a 16))) Z).1).2.2.1)) 15 (((lgo (fuM (a 4)) (fun c => lastsV ((a 2) c) ((a 5) c)) (a 4) n (fun t => cix ((a 27) ((60 * K + cix ii) + t))) (mbeg n (a 3) (a 4) ((a 12), (a 13), (a 14), (a 15), (a 16))) Z).1).2.2.2.1)) 16 (((lgo (fuM (a 4)) (fun c => lastsV ((a 2) c) ((a 5) c)) (a 4) n (fun t => cix ((a 27) ((60 * K + cix ii) + t))) (mbeg n (a 3) (a 4) ((a 12), (a 13), (a 14), (a 15), (a 16))) Z).1).2.2.2.2))), rfl, ⟨(by rw [eL, lval, if_neg c_7, if_pos c_8, if_neg c_9, if_pos bp, if_pos c_13, if_neg c_14]), ⟨(lgo (fuM (a 4)) (fun c => lastsV (a 2 c) (a 5 c)) (a 4) n (fun t => cix (a 27 (60 * K + cix ii + t))) (mbeg n (a 3) (a 4) ((a 12), (a 13), (a 14), (a 15), (a 16))) Z), by rw [eL]⟩⟩, by rw [ht]; exact hP, va_K.moved hW.alike hK, hD⟩, hS.F ht⟩) hS.2.2 dX2_loans_255
                        · skip
                          refine lv_aload_n hx hb dX2_loans_221 rfl (lv_at hl 3 rfl) ?_
                          refine m_get (v := .ref (q 12)) hx hb hts hown hK hP 12 (by decide) rfl q996 rfl dX2_loans_222 ?_
                          refine lv_iload hx hb dX2_loans_225 (lv_at hl 0 rfl) ?_
                          refine m_ild hx hb hK hP (mWa12 _ _ _ _ _ _) (((lgo (fuM (a 4)) (fun c => lastsV ((a 2) c) ((a 5) c)) (a 4) n (fun t => cix ((a 27) ((60 * K + cix ii) + t))) (mbeg n (a 3) (a 4) ((a 12), (a 13), (a 14), (a 15), (a 16))) Z).1).1) rfl (cix (w - w / 10 * 10)) ep (Nat.lt_of_lt_of_le hpn hn6) (by decide) dX2_loans_227 ?_
                          refine lv_goto (tgt := 255) hx hb dX2_loans_228 (by decide) ?_
                          exact W.iret (v := (((lgo (fuM (a 4)) (fun c => lastsV ((a 2) c) ((a 5) c)) (a 4) n (fun t => cix ((a 27) ((60 * K + cix ii) + t))) (mbeg n (a 3) (a 4) ((a 12), (a 13), (a 14), (a 15), (a 16))) Z).1).1 (cix (w - w / 10 * 10)))) hx hb hr (fun t ht hW => ⟨⟨(((lgo (fuM (a 4)) (fun c => lastsV ((a 2) c) ((a 5) c)) (a 4) n (fun t => cix ((a 27) ((60 * K + cix ii) + t))) (mbeg n (a 3) (a 4) ((a 12), (a 13), (a 14), (a 15), (a 16))) Z).1).1 (cix (w - w / 10 * 10))), ((upd (upd (upd g 0 0) 17 ((lgo (fuM (a 4)) (fun c => lastsV ((a 2) c) ((a 5) c)) (a 4) n (fun t => cix ((a 27) ((60 * K + cix ii) + t))) (mbeg n (a 3) (a 4) ((a 12), (a 13), (a 14), (a 15), (a 16))) Z).2.1)) 18 ((lgo (fuM (a 4)) (fun c => lastsV ((a 2) c) ((a 5) c)) (a 4) n (fun t => cix ((a 27) ((60 * K + cix ii) + t))) (mbeg n (a 3) (a 4) ((a 12), (a 13), (a 14), (a 15), (a 16))) Z).2.2)), (va_up (va_up (va_up (va_up (va_up a 12 (((lgo (fuM (a 4)) (fun c => lastsV ((a 2) c) ((a 5) c)) (a 4) n (fun t => cix ((a 27) ((60 * K + cix ii) + t))) (mbeg n (a 3) (a 4) ((a 12), (a 13), (a 14), (a 15), (a 16))) Z).1).1)) 13 (((lgo (fuM (a 4)) (fun c => lastsV ((a 2) c) ((a 5) c)) (a 4) n (fun t => cix ((a 27) ((60 * K + cix ii) + t))) (mbeg n (a 3) (a 4) ((a 12), (a 13), (a 14), (a 15), (a 16))) Z).1).2.1)) 14 (((lgo (fuM (a 4)) (fun c => lastsV ((a 2) c) ((a 5) c)) (a 4) n (fun t => cix ((a 27) ((60 * K + cix ii) + t))) (mbeg n (a 3) (a 4) ((a 12), (a 13), (a 14), (a 15), (a 16))) Z).1).2.2.1)) 15 (((lgo (fuM (a 4)) (fun c => lastsV ((a 2) c) ((a 5) c)) (a 4) n (fun t => cix ((a 27) ((60 * K + cix ii) + t))) (mbeg n (a 3) (a 4) ((a 12), (a 13), (a 14), (a 15), (a 16))) Z).1).2.2.2.1)) 16 (((lgo (fuM (a 4)) (fun c => lastsV ((a 2) c) ((a 5) c)) (a 4) n (fun t => cix ((a 27) ((60 * K + cix ii) + t))) (mbeg n (a 3) (a 4) ((a 12), (a 13), (a 14), (a 15), (a 16))) Z).1).2.2.2.2))), rfl, ⟨(by rw [eL, lval, if_neg c_7, if_pos c_8, if_neg c_9, if_pos bp, if_neg c_13]), ⟨(lgo (fuM (a 4)) (fun c => lastsV (a 2 c) (a 5 c)) (a 4) n (fun t => cix (a 27 (60 * K + cix ii + t))) (mbeg n (a 3) (a 4) ((a 12), (a 13), (a 14), (a 15), (a 16))) Z), by rw [eL]⟩⟩, by rw [ht]; exact hP, va_K.moved hW.alike hK, hD⟩, hS.F ht⟩) hS.2.2 dX2_loans_255
                      · skip
                        have bp : inP (w - w / 10 * 10) n = false := by simpa using c_12
                        refine lv_bipush (v := (-9)) hx hb dX2_loans_209 (by decide) ?_
                        refine lv_goto (tgt := 255) hx hb dX2_loans_211 (by decide) ?_
                        exact W.iret (v := (-9)) hx hb hr (fun t ht hW => ⟨⟨(-9), ((upd (upd (upd g 0 0) 17 ((lgo (fuM (a 4)) (fun c => lastsV ((a 2) c) ((a 5) c)) (a 4) n (fun t => cix ((a 27) ((60 * K + cix ii) + t))) (mbeg n (a 3) (a 4) ((a 12), (a 13), (a 14), (a 15), (a 16))) Z).2.1)) 18 ((lgo (fuM (a 4)) (fun c => lastsV ((a 2) c) ((a 5) c)) (a 4) n (fun t => cix ((a 27) ((60 * K + cix ii) + t))) (mbeg n (a 3) (a 4) ((a 12), (a 13), (a 14), (a 15), (a 16))) Z).2.2)), (va_up (va_up (va_up (va_up (va_up a 12 (((lgo (fuM (a 4)) (fun c => lastsV ((a 2) c) ((a 5) c)) (a 4) n (fun t => cix ((a 27) ((60 * K + cix ii) + t))) (mbeg n (a 3) (a 4) ((a 12), (a 13), (a 14), (a 15), (a 16))) Z).1).1)) 13 (((lgo (fuM (a 4)) (fun c => lastsV ((a 2) c) ((a 5) c)) (a 4) n (fun t => cix ((a 27) ((60 * K + cix ii) + t))) (mbeg n (a 3) (a 4) ((a 12), (a 13), (a 14), (a 15), (a 16))) Z).1).2.1)) 14 (((lgo (fuM (a 4)) (fun c => lastsV ((a 2) c) ((a 5) c)) (a 4) n (fun t => cix ((a 27) ((60 * K + cix ii) + t))) (mbeg n (a 3) (a 4) ((a 12), (a 13), (a 14), (a 15), (a 16))) Z).1).2.2.1)) 15 (((lgo (fuM (a 4)) (fun c => lastsV ((a 2) c) ((a 5) c)) (a 4) n (fun t => cix ((a 27) ((60 * K + cix ii) + t))) (mbeg n (a 3) (a 4) ((a 12), (a 13), (a 14), (a 15), (a 16))) Z).1).2.2.2.1)) 16 (((lgo (fuM (a 4)) (fun c => lastsV ((a 2) c) ((a 5) c)) (a 4) n (fun t => cix ((a 27) ((60 * K + cix ii) + t))) (mbeg n (a 3) (a 4) ((a 12), (a 13), (a 14), (a 15), (a 16))) Z).1).2.2.2.2))), rfl, ⟨(by rw [eL, lval, if_neg c_7, if_pos c_8, if_neg c_9, if_neg (by rw [bp]; decide)]), ⟨(lgo (fuM (a 4)) (fun c => lastsV (a 2 c) (a 5 c)) (a 4) n (fun t => cix (a 27 (60 * K + cix ii + t))) (mbeg n (a 3) (a 4) ((a 12), (a 13), (a 14), (a 15), (a 16))) Z), by rw [eL]⟩⟩, by rw [ht]; exact hP, va_K.moved hW.alike hK, hD⟩, hS.F ht⟩) hS.2.2 dX2_loans_255
                  · skip
                    refine lv_bipush (v := (-100)) hx hb dX2_loans_178 (by decide) ?_
                    refine lv_aload_n hx hb dX2_loans_180 rfl (lv_at hl 2 rfl) ?_
                    refine m_get (v := .int ((lgo (fuM (a 4)) (fun c => lastsV ((a 2) c) ((a 5) c)) (a 4) n (fun t => cix ((a 27) ((60 * K + cix ii) + t))) (mbeg n (a 3) (a 4) ((a 12), (a 13), (a 14), (a 15), (a 16))) Z).2.1)) hx hb hts hown hK hP 17 (by decide) rfl q1001 rfl dX2_loans_181 ?_
                    refine lv_isub hx hb dX2_loans_184 ?_
                    exact W.iret (v := ((-100) - (lgo (fuM (a 4)) (fun c => lastsV ((a 2) c) ((a 5) c)) (a 4) n (fun t => cix ((a 27) ((60 * K + cix ii) + t))) (mbeg n (a 3) (a 4) ((a 12), (a 13), (a 14), (a 15), (a 16))) Z).2.1)) hx hb hr (fun t ht hW => ⟨⟨((-100) - (lgo (fuM (a 4)) (fun c => lastsV ((a 2) c) ((a 5) c)) (a 4) n (fun t => cix ((a 27) ((60 * K + cix ii) + t))) (mbeg n (a 3) (a 4) ((a 12), (a 13), (a 14), (a 15), (a 16))) Z).2.1), ((upd (upd (upd g 0 0) 17 ((lgo (fuM (a 4)) (fun c => lastsV ((a 2) c) ((a 5) c)) (a 4) n (fun t => cix ((a 27) ((60 * K + cix ii) + t))) (mbeg n (a 3) (a 4) ((a 12), (a 13), (a 14), (a 15), (a 16))) Z).2.1)) 18 ((lgo (fuM (a 4)) (fun c => lastsV ((a 2) c) ((a 5) c)) (a 4) n (fun t => cix ((a 27) ((60 * K + cix ii) + t))) (mbeg n (a 3) (a 4) ((a 12), (a 13), (a 14), (a 15), (a 16))) Z).2.2)), (va_up (va_up (va_up (va_up (va_up a 12 (((lgo (fuM (a 4)) (fun c => lastsV ((a 2) c) ((a 5) c)) (a 4) n (fun t => cix ((a 27) ((60 * K + cix ii) + t))) (mbeg n (a 3) (a 4) ((a 12), (a 13), (a 14), (a 15), (a 16))) Z).1).1)) 13 (((lgo (fuM (a 4)) (fun c => lastsV ((a 2) c) ((a 5) c)) (a 4) n (fun t => cix ((a 27) ((60 * K + cix ii) + t))) (mbeg n (a 3) (a 4) ((a 12), (a 13), (a 14), (a 15), (a 16))) Z).1).2.1)) 14 (((lgo (fuM (a 4)) (fun c => lastsV ((a 2) c) ((a 5) c)) (a 4) n (fun t => cix ((a 27) ((60 * K + cix ii) + t))) (mbeg n (a 3) (a 4) ((a 12), (a 13), (a 14), (a 15), (a 16))) Z).1).2.2.1)) 15 (((lgo (fuM (a 4)) (fun c => lastsV ((a 2) c) ((a 5) c)) (a 4) n (fun t => cix ((a 27) ((60 * K + cix ii) + t))) (mbeg n (a 3) (a 4) ((a 12), (a 13), (a 14), (a 15), (a 16))) Z).1).2.2.2.1)) 16 (((lgo (fuM (a 4)) (fun c => lastsV ((a 2) c) ((a 5) c)) (a 4) n (fun t => cix ((a 27) ((60 * K + cix ii) + t))) (mbeg n (a 3) (a 4) ((a 12), (a 13), (a 14), (a 15), (a 16))) Z).1).2.2.2.2))), rfl, ⟨(by rw [eL, lval, if_neg c_7, if_neg c_8]), ⟨(lgo (fuM (a 4)) (fun c => lastsV (a 2 c) (a 5 c)) (a 4) n (fun t => cix (a 27 (60 * K + cix ii + t))) (mbeg n (a 3) (a 4) ((a 12), (a 13), (a 14), (a 15), (a 16))) Z), by rw [eL]⟩⟩, by rw [ht]; exact hP, va_K.moved hW.alike hK, hD⟩, hS.F ht⟩) hS.2.2 dX2_loans_185
                · skip
                  refine lv_aload_n hx hb dX2_loans_166 rfl (lv_at hl 2 rfl) ?_
                  refine m_get (v := .int ((lgo (fuM (a 4)) (fun c => lastsV ((a 2) c) ((a 5) c)) (a 4) n (fun t => cix ((a 27) ((60 * K + cix ii) + t))) (mbeg n (a 3) (a 4) ((a 12), (a 13), (a 14), (a 15), (a 16))) Z).2.1)) hx hb hts hown hK hP 17 (by decide) rfl q1001 rfl dX2_loans_167 ?_
                  exact W.iret (v := ((lgo (fuM (a 4)) (fun c => lastsV ((a 2) c) ((a 5) c)) (a 4) n (fun t => cix ((a 27) ((60 * K + cix ii) + t))) (mbeg n (a 3) (a 4) ((a 12), (a 13), (a 14), (a 15), (a 16))) Z).2.1)) hx hb hr (fun t ht hW => ⟨⟨((lgo (fuM (a 4)) (fun c => lastsV ((a 2) c) ((a 5) c)) (a 4) n (fun t => cix ((a 27) ((60 * K + cix ii) + t))) (mbeg n (a 3) (a 4) ((a 12), (a 13), (a 14), (a 15), (a 16))) Z).2.1), ((upd (upd (upd g 0 0) 17 ((lgo (fuM (a 4)) (fun c => lastsV ((a 2) c) ((a 5) c)) (a 4) n (fun t => cix ((a 27) ((60 * K + cix ii) + t))) (mbeg n (a 3) (a 4) ((a 12), (a 13), (a 14), (a 15), (a 16))) Z).2.1)) 18 ((lgo (fuM (a 4)) (fun c => lastsV ((a 2) c) ((a 5) c)) (a 4) n (fun t => cix ((a 27) ((60 * K + cix ii) + t))) (mbeg n (a 3) (a 4) ((a 12), (a 13), (a 14), (a 15), (a 16))) Z).2.2)), (va_up (va_up (va_up (va_up (va_up a 12 (((lgo (fuM (a 4)) (fun c => lastsV ((a 2) c) ((a 5) c)) (a 4) n (fun t => cix ((a 27) ((60 * K + cix ii) + t))) (mbeg n (a 3) (a 4) ((a 12), (a 13), (a 14), (a 15), (a 16))) Z).1).1)) 13 (((lgo (fuM (a 4)) (fun c => lastsV ((a 2) c) ((a 5) c)) (a 4) n (fun t => cix ((a 27) ((60 * K + cix ii) + t))) (mbeg n (a 3) (a 4) ((a 12), (a 13), (a 14), (a 15), (a 16))) Z).1).2.1)) 14 (((lgo (fuM (a 4)) (fun c => lastsV ((a 2) c) ((a 5) c)) (a 4) n (fun t => cix ((a 27) ((60 * K + cix ii) + t))) (mbeg n (a 3) (a 4) ((a 12), (a 13), (a 14), (a 15), (a 16))) Z).1).2.2.1)) 15 (((lgo (fuM (a 4)) (fun c => lastsV ((a 2) c) ((a 5) c)) (a 4) n (fun t => cix ((a 27) ((60 * K + cix ii) + t))) (mbeg n (a 3) (a 4) ((a 12), (a 13), (a 14), (a 15), (a 16))) Z).1).2.2.2.1)) 16 (((lgo (fuM (a 4)) (fun c => lastsV ((a 2) c) ((a 5) c)) (a 4) n (fun t => cix ((a 27) ((60 * K + cix ii) + t))) (mbeg n (a 3) (a 4) ((a 12), (a 13), (a 14), (a 15), (a 16))) Z).1).2.2.2.2))), rfl, ⟨(by rw [eL, lval, if_pos c_7]), ⟨(lgo (fuM (a 4)) (fun c => lastsV (a 2 c) (a 5 c)) (a 4) n (fun t => cix (a 27 (60 * K + cix ii + t))) (mbeg n (a 3) (a 4) ((a 12), (a 13), (a 14), (a 15), (a 16))) Z), by rw [eL]⟩⟩, by rw [ht]; exact hP, va_K.moved hW.alike hK, hD⟩, hS.F ht⟩) hS.2.2 dX2_loans_170
              · skip
                refine lv_iload hx hb dX2_loans_145 (lv_at hl 0 rfl) ?_
                have c0 : ¬ 0 ≤ (pairsV n (a 25 K) (a 26 K) (fun t => a 27 (60 * K + cix ii + t)) lane ii Z).1 := by unfold pairsV; by_cases z9 : barV (a 25 K) (a 26 K) lane ii (lN (2 * Z)) = 0 <;> simp only [z9, if_true, if_false] at c_6 ⊢ <;> exact c_6
                have eL : M_loans n a (nI K) lane ii (nI Z) w = (pairsV n (a 25 K) (a 26 K) (fun t => a 27 (60 * K + cix ii + t)) lane ii Z) := by rw [M_loans, if_pos bK, if_pos (And.intro bL (And.intro bZ bW)), if_neg hn0, eK, eZ, if_neg c0]
                exact W.iret (v := (if (barV ((a 25) K) ((a 26) K) lane ii (lN (2 * Z))) = 0 then (if (allP n (fun t => (a 27) (60 * K + cix ii + t)) (2 * Z)) = true then 0 else (-1)) else (-10) - (barV ((a 25) K) ((a 26) K) lane ii (lN (2 * Z))))) hx hb hr (fun t ht hW => ⟨⟨(if (barV ((a 25) K) ((a 26) K) lane ii (lN (2 * Z))) = 0 then (if (allP n (fun t => (a 27) (60 * K + cix ii + t)) (2 * Z)) = true then 0 else (-1)) else (-10) - (barV ((a 25) K) ((a 26) K) lane ii (lN (2 * Z)))), ((upd g 0 (if (barV ((a 25) K) ((a 26) K) lane ii (lN (2 * Z))) = 0 then 0 else (barV ((a 25) K) ((a 26) K) lane ii (lN (2 * Z))))), a), rfl, ⟨(by rw [eL, pairsV]; by_cases z9 : barV (a 25 K) (a 26 K) lane ii (lN (2 * Z)) = 0 <;> simp only [z9, if_true, if_false]), ⟨((a 12, a 13, a 14, a 15, a 16), g 17, g 18), by rw [eL, pairsV]; by_cases z9 : barV (a 25 K) (a 26 K) lane ii (lN (2 * Z)) = 0 <;> simp only [z9, if_true, if_false] <;> exact tr_id g a _⟩⟩, by rw [ht]; exact hP, va_K.moved hW.alike hK, hD⟩, hS.F ht⟩) hS.2.2 dX2_loans_147
            · skip
              have hn0 : n = 0 := by rw [hn] at c_5; exact (nI_eq (a := n) (b := 0) (by omega) (by omega)).mp c_5
              refine lv_aload_n hx hb dX2_loans_122 rfl (lv_at hl 1 rfl) ?_
              refine lv_bipush (v := (-3)) hx hb dX2_loans_123 (by decide) ?_
              refine va_calli (va_runV (As := [.int (-3)]) (rest := []) ⟨hx, hb, hml, hown, hts⟩ (metX2_refused l dC dI ct A ex o q g a (-3) ) (cwV 1 hts (lw_V q1086 q1088 qs41 q74 q1089) rfl rfl rfl (by decide +kernel) ⟨Nat.le_of_ble_eq_true rfl, Nat.le_of_ble_eq_true rfl⟩) (mPV hK hP hD _) rfl rfl hl.1 rfl (lv_room (Nat.le_of_ble_eq_true rfl)) dX2_loans_125 ⟨Nat.zero_le _, Nat.zero_le _⟩) hS (fun q _ h => h) (fun q h => h) (fun r u t H1 locs ht hvm hw hB hz1 hk1 hS => ?_)
              obtain ⟨hw, hw2⟩ := hw
              have hw : r = (-3) := hw
              subst hw
              subst hw2
              obtain ⟨hP, -, hD⟩ := hB
              rw [ht] at hP
              generalize H1 = H at hP hS ⊢
              have hP : va_P (dC, dI) clA (mW ct o q (upd g 0 0) a ++ ex) H := hP
              have hD : va_D A (mW ct o q (upd g 0 0) a ++ ex) := hD
              have eL : M_loans n a (nI K) lane ii (nI Z) w = (-3, 0) := by rw [M_loans, if_pos bK, if_pos (And.intro bL (And.intro bZ bW)), if_pos hn0]
              exact W.iret (v := (-3)) hx hb hr (fun t ht hW => ⟨⟨(-3), ((upd g 0 0), a), rfl, ⟨(by rw [eL]), ⟨((a 12, a 13, a 14, a 15, a 16), g 17, g 18), by rw [eL]; exact tr_id g a 0⟩⟩, by rw [ht]; exact hP, va_K.moved hW.alike hK, hD⟩, hS.F ht⟩) hS.2.2 dX2_loans_128
          · skip
            refine lv_aload_n hx hb dX2_loans_108 rfl (lv_at hl 1 rfl) ?_
            refine lv_bipush (v := (-2)) hx hb dX2_loans_109 (by decide) ?_
            refine va_calli (va_runV (As := [.int (-2)]) (rest := []) ⟨hx, hb, hml, hown, hts⟩ (metX2_refused l dC dI ct A ex o q g a (-2) ) (cwV 1 hts (lw_V q1086 q1088 qs41 q74 q1089) rfl rfl rfl (by decide +kernel) ⟨Nat.le_of_ble_eq_true rfl, Nat.le_of_ble_eq_true rfl⟩) (mPV hK hP hD _) rfl rfl hl.1 rfl (lv_room (Nat.le_of_ble_eq_true rfl)) dX2_loans_111 ⟨Nat.zero_le _, Nat.zero_le _⟩) hS (fun q _ h => h) (fun q h => h) (fun r u t H1 locs ht hvm hw hB hz1 hk1 hS => ?_)
            obtain ⟨hw, hw2⟩ := hw
            have hw : r = (-2) := hw
            subst hw
            subst hw2
            obtain ⟨hP, -, hD⟩ := hB
            rw [ht] at hP
            generalize H1 = H at hP hS ⊢
            have hP : va_P (dC, dI) clA (mW ct o q (upd g 0 0) a ++ ex) H := hP
            have hD : va_D A (mW ct o q (upd g 0 0) a ++ ex) := hD
            have eL : M_loans n a (nI K) lane ii (nI Z) w = (-2, 0) := by rw [M_loans, if_pos bK, if_neg]; rintro ⟨z1, z2, z3⟩; first | exact absurd (z1.symm.trans c_4) (by decide) | exact absurd (z2.symm.trans c_4) (by decide) | exact absurd (z3.symm.trans c_4) (by decide)
            exact W.iret (v := (-2)) hx hb hr (fun t ht hW => ⟨⟨(-2), ((upd g 0 0), a), rfl, ⟨(by rw [eL]), ⟨((a 12, a 13, a 14, a 15, a 16), g 17, g 18), by rw [eL]; exact tr_id g a 0⟩⟩, by rw [ht]; exact hP, va_K.moved hW.alike hK, hD⟩, hS.F ht⟩) hS.2.2 dX2_loans_114
    refine lv_iload hx hb dX2_loans_13 (lv_at hl 5 rfl) ?_
    refine lv_i2l (v := (Int32.toInt64 w)) hx hb dX2_loans_15 rfl ?_
    refine lv_lconst (v := 0) hx hb dX2_loans_16 (by decide) ?_
    refine lv_ldc2 (v := 3) hx hb hown (hts _ q1082) dX2_loans_17 ?_
    refine vp_callSi ((va_runS (As := [.long (Int32.toInt64 w), .long 0, .long 3]) (rest := []) ⟨hx, hb, hml, hown, hts⟩ (metX2_in l (Int32.toInt64 w) 0 3 ) (va_cwS 3 hts (lw_S q1083 q1084 q74 q1085) rfl rfl rfl (by decide +kernel) ⟨Nat.le_of_ble_eq_true rfl, Nat.le_of_ble_eq_true rfl⟩) (pcS _) rfl rfl hl.1 rfl (lv_room (Nat.le_of_ble_eq_true rfl)) dX2_loans_20 ⟨Nat.zero_le _, Nat.zero_le _⟩)).run (fun r hw => ?_)
    have hw : r = (b2i (lin (Int32.toInt64 w) 0 3)) := hw
    subst hw
    refine bz_ne (tgt := 71) hx hb dX2_loans_23 (by decide) (fun c_15 => ?_) (fun c_15 => ?_)
    · skip
      refine lv_iconst (v := 1) hx hb dX2_loans_71 (by decide) ?_
      refine lv_goto (tgt := 76) hx hb dX2_loans_72 (by decide) ?_
      refine lv_topi (fun z_16 ez_16 => ?_)
      have ez_16 : z_16 = (b2i (whatV w)) := ez_16.trans (by simp [b2i, whatV, c_15])
      subst ez_16
      exact join1   _ _ hP hD hS _ (lv_sub hl [0, 1, 2, 3, 4, 5] rfl)
    · skip
      refine lv_iload hx hb dX2_loans_26 (lv_at hl 5 rfl) ?_
      refine lv_i2l (v := (Int32.toInt64 w)) hx hb dX2_loans_28 rfl ?_
      refine lv_ldc2 (v := 10) hx hb hown (hts _ q1144) dX2_loans_29 ?_
      refine lv_ldc2 (v := 15) hx hb hown (hts _ q1145) dX2_loans_32 ?_
      refine vp_callSi ((va_runS (As := [.long (Int32.toInt64 w), .long 10, .long 15]) (rest := []) ⟨hx, hb, hml, hown, hts⟩ (metX2_in l (Int32.toInt64 w) 10 15 ) (va_cwS 3 hts (lw_S q1083 q1084 q74 q1085) rfl rfl rfl (by decide +kernel) ⟨Nat.le_of_ble_eq_true rfl, Nat.le_of_ble_eq_true rfl⟩) (pcS _) rfl rfl hl.1 rfl (lv_room (Nat.le_of_ble_eq_true rfl)) dX2_loans_35 ⟨Nat.zero_le _, Nat.zero_le _⟩)).run (fun r hw => ?_)
      have hw : r = (b2i (lin (Int32.toInt64 w) 10 15)) := hw
      subst hw
      refine bz_ne (tgt := 71) hx hb dX2_loans_38 (by decide) (fun c_17 => ?_) (fun c_17 => ?_)
      · skip
        refine lv_iconst (v := 1) hx hb dX2_loans_71 (by decide) ?_
        refine lv_goto (tgt := 76) hx hb dX2_loans_72 (by decide) ?_
        refine lv_topi (fun z_18 ez_18 => ?_)
        have ez_18 : z_18 = (b2i (whatV w)) := ez_18.trans (by simp [b2i, whatV, c_15, c_17])
        subst ez_18
        exact join1   _ _ hP hD hS _ (lv_sub hl [0, 1, 2, 3, 4, 5] rfl)
      · skip
        refine lv_iload hx hb dX2_loans_41 (lv_at hl 5 rfl) ?_
        refine lv_i2l (v := (Int32.toInt64 w)) hx hb dX2_loans_43 rfl ?_
        refine lv_ldc2 (v := 20) hx hb hown (hts _ q1146) dX2_loans_44 ?_
        refine lv_ldc2 (v := 25) hx hb hown (hts _ q1147) dX2_loans_47 ?_
        refine vp_callSi ((va_runS (As := [.long (Int32.toInt64 w), .long 20, .long 25]) (rest := []) ⟨hx, hb, hml, hown, hts⟩ (metX2_in l (Int32.toInt64 w) 20 25 ) (va_cwS 3 hts (lw_S q1083 q1084 q74 q1085) rfl rfl rfl (by decide +kernel) ⟨Nat.le_of_ble_eq_true rfl, Nat.le_of_ble_eq_true rfl⟩) (pcS _) rfl rfl hl.1 rfl (lv_room (Nat.le_of_ble_eq_true rfl)) dX2_loans_50 ⟨Nat.zero_le _, Nat.zero_le _⟩)).run (fun r hw => ?_)
        have hw : r = (b2i (lin (Int32.toInt64 w) 20 25)) := hw
        subst hw
        refine bz_ne (tgt := 71) hx hb dX2_loans_53 (by decide) (fun c_19 => ?_) (fun c_19 => ?_)
        · skip
          refine lv_iconst (v := 1) hx hb dX2_loans_71 (by decide) ?_
          refine lv_goto (tgt := 76) hx hb dX2_loans_72 (by decide) ?_
          refine lv_topi (fun z_20 ez_20 => ?_)
          have ez_20 : z_20 = (b2i (whatV w)) := ez_20.trans (by simp [b2i, whatV, c_15, c_17, c_19])
          subst ez_20
          exact join1   _ _ hP hD hS _ (lv_sub hl [0, 1, 2, 3, 4, 5] rfl)
        · skip
          refine lv_iload hx hb dX2_loans_56 (lv_at hl 5 rfl) ?_
          refine lv_i2l (v := (Int32.toInt64 w)) hx hb dX2_loans_58 rfl ?_
          refine lv_ldc2 (v := 30) hx hb hown (hts _ q1148) dX2_loans_59 ?_
          refine lv_ldc2 (v := 35) hx hb hown (hts _ q1149) dX2_loans_62 ?_
          refine vp_callSi ((va_runS (As := [.long (Int32.toInt64 w), .long 30, .long 35]) (rest := []) ⟨hx, hb, hml, hown, hts⟩ (metX2_in l (Int32.toInt64 w) 30 35 ) (va_cwS 3 hts (lw_S q1083 q1084 q74 q1085) rfl rfl rfl (by decide +kernel) ⟨Nat.le_of_ble_eq_true rfl, Nat.le_of_ble_eq_true rfl⟩) (pcS _) rfl rfl hl.1 rfl (lv_room (Nat.le_of_ble_eq_true rfl)) dX2_loans_65 ⟨Nat.zero_le _, Nat.zero_le _⟩)).run (fun r hw => ?_)
          have hw : r = (b2i (lin (Int32.toInt64 w) 30 35)) := hw
          subst hw
          refine bz_eq (tgt := 75) hx hb dX2_loans_68 (by decide) (fun c_21 => ?_) (fun c_21 => ?_)
          · skip
            refine lv_iconst (v := 0) hx hb dX2_loans_75 (by decide) ?_
            refine lv_topi (fun z_22 ez_22 => ?_)
            have ez_22 : z_22 = (b2i (whatV w)) := ez_22.trans (by simp [b2i, whatV, c_15, c_17, c_19, c_21])
            subst ez_22
            exact join1   _ _ hP hD hS _ (lv_sub hl [0, 1, 2, 3, 4, 5] rfl)
          · skip
            refine lv_iconst (v := 1) hx hb dX2_loans_71 (by decide) ?_
            refine lv_goto (tgt := 76) hx hb dX2_loans_72 (by decide) ?_
            refine lv_topi (fun z_23 ez_23 => ?_)
            have ez_23 : z_23 = (b2i (whatV w)) := ez_23.trans (by simp [b2i, whatV, c_15, c_17, c_19, c_21])
            subst ez_23
            exact join1   _ _ hP hD hS _ (lv_sub hl [0, 1, 2, 3, 4, 5] rfl)
  · skip
    refine lv_aload_n hx hb dX2_loans_7 rfl (lv_at hl 0 rfl) ?_
    refine lv_iconst (v := (-1)) hx hb dX2_loans_8 (by decide) ?_
    refine va_calli (va_runV (As := [.int (-1)]) (rest := []) ⟨hx, hb, hml, hown, hts⟩ (metX2_refused l dC dI ct A ex o q g a (-1) ) (cwV 1 hts (lw_V q1086 q1088 qs41 q74 q1089) rfl rfl rfl (by decide +kernel) ⟨Nat.le_of_ble_eq_true rfl, Nat.le_of_ble_eq_true rfl⟩) (mPV hK hP hD _) rfl rfl hl.1 rfl (lv_room (Nat.le_of_ble_eq_true rfl)) dX2_loans_9 ⟨Nat.zero_le _, Nat.zero_le _⟩) hS (fun q _ h => h) (fun q h => h) (fun r u t H1 locs ht hvm hw hB hz1 hk1 hS => ?_)
    obtain ⟨hw, hw2⟩ := hw
    have hw : r = (-1) := hw
    subst hw
    subst hw2
    obtain ⟨hP, -, hD⟩ := hB
    rw [ht] at hP
    generalize H1 = H at hP hS ⊢
    have hP : va_P (dC, dI) clA (mW ct o q (upd g 0 0) a ++ ex) H := hP
    have hD : va_D A (mW ct o q (upd g 0 0) a ++ ex) := hD
    have eL : M_loans n a x lane ii z w = (-1, 0) := by rw [M_loans, if_neg (by rw [show inP x 4 = false by simpa using c_1]; decide)]
    exact W.iret (v := (-1)) hx hb hr (fun t ht hW => ⟨⟨(-1), ((upd g 0 0), a), rfl, ⟨(by rw [eL]), ⟨((a 12, a 13, a 14, a 15, a 16), g 17, g 18), by rw [eL]; exact tr_id g a 0⟩⟩, by rw [ht]; exact hP, va_K.moved hW.alike hK, hD⟩, hS.F ht⟩) hS.2.2 dX2_loans_12
