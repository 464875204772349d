/-! LENT YOUTHS: the way home; what is asked of a row of loans -/
def ofpX (n : Nat) (has kn lf : Nat → Int32) (w : Int32) : Int32 := if inP (w - w / 10 * 10) n = true then (if 20 ≤ w then (if 30 ≤ w then lf (cix (w - w / 10 * 10)) else kn (cix (w - w / 10 * 10))) else has (cix (w - w / 10 * 10))) else -9
theorem tr_idX (g : Nat → Int32) (a : Nat → Nat → Int32) : (upd g 18 (g 18), va_up (va_up (va_up (va_up (va_up a 12 (a 12)) 13 (a 13)) 14 (a 14)) 15 (a 15)) 16 (a 16)) = (g, a) := by
  rw [upd_id, va_up_id, va_up_id, va_up_id, va_up_id, va_up_id]
theorem lstep_21 {F : Type} {fu : F → Nat → Int32 → Int32 → F} {la wa : Nat → Int32} {n : Nat} {were : Bool} {pr : Nat → Nat} {x : Nat} {T : LnS F × Int32 × Int32} (h : T.2.1 = -9 ∨ 0 ≤ T.2.1) (hx : x ≤ 1000) : (lstep fu la wa n were pr x T).2.1 = -9 ∨ 0 ≤ (lstep fu la wa n were pr x T).2.1 := by
  unfold lstep
  split
  · exact h
  · split
    · exact h
    · exact Or.inr (nI_pos' (by omega))
theorem lgo_21 {F : Type} {fu : F → Nat → Int32 → Int32 → F} {la wa : Nat → Int32} {n : Nat} {pr : Nat → Nat} {S : LnS F} : ∀ {N : Nat}, N ≤ 1000 → (lgo fu la wa n pr S N).2.1 = -9 ∨ 0 ≤ (lgo fu la wa n pr S N).2.1
  | 0, _ => Or.inl rfl
  | x + 1, h => lstep_21 (lgo_21 (N := x) (by omega)) (by omega)
theorem nn_nlt {x : Int32} (h : 0 ≤ x) : ¬ x < 0 := Int32.not_lt.mpr h
theorem whatV_9 {w : Int32} (h : whatV w = true) (h0 : ¬ w = 0) (h1 : ¬ w = 1) (h2 : ¬ w = 2) (h3 : ¬ w = 3) : ¬ w ≤ 9 := by
  intro h9
  unfold whatV at h
  rw [lin_inP _ _ 4 (by decide)] at h
  by_cases e : inP w 4 = true
  · obtain ⟨e1, e2⟩ := inP_e (by omega) e
    have : cix w = 0 ∨ cix w = 1 ∨ cix w = 2 ∨ cix w = 3 := by omega
    rcases this with z | z | z | z <;> rw [z] at e1
    · exact h0 e1
    · exact h1 e1
    · exact h2 e1
    · exact h3 e1
  · have l9 : w.toInt ≤ 9 := Int32.le_iff_toInt_le.mp h9
    have k : ∀ lo hi : Int64, 10 ≤ lo.toInt → lin w.toInt64 lo hi = false := by
      intro lo hi hlo
      unfold lin
      rw [decide_eq_false (fun z => by rw [Int64.le_iff_toInt_le, Int32.toInt_toInt64] at z; omega), Bool.false_and]
    rw [k 10 15 (by decide), k 20 25 (by decide), k 30 35 (by decide)] at h
    simp [e] at h
set_option maxHeartbeats 4000000 in
set_option maxRecDepth 100000 in
theorem metX0_home (l : Launch) (dC : Nat → ClassId) (dI : Nat → Nat → Nat) (ct : Nat → ClassId) (A : Nat → Prop) (ex : va_W) (o : Nat) (q : Nat → Nat) (ql qs : Nat) (md : Int32) (qe n : Nat) (y : Nat → Nat) (g : Nat → Int32) (a : Nat → Nat → Int32)  (hn6 : n ≤ 6) (hh : hasOk n (a 12)) (hij : inj n (fun j => cix (a 12 j))) : Met l yX0_home (ws_ yX0_home cX0_home 5 (some .int)) ({ frames := 2, cells := 0, slots := 0, locals := 40 }) (gPre dC dI ct A ex o q (ql, qs, md, qe, n) y g a [.ref o]) (vp_Si (fun r => r = (hmV n ((a 12), (a 13), (a 14), (a 15), (a 16))))) 0 0 (fun _ => False) := by
  refine Met.ofW (cc := cX0_home) (maxL := 5) (ret := (some .int)) (by decide) rfl ?_
  intro p e s m args below meth c s₁ B hml hv
  obtain ⟨rfl, hP, hK, hD, hE⟩ := hv
  have hx := B.exec
  have hb := B.bytes
  have hr := B.returns
  have hts := atoms_spec (ws := ws_ yX0_home cX0_home 5 (some .int)) B.pre
  have hts : ∀ w ∈ lw_all, w.before _ s = true := fun w h => hts w (List.mem_cons_of_mem _ h)
  have hown : s.vm.findClass RX0 = some m.cls := findClass_of_methodNamed B.named
  have hlocks := B.notSynchronized
  have hS : va_S A s.heap s.heap [] := va_S.rf
  have hl := lv_entry ([.ref o]) (n := 5) (Nat.le_of_ble_eq_true rfl)
  rw [lg_entry_eq]
  generalize (lg_sl ([.ref o]) ++ List.replicate (5 - (lg_sl ([.ref o])).length) Slot.unset).toArray = ls at hl ⊢
  have hl : lv_has ls 5 [(0, .ref o)] := hl
  refine lv_iconst (v := 0) hx hb dX0_home_0 (by decide) ?_
  refine lv_istore_n (lv' := [(1, .int 0), (0, .ref o)]) hx hb dX0_home_1 rfl hl (by decide) rfl (fun ls hl => ?_)
  refine lv_iconst (v := 0) hx hb dX0_home_2 (by decide) ?_
  refine lv_istore_n (lv' := [(2, .int 0), (1, .int 0), (0, .ref o)]) hx hb dX0_home_3 rfl hl (by decide) rfl (fun ls hl => ?_)
  refine lv_iconst (v := 0) hx hb dX0_home_4 (by decide) ?_
  refine lv_istore_n (lv' := [(3, .int 0), (2, .int 0), (1, .int 0), (0, .ref o)]) hx hb dX0_home_5 rfl hl (by decide) rfl (fun ls hl => ?_)
  have loop1 : ∀ (f1 : Nat) (v : Nat) (w1 : Nat), (v ≤ n) → (n + 1 ≤ v + f1) → (rO n (fun j => cix (a 12 j)) (homM (fun j => cix (a 12 j)) n v).1) → (w1 + cU (homM (fun j => cix (a 12 j)) n v).1 n + (homM (fun j => cix (a 12 j)) n v).2 = n) → ∀ (ls : Array Slot), lv_has ls 5 [(3, .int (nI v)), (2, .int (mset (homM (fun j => cix (a 12 j)) n v).1 n)), (1, .int (nI w1)), (0, .ref o)] → W p l e (headSpec (ws_ yX0_home cX0_home 5 (some .int)) ({ frames := 2, cells := 0, slots := 0, locals := 40 })).room s m ([.ref o] : List Value).toArray below meth c s.heap [] 0 0 (MQ below (vp_Si (fun r => r = (hmV n ((a 12), (a 13), (a 14), (a 15), (a 16))))) ([.ref o] : List Value).toArray s 0 0 (fun _ => False)) (F0 m 6 ls []) := by
    intro f1
    induction f1 with
    | zero => intro v w1 hp hf hO hcn; exact False.elim (by omega)
    | succ f1 ih1 =>
      intro v w1 hp hf hO hcn ls hl
      refine lv_iload_n hx hb dX0_home_6 rfl (lv_at hl 0 rfl) ?_
      refine lv_aload_n hx hb dX0_home_7 rfl (lv_at hl 3 rfl) ?_
      refine vp_callSi ((va_runV (As := []) (rest := [.int (nI v)]) ⟨hx, hb, hml, hown, hts⟩ (metX0_people l dC dI ct A (peW ct o qe n y a ++ ex) o q ql qs md qe n g a  ) (cwV 0 hts (lw_V q593 q595 qs14 q69 q596) rfl rfl rfl (by decide +kernel) ⟨Nat.le_of_ble_eq_true rfl, Nat.le_of_ble_eq_true rfl⟩) (xPV hK hP hD hE _) rfl rfl hl.1 rfl (lv_room (Nat.le_of_ble_eq_true rfl)) dX0_home_8 ⟨Nat.zero_le _, Nat.zero_le _⟩)).run (fun r hw => ?_)
      have hw : r = (nI n) := hw
      subst hw
      refine lv_icmp_ge (tgt := 73) hx hb dX0_home_11 (by decide) (fun c_1 => ?_) (fun c_1 => ?_)
      · skip
        have hge : v = n := by exact Nat.le_antisymm (by omega) ((nI_leI (by omega) (by omega)).mp c_1)
        refine lv_iload_n hx hb dX0_home_73 rfl (lv_at hl 2 rfl) ?_
        exact W.iret (v := (nI w1)) hx hb hr (fun t ht hW => ⟨(nI w1), rfl, (by subst hge; rw [cU_0 (fun j hj => homM_in _ _ _ j hj)] at hcn; show nI w1 = nI v - nI (homM (fun j => cix (a 12 j)) v v).2; rw [pk_sub (by omega)]; congr 1; omega), ht⟩) (fun q h => by cases h) dX0_home_74
      · skip
        have hlt : v < n := by exact Nat.lt_of_not_le (fun z => c_1 ((nI_leI (by omega) (by omega)).mpr z))
        refine lv_iload_n hx hb dX0_home_14 rfl (lv_at hl 1 rfl) ?_
        refine lv_iload_n hx hb dX0_home_15 rfl (lv_at hl 0 rfl) ?_
        refine vp_callSi ((va_runS (As := [.int (mset (homM (fun j => cix (a 12 j)) n v).1 n), .int (nI v)]) (rest := []) ⟨hx, hb, hml, hown, hts⟩ (metX0_isOf l (mset (homM (fun j => cix (a 12 j)) n v).1 n) (nI v) ) (va_cwS 2 hts (lw_S q723 q724 q69 q725) rfl rfl rfl (by decide +kernel) ⟨Nat.le_of_ble_eq_true rfl, Nat.le_of_ble_eq_true rfl⟩) (pcS _) rfl rfl hl.1 rfl (lv_room (Nat.le_of_ble_eq_true rfl)) dX0_home_16 ⟨Nat.zero_le _, Nat.zero_le _⟩)).run (fun r hw => ?_)
        have hw : r = (b2i (bq (mset (homM (fun j => cix (a 12 j)) n v).1 n) (nI v))) := hw
        subst hw
        refine bz_eq (tgt := 25) hx hb dX0_home_19 (by decide) (fun c_2 => ?_) (fun c_2 => ?_)
        · skip
          rw [mset_bq _ (by omega) hlt] at c_2
          refine lv_iload_n hx hb dX0_home_25 rfl (lv_at hl 1 rfl) ?_
          refine lv_iconst (v := 1) hx hb dX0_home_26 (by decide) ?_
          refine lv_iload_n hx hb dX0_home_27 rfl (lv_at hl 0 rfl) ?_
          refine lv_ishl hx hb dX0_home_28 ?_
          refine lv_ior hx hb dX0_home_29 ?_
          refine lv_topi (fun z_3 ez_3 => ?_)
          have ez_3 : z_3 = (mset (setB (homM (fun j => cix (a 12 j)) n v).1 v) n) := ez_3.trans (mset_set _ (by omega) hlt)
          subst ez_3
          refine lv_istore_n (lv' := [(2, .int (mset (setB (homM (fun j => cix (a 12 j)) n v).1 v) n)), (3, .int (nI v)), (1, .int (nI w1)), (0, .ref o)]) hx hb dX0_home_30 rfl hl (by decide) rfl (fun ls hl => ?_)
          refine lv_aload_n hx hb dX0_home_31 rfl (lv_at hl 3 rfl) ?_
          refine g_get (v := .ref (q 12)) hx hb hts hown hK hP 11 (by decide) rfl q160 rfl dX0_home_32 ?_
          refine lv_iload_n hx hb dX0_home_35 rfl (lv_at hl 1 rfl) ?_
          refine g_ild hx hb hK hP (gWa12 _ _ _ _ _ _ _ _ _ _ _ _) (a 12) rfl v rfl (by omega) (by decide) dX0_home_36 ?_
          refine lv_istore (lv' := [(4, .int ((a 12) v)), (2, .int (mset (setB (homM (fun j => cix (a 12 j)) n v).1 v) n)), (3, .int (nI v)), (1, .int (nI w1)), (0, .ref o)]) hx hb dX0_home_37 hl (by decide) rfl (fun ls hl => ?_)
          have loop2 : ∀ (f2 : Nat) (S : Nat → Bool) (b : Nat) (k : Nat) (d : Nat), (b < n) → (rE n v b (fun j => cix (a 12 j)) S) → (cU S n + 1 ≤ k) → (cU S n + 1 ≤ f2) → (ring (fun j => cix (a 12 j)) k S (cix (a 12 b)) = (homM (fun j => cix (a 12 j)) n (v + 1)).1) → (d + cU S n + (homM (fun j => cix (a 12 j)) n v).2 + 1 = n) → ∀ (ls : Array Slot), lv_has ls 5 [(4, .int ((a 12) b)), (3, .int (nI v)), (2, .int (mset S n)), (1, .int (nI d)), (0, .ref o)] → W p l e (headSpec (ws_ yX0_home cX0_home 5 (some .int)) ({ frames := 2, cells := 0, slots := 0, locals := 40 })).room s m ([.ref o] : List Value).toArray below meth c s.heap [] 0 0 (MQ below (vp_Si (fun r => r = (hmV n ((a 12), (a 13), (a 14), (a 15), (a 16))))) ([.ref o] : List Value).toArray s 0 0 (fun _ => False)) (F0 m 39 ls []) := by
            intro f2
            induction f2 with
            | zero => intro S b k d hl1 hE1 hk1 hf9 hring hdn; exact False.elim (by omega)
            | succ f2 ih2 =>
              intro S b k d hl1 hE1 hk1 hf9 hring hdn ls hl
              refine lv_iload hx hb dX0_home_39 (lv_at hl 0 rfl) ?_
              refine lv_iload_n hx hb dX0_home_41 rfl (lv_at hl 1 rfl) ?_
              refine lv_icmp_eq (tgt := 67) hx hb dX0_home_42 (by decide) (fun c_4 => ?_) (fun c_4 => ?_)
              · skip
                have hq9 : cix (a 12 b) = v := by rw [c_4]; exact cix_nI (by omega)
                obtain ⟨k, rfl⟩ : ∃ k0, k = k0 + 1 := ⟨k - 1, by omega⟩
                refine lv_iinc (v := (nI (v + 1))) (lv' := [(3, .int (nI (v + 1))), (4, .int ((a 12) b)), (2, .int (mset S n)), (1, .int (nI d)), (0, .ref o)]) hx hb dX0_home_67 hl (k := 1) rfl (nI_1 v) (by decide) rfl (fun ls hl => ?_)
                refine lv_goto (tgt := 6) hx hb dX0_home_70 (by decide) ?_
                have hf2c := (homM_f (h := (fun j => cix (a 12 j))) c_2).2
                have e9 : (homM (fun j => cix (a 12 j)) n (v + 1)).1 = S := by rw [← hring, hq9]; exact ring_t hE1.2.1
                exact ih1 (v + 1) d (by omega) (by omega) (by rw [e9]; exact rE_end hl1 hE1 hq9) (by rw [e9, hf2c]; omega) _ (by rw [e9]; exact (lv_sub hl [0, 2, 3, 4] rfl))
              · skip
                have hq9 : cix (a 12 b) ≠ v := fun z => c_4 (by rw [(hh b hl1).1, z])
                have hb1 : cix (a 12 b) < n := (hh b hl1).2
                have hS9 : S (cix (a 12 b)) = false := rE_new hij hl1 hb1 hE1 hq9
                obtain ⟨k, rfl⟩ : ∃ k0, k = k0 + 1 := ⟨k - 1, by omega⟩
                refine lv_iload_n hx hb dX0_home_45 rfl (lv_at hl 2 rfl) ?_
                refine lv_iconst (v := 1) hx hb dX0_home_46 (by decide) ?_
                refine lv_iload hx hb dX0_home_47 (lv_at hl 0 rfl) ?_
                refine lv_ishl hx hb dX0_home_49 ?_
                refine lv_ior hx hb dX0_home_50 ?_
                refine lv_topi (fun z_5 ez_5 => ?_)
                have ez_5 : z_5 = (mset (setB S (cix (a 12 b))) n) := ez_5.trans (Eq.trans (congrArg (fun z => mset S n ||| ((1 : Int32) <<< (z &&& 31))) (hh b hl1).1) (mset_set S (by omega) (hh b hl1).2))
                subst ez_5
                refine lv_istore_n (lv' := [(2, .int (mset (setB S (cix (a 12 b))) n)), (4, .int ((a 12) b)), (3, .int (nI v)), (1, .int (nI d)), (0, .ref o)]) hx hb dX0_home_51 rfl hl (by decide) rfl (fun ls hl => ?_)
                refine lv_iinc (v := (nI (d + 1))) (lv' := [(1, .int (nI (d + 1))), (2, .int (mset (setB S (cix (a 12 b))) n)), (4, .int ((a 12) b)), (3, .int (nI v)), (0, .ref o)]) hx hb dX0_home_52 hl (k := 3) rfl (nI_1 d) (by decide) rfl (fun ls hl => ?_)
                refine lv_aload_n hx hb dX0_home_55 rfl (lv_at hl 4 rfl) ?_
                refine g_get (v := .ref (q 12)) hx hb hts hown hK hP 11 (by decide) rfl q160 rfl dX0_home_56 ?_
                refine lv_iload hx hb dX0_home_59 (lv_at hl 2 rfl) ?_
                refine g_ild hx hb hK hP (gWa12 _ _ _ _ _ _ _ _ _ _ _ _) (a 12) rfl (cix (a 12 b)) (hh b hl1).1 (Nat.lt_of_lt_of_le (hh b hl1).2 hn6) (by decide) dX0_home_61 ?_
                refine lv_istore (lv' := [(4, .int ((a 12) (cix (a 12 b)))), (1, .int (nI (d + 1))), (2, .int (mset (setB S (cix (a 12 b))) n)), (3, .int (nI v)), (0, .ref o)]) hx hb dX0_home_62 hl (by decide) rfl (fun ls hl => ?_)
                refine lv_goto (tgt := 39) hx hb dX0_home_64 (by decide) ?_
                exact ih2 (setB S (cix (a 12 b))) (cix (a 12 b)) k (d + 1) hb1 (rE_step hl1 hE1 hS9) (by have := cU_lt hS9 hb1; omega) (by have := cU_lt hS9 hb1; omega) (by rw [← hring]; exact (ring_f hS9).symm) (by have := cU_lt hS9 hb1; omega) _ (lv_sub hl [0, 3, 2, 1, 4] rfl)
          obtain ⟨hf1c, hf2c⟩ := homM_f (h := (fun j => cix (a 12 j))) c_2
          have hu := cU_lt c_2 hlt
          exact loop2 (n + 1) (setB (homM (fun j => cix (a 12 j)) n v).1 v) v n w1 hlt (rE_start c_2 hO) (by have := cU_le1 v hlt (setB_s (homM (fun j => cix (a 12 j)) n v).1 v); omega) (by have := cU_le (setB (homM (fun j => cix (a 12 j)) n v).1 v) n; omega) hf1c.symm (by omega) _ (lv_sub hl [0, 2, 1, 3, 4] rfl)
        · skip
          rw [mset_bq _ (by omega) hlt] at c_2
          refine lv_goto (tgt := 67) hx hb dX0_home_22 (by decide) ?_
          refine lv_iinc (v := (nI (v + 1))) (lv' := [(3, .int (nI (v + 1))), (2, .int (mset (homM (fun j => cix (a 12 j)) n v).1 n)), (1, .int (nI w1)), (0, .ref o)]) hx hb dX0_home_67 hl (k := 0) rfl (nI_1 v) (by decide) rfl (fun ls hl => ?_)
          refine lv_goto (tgt := 6) hx hb dX0_home_70 (by decide) ?_
          obtain ⟨e1, e2⟩ := homM_t (h := (fun j => cix (a 12 j))) c_2
          exact ih1 (v + 1) w1 (by omega) (by omega) (by rw [e1]; exact hO) (by rw [e1, e2]; exact hcn) _ (by rw [e1]; exact (lv_sub hl [0, 1, 2, 3] rfl))
  exact loop1 (n + 1) 0 0 (by omega) (by omega) (fun x _ h1 => by cases h1) (by show 0 + cU (fun _ => false) n + 0 = n; rw [cU_F]; omega) _ (by rw [show mset (homM (fun j => cix (a 12 j)) n 0).1 n = 0 from mset_F n]; exact (lv_sub hl [0, 1, 2, 3] rfl))
set_option maxHeartbeats 4000000 in
set_option maxRecDepth 100000 in
theorem metX0_ofPeople (l : Launch) (dC : Nat → ClassId) (dI : Nat → Nat → Nat) (ct : Nat → ClassId) (A : Nat → Prop) (ex : va_W) (o : Nat) (q : Nat → Nat) (ql qs : Nat) (md : Int32) (qe n : Nat) (y : Nat → Nat) (g : Nat → Int32) (a : Nat → Nat → Int32) (w : Int32) (hn6 : n ≤ 6) : Met l yX0_ofPeople (ws_ yX0_ofPeople cX0_ofPeople 3 (some .int)) ({ frames := 3, cells := 0, slots := 0, locals := 64 }) (gPre dC dI ct A ex o q (ql, qs, md, qe, n) y g a [.ref o, .int w]) (vp_Si (fun r => r = (ofpX n (a 12) (a 15) (a 13) w))) 0 0 (fun _ => False) := by
  refine Met.ofW (cc := cX0_ofPeople) (maxL := 3) (ret := (some .int)) (by decide) rfl ?_
  intro p e s m args below meth c s₁ B hml hv
  obtain ⟨rfl, hP, hK, hD, hE⟩ := hv
  have hx := B.exec
  have hb := B.bytes
  have hr := B.returns
  have hts := atoms_spec (ws := ws_ yX0_ofPeople cX0_ofPeople 3 (some .int)) B.pre
  have hts : ∀ w ∈ lw_all, w.before _ s = true := fun w h => hts w (List.mem_cons_of_mem _ h)
  have hown : s.vm.findClass RX0 = some m.cls := findClass_of_methodNamed B.named
  have hlocks := B.notSynchronized
  have hS : va_S A s.heap s.heap [] := va_S.rf
  have hl := lv_entry ([.ref o, .int w]) (n := 3) (Nat.le_of_ble_eq_true rfl)
  rw [lg_entry_eq]
  generalize (lg_sl ([.ref o, .int w]) ++ List.replicate (3 - (lg_sl ([.ref o, .int w])).length) Slot.unset).toArray = ls at hl ⊢
  have hl : lv_has ls 3 [(0, .ref o), (1, .int w)] := hl
  refine lv_iload_n hx hb dX0_ofPeople_0 rfl (lv_at hl 1 rfl) ?_
  refine lv_bipush (v := 10) hx hb dX0_ofPeople_1 (by decide) ?_
  refine lv_irem hx hb dX0_ofPeople_3 (by decide) ?_
  refine lv_istore_n (lv' := [(2, .int (w - w / 10 * 10)), (0, .ref o), (1, .int w)]) hx hb dX0_ofPeople_4 rfl hl (by decide) rfl (fun ls hl => ?_)
  refine lv_aload_n hx hb dX0_ofPeople_5 rfl (lv_at hl 1 rfl) ?_
  refine lv_iload_n hx hb dX0_ofPeople_6 rfl (lv_at hl 0 rfl) ?_
  refine vp_callSi ((va_runV (As := [.int (w - w / 10 * 10)]) (rest := []) ⟨hx, hb, hml, hown, hts⟩ (metX0_isPerson l dC dI ct A (peW ct o qe n y a ++ ex) o q ql qs md qe n g a (w - w / 10 * 10) hn6) (cwV 1 hts (lw_V q589 q591 qs13 q69 q592) rfl rfl rfl (by decide +kernel) ⟨Nat.le_of_ble_eq_true rfl, Nat.le_of_ble_eq_true rfl⟩) (xPV hK hP hD hE _) rfl rfl hl.1 rfl (lv_room (Nat.le_of_ble_eq_true rfl)) dX0_ofPeople_7 ⟨Nat.zero_le _, Nat.zero_le _⟩)).run (fun r hw => ?_)
  have hw : r = (b2i (inP (w - w / 10 * 10) n)) := hw
  subst hw
  refine bz_ne (tgt := 16) hx hb dX0_ofPeople_10 (by decide) (fun c_1 => ?_) (fun c_1 => ?_)
  · skip
    have hp9 : inP (w - w / 10 * 10) n = true := c_1
    obtain ⟨eP, hlt⟩ := inP_e (by omega) hp9
    refine lv_iload_n hx hb dX0_ofPeople_16 rfl (lv_at hl 2 rfl) ?_
    refine lv_bipush (v := 20) hx hb dX0_ofPeople_17 (by decide) ?_
    refine lv_icmp_ge (tgt := 31) hx hb dX0_ofPeople_19 (by decide) (fun c_2 => ?_) (fun c_2 => ?_)
    · skip
      refine lv_iload_n hx hb dX0_ofPeople_31 rfl (lv_at hl 2 rfl) ?_
      refine lv_bipush (v := 30) hx hb dX0_ofPeople_32 (by decide) ?_
      refine lv_icmp_ge (tgt := 46) hx hb dX0_ofPeople_34 (by decide) (fun c_3 => ?_) (fun c_3 => ?_)
      · skip
        refine lv_aload_n hx hb dX0_ofPeople_46 rfl (lv_at hl 1 rfl) ?_
        refine g_get (v := .ref ql) hx hb hts hown hK hP 2 (by decide) rfl q146 rfl dX0_ofPeople_47 ?_
        refine lv_iload_n hx hb dX0_ofPeople_50 rfl (lv_at hl 0 rfl) ?_
        refine lv_topi (fun z_4 ez_4 => ?_)
        have ez_4 : z_4 = (nI (cix (w - w / 10 * 10))) := ez_4.trans eP
        subst ez_4
        refine va_csFr (va_runF (As := [.int (nI (cix (w - w / 10 * 10)))]) (rest := []) (jAt hK) ⟨hx, hb, hml, hown, hts⟩ (metJ2_get l dC dI ct (xG ct o q (ql, qs, md, qe, n) y g a ex) ql md qe n 14 rfl (cix (w - w / 10 * 10)) 15 10 (y (cix (w - w / 10 * 10))) (edF y n) (xG_ed (Nat.lt_of_le_of_lt (Nat.zero_le _) hlt)) (Nat.lt_of_lt_of_le hlt (by omega)) (by omega) (if_pos hlt) hlt (by omega)) (va_cwF 1 hts (lw_F q607 q610 q612 q72 q614) rfl rfl rfl (xE_fw_get hE) (by decide +kernel) ⟨Nat.le_of_ble_eq_true rfl, Nat.le_of_ble_eq_true rfl⟩) (jPV (k := 14) (md := md) (qe := qe) (n := n) hK hP rfl _) rfl rfl hl.1 rfl (lv_room (Nat.le_of_ble_eq_true rfl)) dX0_ofPeople_51 ⟨Nat.zero_le _, Nat.zero_le _⟩) (fun r hw => ?_)
        have hw : (y (cix (w - w / 10 * 10))) = r := Eq.symm hw
        subst hw
        refine c_cast hx hb hts hown hK hP hE hlt q451 dX0_ofPeople_56 ?_
        refine c_getN (v := .int ((a 13) (cix (w - w / 10 * 10)))) hx hb hts hown hK hP hlt 4 (by decide) rfl (xE_q466 hE) dX0_ofPeople_59 ?_
        exact W.iret (v := ((a 13) (cix (w - w / 10 * 10)))) hx hb hr (fun t ht hW => ⟨((a 13) (cix (w - w / 10 * 10))), rfl, (by unfold ofpX; simp [hp9, c_2, c_3]), ht⟩) (fun q h => by cases h) dX0_ofPeople_62
      · skip
        refine lv_aload_n hx hb dX0_ofPeople_37 rfl (lv_at hl 1 rfl) ?_
        refine g_get (v := .ref (q 15)) hx hb hts hown hK hP 12 (by decide) rfl q161 rfl dX0_ofPeople_38 ?_
        refine lv_iload_n hx hb dX0_ofPeople_41 rfl (lv_at hl 0 rfl) ?_
        refine g_ild hx hb hK hP (gWa15 _ _ _ _ _ _ _ _ _ _ _ _) (a 15) rfl (cix (w - w / 10 * 10)) eP (Nat.lt_of_lt_of_le hlt hn6) (by decide) dX0_ofPeople_42 ?_
        refine lv_goto (tgt := 62) hx hb dX0_ofPeople_43 (by decide) ?_
        exact W.iret (v := ((a 15) (cix (w - w / 10 * 10)))) hx hb hr (fun t ht hW => ⟨((a 15) (cix (w - w / 10 * 10))), rfl, (by unfold ofpX; simp [hp9, c_2, c_3]), ht⟩) (fun q h => by cases h) dX0_ofPeople_62
    · skip
      refine lv_aload_n hx hb dX0_ofPeople_22 rfl (lv_at hl 1 rfl) ?_
      refine g_get (v := .ref (q 12)) hx hb hts hown hK hP 11 (by decide) rfl q160 rfl dX0_ofPeople_23 ?_
      refine lv_iload_n hx hb dX0_ofPeople_26 rfl (lv_at hl 0 rfl) ?_
      refine g_ild hx hb hK hP (gWa12 _ _ _ _ _ _ _ _ _ _ _ _) (a 12) rfl (cix (w - w / 10 * 10)) eP (Nat.lt_of_lt_of_le hlt hn6) (by decide) dX0_ofPeople_27 ?_
      refine lv_goto (tgt := 62) hx hb dX0_ofPeople_28 (by decide) ?_
      exact W.iret (v := ((a 12) (cix (w - w / 10 * 10)))) hx hb hr (fun t ht hW => ⟨((a 12) (cix (w - w / 10 * 10))), rfl, (by unfold ofpX; simp [hp9, c_2]), ht⟩) (fun q h => by cases h) dX0_ofPeople_62
  · skip
    refine lv_bipush (v := (-9)) hx hb dX0_ofPeople_13 (by decide) ?_
    exact W.iret (v := (-9)) hx hb hr (fun t ht hW => ⟨(-9), rfl, (by unfold ofpX; rw [if_neg (by rw [c_1]; decide)]), ht⟩) (fun q h => by cases h) dX0_ofPeople_15
set_option maxHeartbeats 4000000 in
set_option maxRecDepth 100000 in
theorem metX0_lentBy (l : Launch) (dC : Nat → ClassId) (dI : Nat → Nat → Nat) (ct : Nat → ClassId) (A : Nat → Prop) (ex : va_W) (o : Nat) (q : Nat → Nat) (ql qs : Nat) (md : Int32) (qe n : Nat) (y : Nat → Nat) (g : Nat → Int32) (a : Nat → Nat → Int32) (w : Int32) (rp rq N : Nat) (rf : Nat → Int32) (hrp : ex[rp]? = some (rq, .inl (ct 0, 2 * N, .inl rf))) (hN : N ≤ 30) (hn6 : n ≤ 6) (hwv : whatV w = true) : Met l yX0_lentBy (ws_ yX0_lentBy cX0_lentBy 4 (some .int)) ({ frames := 7, cells := 0, slots := 0, locals := 146 }) (gPre dC dI ct A ex o q (ql, qs, md, qe, n) y g a [.ref o, .ref rq, .int w]) (va_Qi (fun (r : Int32) (u : (Nat → Int32) × (Nat → Nat → Int32)) => r = (if allP n rf (2 * N) = true then lval n (a 4) (lgo fuX (laX (g 3) (g 4) (a 2) (a 5)) (a 4) n (fun t => cix (rf t)) (xbeg n (a 3) ((a 12), (a 13), (a 14), (a 15), (a 16))) N) (hmV n (lgo fuX (laX (g 3) (g 4) (a 2) (a 5)) (a 4) n (fun t => cix (rf t)) (xbeg n (a 3) ((a 12), (a 13), (a 14), (a 15), (a 16))) N).1) w else (-1)) ∧ ∃ (T : LnS (Nat → Int32) × Int32 × Int32), u = ((upd g 18 T.2.2), (va_up (va_up (va_up (va_up (va_up a 12 ((T.1).1)) 13 ((T.1).2.1)) 14 ((T.1).2.2.1)) 15 ((T.1).2.2.2.1)) 16 ((T.1).2.2.2.2)))) (gB dC dI ct A ex o q (ql, qs, md, qe, n) y) A) 0 0 A := by
  refine Met.ofW (cc := cX0_lentBy) (maxL := 4) (ret := (some .int)) (by decide) rfl ?_
  intro p e s m args below meth c s₁ B hml hv
  obtain ⟨rfl, hP, hK, hD, hE⟩ := hv
  have hx := B.exec
  have hb := B.bytes
  have hr := B.returns
  have hts := atoms_spec (ws := ws_ yX0_lentBy cX0_lentBy 4 (some .int)) B.pre
  have hts : ∀ w ∈ lw_all, w.before _ s = true := fun w h => hts w (List.mem_cons_of_mem _ h)
  have hown : s.vm.findClass RX0 = some m.cls := findClass_of_methodNamed B.named
  have hlocks := B.notSynchronized
  have hS : va_S A s.heap s.heap [] := va_S.rf
  have hl := lv_entry ([.ref o, .ref rq, .int w]) (n := 4) (Nat.le_of_ble_eq_true rfl)
  rw [lg_entry_eq]
  generalize (lg_sl ([.ref o, .ref rq, .int w]) ++ List.replicate (4 - (lg_sl ([.ref o, .ref rq, .int w])).length) Slot.unset).toArray = ls at hl ⊢
  have hl : lv_has ls 4 [(0, .ref o), (1, .ref rq), (2, .int w)] := hl
  refine lv_aload_n hx hb dX0_lentBy_0 rfl (lv_at hl 0 rfl) ?_
  refine lv_aload_n hx hb dX0_lentBy_1 rfl (lv_at hl 1 rfl) ?_
  refine vp_callSi ((va_runV (As := [.ref rq]) (rest := []) ⟨hx, hb, hml, hown, hts⟩ (metX0_areOthers l dC dI ct A ex o q ql qs md qe n y g a  rp rq N rf hrp hN hn6) (cwV 1 hts (lw_V q689 q691 qs17 q69 q692) rfl rfl rfl (by decide +kernel) ⟨Nat.le_of_ble_eq_true rfl, Nat.le_of_ble_eq_true rfl⟩) (gPV hK hP hD hE _) rfl rfl hl.1 rfl (lv_room (Nat.le_of_ble_eq_true rfl)) dX0_lentBy_2 ⟨Nat.zero_le _, Nat.zero_le _⟩)).run (fun r hw => ?_)
  have hw : r = (b2i (!(allP n rf (2 * N)))) := hw
  subst hw
  refine bz_eq (tgt := 10) hx hb dX0_lentBy_5 (by decide) (fun c_1 => ?_) (fun c_1 => ?_)
  · skip
    refine lv_aload_n hx hb dX0_lentBy_10 rfl (lv_at hl 0 rfl) ?_
    refine lv_aload_n hx hb dX0_lentBy_11 rfl (lv_at hl 1 rfl) ?_
    have hall : allP n rf (2 * N) = true := by simpa using c_1
    have hpr : ∀ t, t < 2 * N → rf t = nI (cix (rf t)) ∧ cix (rf t) < n := fun t ht => inP_e (by omega) (allP_at hall t ht)
    refine va_calli (va_runV (As := [.ref rq]) (rest := []) ⟨hx, hb, hml, hown, hts⟩ (metX0_goAll l dC dI ct A ex o q ql qs md qe n y g a  rp rq N rf hrp hN hn6 hpr) (cwV 1 hts (lw_V q693 q695 qs18 q69 q696) rfl rfl rfl (by decide +kernel) ⟨Nat.le_of_ble_eq_true rfl, Nat.le_of_ble_eq_true rfl⟩) (gPV hK hP hD hE _) rfl rfl hl.1 rfl (lv_room (Nat.le_of_ble_eq_true rfl)) dX0_lentBy_12 ⟨Nat.zero_le _, Nat.zero_le _⟩) hS (fun q _ h => h) (fun q h => h) (fun r u t H1 locs ht hvm hw hB hz1 hk1 hS => ?_)
    obtain ⟨hw, hw2⟩ := hw
    have hw : r = (lgo fuX (laX (g 3) (g 4) (a 2) (a 5)) (a 4) n (fun t => cix (rf t)) (xbeg n (a 3) ((a 12), (a 13), (a 14), (a 15), (a 16))) N).2.1 := hw
    subst hw
    subst hw2
    obtain ⟨hP, -, hD⟩ := hB
    rw [ht] at hP
    generalize H1 = H at hP hS ⊢
    have hP : va_P (dC, dI) clA (xG ct o q (ql, qs, md, qe, n) y (upd g 18 ((lgo fuX (laX (g 3) (g 4) (a 2) (a 5)) (a 4) n (fun t => cix (rf t)) (xbeg n (a 3) ((a 12), (a 13), (a 14), (a 15), (a 16))) N).2.2)) (va_up (va_up (va_up (va_up (va_up a 12 (((lgo fuX (laX (g 3) (g 4) (a 2) (a 5)) (a 4) n (fun t => cix (rf t)) (xbeg n (a 3) ((a 12), (a 13), (a 14), (a 15), (a 16))) N).1).1)) 13 (((lgo fuX (laX (g 3) (g 4) (a 2) (a 5)) (a 4) n (fun t => cix (rf t)) (xbeg n (a 3) ((a 12), (a 13), (a 14), (a 15), (a 16))) N).1).2.1)) 14 (((lgo fuX (laX (g 3) (g 4) (a 2) (a 5)) (a 4) n (fun t => cix (rf t)) (xbeg n (a 3) ((a 12), (a 13), (a 14), (a 15), (a 16))) N).1).2.2.1)) 15 (((lgo fuX (laX (g 3) (g 4) (a 2) (a 5)) (a 4) n (fun t => cix (rf t)) (xbeg n (a 3) ((a 12), (a 13), (a 14), (a 15), (a 16))) N).1).2.2.2.1)) 16 (((lgo fuX (laX (g 3) (g 4) (a 2) (a 5)) (a 4) n (fun t => cix (rf t)) (xbeg n (a 3) ((a 12), (a 13), (a 14), (a 15), (a 16))) N).1).2.2.2.2)) ex) H := hP
    have hD : va_D A (xG ct o q (ql, qs, md, qe, n) y (upd g 18 ((lgo fuX (laX (g 3) (g 4) (a 2) (a 5)) (a 4) n (fun t => cix (rf t)) (xbeg n (a 3) ((a 12), (a 13), (a 14), (a 15), (a 16))) N).2.2)) (va_up (va_up (va_up (va_up (va_up a 12 (((lgo fuX (laX (g 3) (g 4) (a 2) (a 5)) (a 4) n (fun t => cix (rf t)) (xbeg n (a 3) ((a 12), (a 13), (a 14), (a 15), (a 16))) N).1).1)) 13 (((lgo fuX (laX (g 3) (g 4) (a 2) (a 5)) (a 4) n (fun t => cix (rf t)) (xbeg n (a 3) ((a 12), (a 13), (a 14), (a 15), (a 16))) N).1).2.1)) 14 (((lgo fuX (laX (g 3) (g 4) (a 2) (a 5)) (a 4) n (fun t => cix (rf t)) (xbeg n (a 3) ((a 12), (a 13), (a 14), (a 15), (a 16))) N).1).2.2.1)) 15 (((lgo fuX (laX (g 3) (g 4) (a 2) (a 5)) (a 4) n (fun t => cix (rf t)) (xbeg n (a 3) ((a 12), (a 13), (a 14), (a 15), (a 16))) N).1).2.2.2.1)) 16 (((lgo fuX (laX (g 3) (g 4) (a 2) (a 5)) (a 4) n (fun t => cix (rf t)) (xbeg n (a 3) ((a 12), (a 13), (a 14), (a 15), (a 16))) N).1).2.2.2.2)) ex) := hD
    refine lv_istore_n (lv' := [(3, .int ((lgo fuX (laX (g 3) (g 4) (a 2) (a 5)) (a 4) n (fun t => cix (rf t)) (xbeg n (a 3) ((a 12), (a 13), (a 14), (a 15), (a 16))) N).2.1)), (0, .ref o), (1, .ref rq), (2, .int w)]) hx hb dX0_lentBy_15 rfl hl (by decide) rfl (fun ls hl => ?_)
    refine lv_iload_n hx hb dX0_lentBy_16 rfl (lv_at hl 3 rfl) ?_
    refine lv_iconst (v := 1) hx hb dX0_lentBy_17 (by decide) ?_
    refine lv_icmp_ne (tgt := 23) hx hb dX0_lentBy_18 (by decide) (fun c_2 => ?_) (fun c_2 => ?_)
    · skip
      refine lv_iload_n hx hb dX0_lentBy_23 rfl (lv_at hl 0 rfl) ?_
      refine lv_bipush (v := (-9)) hx hb dX0_lentBy_24 (by decide) ?_
      refine lv_icmp_eq (tgt := 34) hx hb dX0_lentBy_26 (by decide) (fun c_3 => ?_) (fun c_3 => ?_)
      · skip
        refine lv_iload_n hx hb dX0_lentBy_34 rfl (lv_at hl 3 rfl) ?_
        refine lv_if_ne (tgt := 45) hx hb dX0_lentBy_35 (by decide) (fun c_4 => ?_) (fun c_4 => ?_)
        · skip
          refine lv_iload_n hx hb dX0_lentBy_45 rfl (lv_at hl 3 rfl) ?_
          refine lv_iconst (v := 2) hx hb dX0_lentBy_46 (by decide) ?_
          refine lv_icmp_ne (tgt := 57) hx hb dX0_lentBy_47 (by decide) (fun c_5 => ?_) (fun c_5 => ?_)
          · skip
            refine lv_iload_n hx hb dX0_lentBy_57 rfl (lv_at hl 3 rfl) ?_
            refine lv_iconst (v := 3) hx hb dX0_lentBy_58 (by decide) ?_
            refine lv_icmp_ne (tgt := 69) hx hb dX0_lentBy_59 (by decide) (fun c_6 => ?_) (fun c_6 => ?_)
            · skip
              refine lv_aload_n hx hb dX0_lentBy_69 rfl (lv_at hl 1 rfl) ?_
              refine lv_iload_n hx hb dX0_lentBy_70 rfl (lv_at hl 3 rfl) ?_
              refine vp_callSi ((va_runV (As := [.int w]) (rest := []) ⟨hx, hb, hml, hown, hts⟩ (metX0_ofPeople l dC dI ct A ex o q ql qs md qe n y (upd g 18 ((lgo fuX (laX (g 3) (g 4) (a 2) (a 5)) (a 4) n (fun t => cix (rf t)) (xbeg n (a 3) ((a 12), (a 13), (a 14), (a 15), (a 16))) N).2.2)) (va_up (va_up (va_up (va_up (va_up a 12 (((lgo fuX (laX (g 3) (g 4) (a 2) (a 5)) (a 4) n (fun t => cix (rf t)) (xbeg n (a 3) ((a 12), (a 13), (a 14), (a 15), (a 16))) N).1).1)) 13 (((lgo fuX (laX (g 3) (g 4) (a 2) (a 5)) (a 4) n (fun t => cix (rf t)) (xbeg n (a 3) ((a 12), (a 13), (a 14), (a 15), (a 16))) N).1).2.1)) 14 (((lgo fuX (laX (g 3) (g 4) (a 2) (a 5)) (a 4) n (fun t => cix (rf t)) (xbeg n (a 3) ((a 12), (a 13), (a 14), (a 15), (a 16))) N).1).2.2.1)) 15 (((lgo fuX (laX (g 3) (g 4) (a 2) (a 5)) (a 4) n (fun t => cix (rf t)) (xbeg n (a 3) ((a 12), (a 13), (a 14), (a 15), (a 16))) N).1).2.2.2.1)) 16 (((lgo fuX (laX (g 3) (g 4) (a 2) (a 5)) (a 4) n (fun t => cix (rf t)) (xbeg n (a 3) ((a 12), (a 13), (a 14), (a 15), (a 16))) N).1).2.2.2.2)) w hn6) (cwV 1 hts (lw_V q760 q762 qs27 q69 q763) rfl rfl rfl (by decide +kernel) ⟨Nat.le_of_ble_eq_true rfl, Nat.le_of_ble_eq_true rfl⟩) (gPV hK hP hD hE _) rfl rfl hl.1 rfl (lv_room (Nat.le_of_ble_eq_true rfl)) dX0_lentBy_71 ⟨Nat.zero_le _, Nat.zero_le _⟩)).run (fun r hw => ?_)
              have hw : r = (ofpX n (((lgo fuX (laX (g 3) (g 4) (a 2) (a 5)) (a 4) n (fun t => cix (rf t)) (xbeg n (a 3) ((a 12), (a 13), (a 14), (a 15), (a 16))) N).1).1) (((lgo fuX (laX (g 3) (g 4) (a 2) (a 5)) (a 4) n (fun t => cix (rf t)) (xbeg n (a 3) ((a 12), (a 13), (a 14), (a 15), (a 16))) N).1).2.2.2.1) (((lgo fuX (laX (g 3) (g 4) (a 2) (a 5)) (a 4) n (fun t => cix (rf t)) (xbeg n (a 3) ((a 12), (a 13), (a 14), (a 15), (a 16))) N).1).2.1) w) := hw
              subst hw
              exact W.iret (v := (ofpX n (((lgo fuX (laX (g 3) (g 4) (a 2) (a 5)) (a 4) n (fun t => cix (rf t)) (xbeg n (a 3) ((a 12), (a 13), (a 14), (a 15), (a 16))) N).1).1) (((lgo fuX (laX (g 3) (g 4) (a 2) (a 5)) (a 4) n (fun t => cix (rf t)) (xbeg n (a 3) ((a 12), (a 13), (a 14), (a 15), (a 16))) N).1).2.2.2.1) (((lgo fuX (laX (g 3) (g 4) (a 2) (a 5)) (a 4) n (fun t => cix (rf t)) (xbeg n (a 3) ((a 12), (a 13), (a 14), (a 15), (a 16))) N).1).2.1) w)) hx hb hr (fun t ht hW => ⟨⟨(ofpX n (((lgo fuX (laX (g 3) (g 4) (a 2) (a 5)) (a 4) n (fun t => cix (rf t)) (xbeg n (a 3) ((a 12), (a 13), (a 14), (a 15), (a 16))) N).1).1) (((lgo fuX (laX (g 3) (g 4) (a 2) (a 5)) (a 4) n (fun t => cix (rf t)) (xbeg n (a 3) ((a 12), (a 13), (a 14), (a 15), (a 16))) N).1).2.2.2.1) (((lgo fuX (laX (g 3) (g 4) (a 2) (a 5)) (a 4) n (fun t => cix (rf t)) (xbeg n (a 3) ((a 12), (a 13), (a 14), (a 15), (a 16))) N).1).2.1) w), ((upd g 18 ((lgo fuX (laX (g 3) (g 4) (a 2) (a 5)) (a 4) n (fun t => cix (rf t)) (xbeg n (a 3) ((a 12), (a 13), (a 14), (a 15), (a 16))) N).2.2)), (va_up (va_up (va_up (va_up (va_up a 12 (((lgo fuX (laX (g 3) (g 4) (a 2) (a 5)) (a 4) n (fun t => cix (rf t)) (xbeg n (a 3) ((a 12), (a 13), (a 14), (a 15), (a 16))) N).1).1)) 13 (((lgo fuX (laX (g 3) (g 4) (a 2) (a 5)) (a 4) n (fun t => cix (rf t)) (xbeg n (a 3) ((a 12), (a 13), (a 14), (a 15), (a 16))) N).1).2.1)) 14 (((lgo fuX (laX (g 3) (g 4) (a 2) (a 5)) (a 4) n (fun t => cix (rf t)) (xbeg n (a 3) ((a 12), (a 13), (a 14), (a 15), (a 16))) N).1).2.2.1)) 15 (((lgo fuX (laX (g 3) (g 4) (a 2) (a 5)) (a 4) n (fun t => cix (rf t)) (xbeg n (a 3) ((a 12), (a 13), (a 14), (a 15), (a 16))) N).1).2.2.2.1)) 16 (((lgo fuX (laX (g 3) (g 4) (a 2) (a 5)) (a 4) n (fun t => cix (rf t)) (xbeg n (a 3) ((a 12), (a 13), (a 14), (a 15), (a 16))) N).1).2.2.2.2))), rfl, ⟨(by rw [if_pos hall]; unfold lval; rw [if_neg c_2, if_pos (show (lgo fuX (laX (g 3) (g 4) (a 2) (a 5)) (a 4) n (fun t => cix (rf t)) (xbeg n (a 3) ((a 12), (a 13), (a 14), (a 15), (a 16))) N).2.1 < 0 by rw [c_3]; decide), if_neg (whatV_9 hwv c_4 c_2 c_5 c_6)]; rfl), ⟨(lgo fuX (laX (g 3) (g 4) (a 2) (a 5)) (a 4) n (fun t => cix (rf t)) (xbeg n (a 3) ((a 12), (a 13), (a 14), (a 15), (a 16))) N), rfl⟩⟩, by rw [ht]; exact hP, va_K.moved hW.alike hK, hD⟩, hS.F ht⟩) hS.2.2 dX0_lentBy_74
            · skip
              refine lv_aload_n hx hb dX0_lentBy_62 rfl (lv_at hl 1 rfl) ?_
              refine vp_callSi ((va_runV (As := []) (rest := []) ⟨hx, hb, hml, hown, hts⟩ (metX0_home l dC dI ct A ex o q ql qs md qe n y (upd g 18 ((lgo fuX (laX (g 3) (g 4) (a 2) (a 5)) (a 4) n (fun t => cix (rf t)) (xbeg n (a 3) ((a 12), (a 13), (a 14), (a 15), (a 16))) N).2.2)) (va_up (va_up (va_up (va_up (va_up a 12 (((lgo fuX (laX (g 3) (g 4) (a 2) (a 5)) (a 4) n (fun t => cix (rf t)) (xbeg n (a 3) ((a 12), (a 13), (a 14), (a 15), (a 16))) N).1).1)) 13 (((lgo fuX (laX (g 3) (g 4) (a 2) (a 5)) (a 4) n (fun t => cix (rf t)) (xbeg n (a 3) ((a 12), (a 13), (a 14), (a 15), (a 16))) N).1).2.1)) 14 (((lgo fuX (laX (g 3) (g 4) (a 2) (a 5)) (a 4) n (fun t => cix (rf t)) (xbeg n (a 3) ((a 12), (a 13), (a 14), (a 15), (a 16))) N).1).2.2.1)) 15 (((lgo fuX (laX (g 3) (g 4) (a 2) (a 5)) (a 4) n (fun t => cix (rf t)) (xbeg n (a 3) ((a 12), (a 13), (a 14), (a 15), (a 16))) N).1).2.2.2.1)) 16 (((lgo fuX (laX (g 3) (g 4) (a 2) (a 5)) (a 4) n (fun t => cix (rf t)) (xbeg n (a 3) ((a 12), (a 13), (a 14), (a 15), (a 16))) N).1).2.2.2.2))  hn6 (hasOk_go (N := N) (xbeg_ok _ _ (by omega)) (fun t ht => (hpr t ht).2) N (Nat.le_refl N)) (inj_go (N := N) (xbeg_inj _ _ (by omega)) (fun t ht => (hpr t ht).2) N (Nat.le_refl N))) (cwV 0 hts (lw_V q756 q758 qs26 q69 q759) rfl rfl rfl (by decide +kernel) ⟨Nat.le_of_ble_eq_true rfl, Nat.le_of_ble_eq_true rfl⟩) (gPV hK hP hD hE _) rfl rfl hl.1 rfl (lv_room (Nat.le_of_ble_eq_true rfl)) dX0_lentBy_63 ⟨Nat.zero_le _, Nat.zero_le _⟩)).run (fun r hw => ?_)
              have hw : r = (hmV n ((lgo fuX (laX (g 3) (g 4) (a 2) (a 5)) (a 4) n (fun t => cix (rf t)) (xbeg n (a 3) ((a 12), (a 13), (a 14), (a 15), (a 16))) N).1)) := hw
              subst hw
              refine lv_goto (tgt := 74) hx hb dX0_lentBy_66 (by decide) ?_
              exact W.iret (v := (hmV n ((lgo fuX (laX (g 3) (g 4) (a 2) (a 5)) (a 4) n (fun t => cix (rf t)) (xbeg n (a 3) ((a 12), (a 13), (a 14), (a 15), (a 16))) N).1))) hx hb hr (fun t ht hW => ⟨⟨(hmV n ((lgo fuX (laX (g 3) (g 4) (a 2) (a 5)) (a 4) n (fun t => cix (rf t)) (xbeg n (a 3) ((a 12), (a 13), (a 14), (a 15), (a 16))) N).1)), ((upd g 18 ((lgo fuX (laX (g 3) (g 4) (a 2) (a 5)) (a 4) n (fun t => cix (rf t)) (xbeg n (a 3) ((a 12), (a 13), (a 14), (a 15), (a 16))) N).2.2)), (va_up (va_up (va_up (va_up (va_up a 12 (((lgo fuX (laX (g 3) (g 4) (a 2) (a 5)) (a 4) n (fun t => cix (rf t)) (xbeg n (a 3) ((a 12), (a 13), (a 14), (a 15), (a 16))) N).1).1)) 13 (((lgo fuX (laX (g 3) (g 4) (a 2) (a 5)) (a 4) n (fun t => cix (rf t)) (xbeg n (a 3) ((a 12), (a 13), (a 14), (a 15), (a 16))) N).1).2.1)) 14 (((lgo fuX (laX (g 3) (g 4) (a 2) (a 5)) (a 4) n (fun t => cix (rf t)) (xbeg n (a 3) ((a 12), (a 13), (a 14), (a 15), (a 16))) N).1).2.2.1)) 15 (((lgo fuX (laX (g 3) (g 4) (a 2) (a 5)) (a 4) n (fun t => cix (rf t)) (xbeg n (a 3) ((a 12), (a 13), (a 14), (a 15), (a 16))) N).1).2.2.2.1)) 16 (((lgo fuX (laX (g 3) (g 4) (a 2) (a 5)) (a 4) n (fun t => cix (rf t)) (xbeg n (a 3) ((a 12), (a 13), (a 14), (a 15), (a 16))) N).1).2.2.2.2))), rfl, ⟨(by rw [if_pos hall]; unfold lval; rw [if_neg c_2, if_pos (show (lgo fuX (laX (g 3) (g 4) (a 2) (a 5)) (a 4) n (fun t => cix (rf t)) (xbeg n (a 3) ((a 12), (a 13), (a 14), (a 15), (a 16))) N).2.1 < 0 by rw [c_3]; decide), if_pos (show w ≤ 9 by rw [c_6]; decide), if_neg c_4, if_neg c_5]), ⟨(lgo fuX (laX (g 3) (g 4) (a 2) (a 5)) (a 4) n (fun t => cix (rf t)) (xbeg n (a 3) ((a 12), (a 13), (a 14), (a 15), (a 16))) N), rfl⟩⟩, by rw [ht]; exact hP, va_K.moved hW.alike hK, hD⟩, hS.F ht⟩) hS.2.2 dX0_lentBy_74
          · skip
            refine lv_aload_n hx hb dX0_lentBy_50 rfl (lv_at hl 1 rfl) ?_
            refine g_get (v := .int ((lgo fuX (laX (g 3) (g 4) (a 2) (a 5)) (a 4) n (fun t => cix (rf t)) (xbeg n (a 3) ((a 12), (a 13), (a 14), (a 15), (a 16))) N).2.2)) hx hb hts hown hK hP 14 (by decide) rfl q163 rfl dX0_lentBy_51 ?_
            refine lv_goto (tgt := 74) hx hb dX0_lentBy_54 (by decide) ?_
            exact W.iret (v := ((lgo fuX (laX (g 3) (g 4) (a 2) (a 5)) (a 4) n (fun t => cix (rf t)) (xbeg n (a 3) ((a 12), (a 13), (a 14), (a 15), (a 16))) N).2.2)) hx hb hr (fun t ht hW => ⟨⟨((lgo fuX (laX (g 3) (g 4) (a 2) (a 5)) (a 4) n (fun t => cix (rf t)) (xbeg n (a 3) ((a 12), (a 13), (a 14), (a 15), (a 16))) N).2.2), ((upd g 18 ((lgo fuX (laX (g 3) (g 4) (a 2) (a 5)) (a 4) n (fun t => cix (rf t)) (xbeg n (a 3) ((a 12), (a 13), (a 14), (a 15), (a 16))) N).2.2)), (va_up (va_up (va_up (va_up (va_up a 12 (((lgo fuX (laX (g 3) (g 4) (a 2) (a 5)) (a 4) n (fun t => cix (rf t)) (xbeg n (a 3) ((a 12), (a 13), (a 14), (a 15), (a 16))) N).1).1)) 13 (((lgo fuX (laX (g 3) (g 4) (a 2) (a 5)) (a 4) n (fun t => cix (rf t)) (xbeg n (a 3) ((a 12), (a 13), (a 14), (a 15), (a 16))) N).1).2.1)) 14 (((lgo fuX (laX (g 3) (g 4) (a 2) (a 5)) (a 4) n (fun t => cix (rf t)) (xbeg n (a 3) ((a 12), (a 13), (a 14), (a 15), (a 16))) N).1).2.2.1)) 15 (((lgo fuX (laX (g 3) (g 4) (a 2) (a 5)) (a 4) n (fun t => cix (rf t)) (xbeg n (a 3) ((a 12), (a 13), (a 14), (a 15), (a 16))) N).1).2.2.2.1)) 16 (((lgo fuX (laX (g 3) (g 4) (a 2) (a 5)) (a 4) n (fun t => cix (rf t)) (xbeg n (a 3) ((a 12), (a 13), (a 14), (a 15), (a 16))) N).1).2.2.2.2))), rfl, ⟨(by rw [if_pos hall]; unfold lval; rw [if_neg c_2, if_pos (show (lgo fuX (laX (g 3) (g 4) (a 2) (a 5)) (a 4) n (fun t => cix (rf t)) (xbeg n (a 3) ((a 12), (a 13), (a 14), (a 15), (a 16))) N).2.1 < 0 by rw [c_3]; decide), if_pos (show w ≤ 9 by rw [c_5]; decide), if_neg c_4, if_pos c_5]), ⟨(lgo fuX (laX (g 3) (g 4) (a 2) (a 5)) (a 4) n (fun t => cix (rf t)) (xbeg n (a 3) ((a 12), (a 13), (a 14), (a 15), (a 16))) N), rfl⟩⟩, by rw [ht]; exact hP, va_K.moved hW.alike hK, hD⟩, hS.F ht⟩) hS.2.2 dX0_lentBy_74
        · skip
          refine lv_aload_n hx hb dX0_lentBy_38 rfl (lv_at hl 1 rfl) ?_
          refine vp_callSi ((va_runV (As := []) (rest := []) ⟨hx, hb, hml, hown, hts⟩ (metX0_mended l dC dI ct A ex o q ql qs md qe n y (upd g 18 ((lgo fuX (laX (g 3) (g 4) (a 2) (a 5)) (a 4) n (fun t => cix (rf t)) (xbeg n (a 3) ((a 12), (a 13), (a 14), (a 15), (a 16))) N).2.2)) (va_up (va_up (va_up (va_up (va_up a 12 (((lgo fuX (laX (g 3) (g 4) (a 2) (a 5)) (a 4) n (fun t => cix (rf t)) (xbeg n (a 3) ((a 12), (a 13), (a 14), (a 15), (a 16))) N).1).1)) 13 (((lgo fuX (laX (g 3) (g 4) (a 2) (a 5)) (a 4) n (fun t => cix (rf t)) (xbeg n (a 3) ((a 12), (a 13), (a 14), (a 15), (a 16))) N).1).2.1)) 14 (((lgo fuX (laX (g 3) (g 4) (a 2) (a 5)) (a 4) n (fun t => cix (rf t)) (xbeg n (a 3) ((a 12), (a 13), (a 14), (a 15), (a 16))) N).1).2.2.1)) 15 (((lgo fuX (laX (g 3) (g 4) (a 2) (a 5)) (a 4) n (fun t => cix (rf t)) (xbeg n (a 3) ((a 12), (a 13), (a 14), (a 15), (a 16))) N).1).2.2.2.1)) 16 (((lgo fuX (laX (g 3) (g 4) (a 2) (a 5)) (a 4) n (fun t => cix (rf t)) (xbeg n (a 3) ((a 12), (a 13), (a 14), (a 15), (a 16))) N).1).2.2.2.2))  hn6) (cwV 0 hts (lw_V q715 q717 qs21 q69 q718) rfl rfl rfl (by decide +kernel) ⟨Nat.le_of_ble_eq_true rfl, Nat.le_of_ble_eq_true rfl⟩) (gPV hK hP hD hE _) rfl rfl hl.1 rfl (lv_room (Nat.le_of_ble_eq_true rfl)) dX0_lentBy_39 ⟨Nat.zero_le _, Nat.zero_le _⟩)).run (fun r hw => ?_)
          have hw : r = (mset (fun p => isMend ((a 4) p) (((lgo fuX (laX (g 3) (g 4) (a 2) (a 5)) (a 4) n (fun t => cix (rf t)) (xbeg n (a 3) ((a 12), (a 13), (a 14), (a 15), (a 16))) N).1).2.2.2.1 p)) n) := hw
          subst hw
          refine lv_goto (tgt := 74) hx hb dX0_lentBy_42 (by decide) ?_
          exact W.iret (v := (mset (fun p => isMend ((a 4) p) (((lgo fuX (laX (g 3) (g 4) (a 2) (a 5)) (a 4) n (fun t => cix (rf t)) (xbeg n (a 3) ((a 12), (a 13), (a 14), (a 15), (a 16))) N).1).2.2.2.1 p)) n)) hx hb hr (fun t ht hW => ⟨⟨(mset (fun p => isMend ((a 4) p) (((lgo fuX (laX (g 3) (g 4) (a 2) (a 5)) (a 4) n (fun t => cix (rf t)) (xbeg n (a 3) ((a 12), (a 13), (a 14), (a 15), (a 16))) N).1).2.2.2.1 p)) n), ((upd g 18 ((lgo fuX (laX (g 3) (g 4) (a 2) (a 5)) (a 4) n (fun t => cix (rf t)) (xbeg n (a 3) ((a 12), (a 13), (a 14), (a 15), (a 16))) N).2.2)), (va_up (va_up (va_up (va_up (va_up a 12 (((lgo fuX (laX (g 3) (g 4) (a 2) (a 5)) (a 4) n (fun t => cix (rf t)) (xbeg n (a 3) ((a 12), (a 13), (a 14), (a 15), (a 16))) N).1).1)) 13 (((lgo fuX (laX (g 3) (g 4) (a 2) (a 5)) (a 4) n (fun t => cix (rf t)) (xbeg n (a 3) ((a 12), (a 13), (a 14), (a 15), (a 16))) N).1).2.1)) 14 (((lgo fuX (laX (g 3) (g 4) (a 2) (a 5)) (a 4) n (fun t => cix (rf t)) (xbeg n (a 3) ((a 12), (a 13), (a 14), (a 15), (a 16))) N).1).2.2.1)) 15 (((lgo fuX (laX (g 3) (g 4) (a 2) (a 5)) (a 4) n (fun t => cix (rf t)) (xbeg n (a 3) ((a 12), (a 13), (a 14), (a 15), (a 16))) N).1).2.2.2.1)) 16 (((lgo fuX (laX (g 3) (g 4) (a 2) (a 5)) (a 4) n (fun t => cix (rf t)) (xbeg n (a 3) ((a 12), (a 13), (a 14), (a 15), (a 16))) N).1).2.2.2.2))), rfl, ⟨(by rw [if_pos hall]; unfold lval; rw [if_neg c_2, if_pos (show (lgo fuX (laX (g 3) (g 4) (a 2) (a 5)) (a 4) n (fun t => cix (rf t)) (xbeg n (a 3) ((a 12), (a 13), (a 14), (a 15), (a 16))) N).2.1 < 0 by rw [c_3]; decide), if_pos (show w ≤ 9 by rw [c_4]; decide), if_pos c_4]; rfl), ⟨(lgo fuX (laX (g 3) (g 4) (a 2) (a 5)) (a 4) n (fun t => cix (rf t)) (xbeg n (a 3) ((a 12), (a 13), (a 14), (a 15), (a 16))) N), rfl⟩⟩, by rw [ht]; exact hP, va_K.moved hW.alike hK, hD⟩, hS.F ht⟩) hS.2.2 dX0_lentBy_74
      · skip
        refine lv_bipush (v := (-100)) hx hb dX0_lentBy_29 (by decide) ?_
        refine lv_iload_n hx hb dX0_lentBy_31 rfl (lv_at hl 0 rfl) ?_
        refine lv_isub hx hb dX0_lentBy_32 ?_
        exact W.iret (v := ((-100) - (lgo fuX (laX (g 3) (g 4) (a 2) (a 5)) (a 4) n (fun t => cix (rf t)) (xbeg n (a 3) ((a 12), (a 13), (a 14), (a 15), (a 16))) N).2.1)) hx hb hr (fun t ht hW => ⟨⟨((-100) - (lgo fuX (laX (g 3) (g 4) (a 2) (a 5)) (a 4) n (fun t => cix (rf t)) (xbeg n (a 3) ((a 12), (a 13), (a 14), (a 15), (a 16))) N).2.1), ((upd g 18 ((lgo fuX (laX (g 3) (g 4) (a 2) (a 5)) (a 4) n (fun t => cix (rf t)) (xbeg n (a 3) ((a 12), (a 13), (a 14), (a 15), (a 16))) N).2.2)), (va_up (va_up (va_up (va_up (va_up a 12 (((lgo fuX (laX (g 3) (g 4) (a 2) (a 5)) (a 4) n (fun t => cix (rf t)) (xbeg n (a 3) ((a 12), (a 13), (a 14), (a 15), (a 16))) N).1).1)) 13 (((lgo fuX (laX (g 3) (g 4) (a 2) (a 5)) (a 4) n (fun t => cix (rf t)) (xbeg n (a 3) ((a 12), (a 13), (a 14), (a 15), (a 16))) N).1).2.1)) 14 (((lgo fuX (laX (g 3) (g 4) (a 2) (a 5)) (a 4) n (fun t => cix (rf t)) (xbeg n (a 3) ((a 12), (a 13), (a 14), (a 15), (a 16))) N).1).2.2.1)) 15 (((lgo fuX (laX (g 3) (g 4) (a 2) (a 5)) (a 4) n (fun t => cix (rf t)) (xbeg n (a 3) ((a 12), (a 13), (a 14), (a 15), (a 16))) N).1).2.2.2.1)) 16 (((lgo fuX (laX (g 3) (g 4) (a 2) (a 5)) (a 4) n (fun t => cix (rf t)) (xbeg n (a 3) ((a 12), (a 13), (a 14), (a 15), (a 16))) N).1).2.2.2.2))), rfl, ⟨(by rw [if_pos hall]; unfold lval; rw [if_neg c_2, if_neg (nn_nlt ((lgo_21 (by omega)).resolve_left c_3))]), ⟨(lgo fuX (laX (g 3) (g 4) (a 2) (a 5)) (a 4) n (fun t => cix (rf t)) (xbeg n (a 3) ((a 12), (a 13), (a 14), (a 15), (a 16))) N), rfl⟩⟩, by rw [ht]; exact hP, va_K.moved hW.alike hK, hD⟩, hS.F ht⟩) hS.2.2 dX0_lentBy_33
    · skip
      refine lv_iload_n hx hb dX0_lentBy_21 rfl (lv_at hl 0 rfl) ?_
      exact W.iret (v := ((lgo fuX (laX (g 3) (g 4) (a 2) (a 5)) (a 4) n (fun t => cix (rf t)) (xbeg n (a 3) ((a 12), (a 13), (a 14), (a 15), (a 16))) N).2.1)) hx hb hr (fun t ht hW => ⟨⟨((lgo fuX (laX (g 3) (g 4) (a 2) (a 5)) (a 4) n (fun t => cix (rf t)) (xbeg n (a 3) ((a 12), (a 13), (a 14), (a 15), (a 16))) N).2.1), ((upd g 18 ((lgo fuX (laX (g 3) (g 4) (a 2) (a 5)) (a 4) n (fun t => cix (rf t)) (xbeg n (a 3) ((a 12), (a 13), (a 14), (a 15), (a 16))) N).2.2)), (va_up (va_up (va_up (va_up (va_up a 12 (((lgo fuX (laX (g 3) (g 4) (a 2) (a 5)) (a 4) n (fun t => cix (rf t)) (xbeg n (a 3) ((a 12), (a 13), (a 14), (a 15), (a 16))) N).1).1)) 13 (((lgo fuX (laX (g 3) (g 4) (a 2) (a 5)) (a 4) n (fun t => cix (rf t)) (xbeg n (a 3) ((a 12), (a 13), (a 14), (a 15), (a 16))) N).1).2.1)) 14 (((lgo fuX (laX (g 3) (g 4) (a 2) (a 5)) (a 4) n (fun t => cix (rf t)) (xbeg n (a 3) ((a 12), (a 13), (a 14), (a 15), (a 16))) N).1).2.2.1)) 15 (((lgo fuX (laX (g 3) (g 4) (a 2) (a 5)) (a 4) n (fun t => cix (rf t)) (xbeg n (a 3) ((a 12), (a 13), (a 14), (a 15), (a 16))) N).1).2.2.2.1)) 16 (((lgo fuX (laX (g 3) (g 4) (a 2) (a 5)) (a 4) n (fun t => cix (rf t)) (xbeg n (a 3) ((a 12), (a 13), (a 14), (a 15), (a 16))) N).1).2.2.2.2))), rfl, ⟨(by rw [if_pos hall]; unfold lval; rw [if_pos c_2]), ⟨(lgo fuX (laX (g 3) (g 4) (a 2) (a 5)) (a 4) n (fun t => cix (rf t)) (xbeg n (a 3) ((a 12), (a 13), (a 14), (a 15), (a 16))) N), rfl⟩⟩, by rw [ht]; exact hP, va_K.moved hW.alike hK, hD⟩, hS.F ht⟩) hS.2.2 dX0_lentBy_22
  · skip
    refine lv_iconst (v := (-1)) hx hb dX0_lentBy_8 (by decide) ?_
    exact W.iret (v := (-1)) hx hb hr (fun t ht hW => ⟨⟨(-1), (g, a), rfl, ⟨(by rw [if_neg (by rw [show allP n rf (2 * N) = false by simpa using c_1]; decide)]), ⟨((a 12, a 13, a 14, a 15, a 16), 0, g 18), (tr_idX g a).symm⟩⟩, by rw [ht]; exact hP, va_K.moved hW.alike hK, hD⟩, hS.F ht⟩) hS.2.2 dX0_lentBy_9
