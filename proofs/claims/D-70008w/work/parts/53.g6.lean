/-! LENT YOUTHS: is it so; what is told -/
theorem cl_ex (f : Nat → Bool) : ∀ i, i ≤ 64 → ∃ k, k ≤ i ∧ cntB f i = nI k ∧ (k = 0 ↔ ¬ 0 ≤ leastB f i)
  | 0, _ => ⟨0, Nat.le_refl 0, rfl, ⟨fun _ => show ¬ (0 : Int32) ≤ -9 by decide, fun _ => rfl⟩⟩
  | i + 1, hi => by
    obtain ⟨k, h1, h2, h3⟩ := cl_ex f i (by omega)
    cases hf : f i with
    | false => exact ⟨k, by omega, by rw [← cntB_f hf, h2], by rw [← leastB_f hf]; exact h3⟩
    | true =>
      refine ⟨k + 1, by omega, by rw [← cntB_t hf, h2, nI_1], ⟨fun z => absurd z (by omega), fun z => ?_⟩⟩
      by_cases h0 : 0 ≤ leastB f i
      · rw [← leastB_t1 hf h0] at z; exact absurd h0 z
      · rw [← leastB_t0 hf h0] at z; exact absurd (nI_pos' (by omega)) z
theorem cl_iff (f : Nat → Bool) (i : Nat) (hi : i ≤ 64) : cntB f i = 0 ↔ ¬ 0 ≤ leastB f i := by
  obtain ⟨k, h1, h2, h3⟩ := cl_ex f i hi
  rw [← h3, h2]
  exact ⟨fun z => (nI_eq (b := 0) (by omega) (by omega)).mp z, fun z => by rw [z]; rfl⟩
theorem rd_1 {kn rw rs rk : Nat → Int32} {i : Nat} (h : decide (b2i (bq (kn (cix (rw i))) (rs i)) = rk i) = true) : b2i (rdOk kn rw rs rk i) &&& 1 = b2i (rdOk kn rw rs rk (i + 1)) := by
  show _ = b2i (rdOk kn rw rs rk i && _)
  rw [h, Bool.and_true]
  cases rdOk kn rw rs rk i <;> decide
theorem rd_0 {kn rw rs rk : Nat → Int32} {i : Nat} (h : decide (b2i (bq (kn (cix (rw i))) (rs i)) = rk i) = false) : b2i (rdOk kn rw rs rk i) &&& 0 = b2i (rdOk kn rw rs rk (i + 1)) := by
  show _ = b2i (rdOk kn rw rs rk i && _)
  rw [h, Bool.and_false]
  cases rdOk kn rw rs rk i <;> decide
set_option maxHeartbeats 4000000 in
set_option maxRecDepth 100000 in
theorem metX0_areSo (l : Launch) (dC : Nat → ClassId) (dI : Nat → Nat → Nat) (ct : Nat → ClassId) (A : Nat → Prop) (ex : va_W) (o : Nat) (q : Nat → Nat) (ql qs : Nat) (md : Int32) (qe n : Nat) (y : Nat → Nat) (g : Nat → Int32) (a : Nat → Nat → Int32)  (rp rq N : Nat) (rf : Nat → Int32) (hrp : ex[rp]? = some (rq, .inl (ct 0, 2 * N, .inl rf))) (hN : N ≤ 30) (hn6 : n ≤ 6) (hpr : ∀ t, t < 2 * N → rf t = nI (cix (rf t)) ∧ cix (rf t) < n) (rn : Nat) (hr8 : rn ≤ 8) (hrn : g 21 = nI rn) (hrw : ∀ k, k < rn → a 22 k = nI (cix (a 22 k)) ∧ cix (a 22 k) < n) : Met l yX0_areSo (ws_ yX0_areSo cX0_areSo 4 (some .boolean)) ({ frames := 7, cells := 0, slots := 0, locals := 146 }) (gPre dC dI ct A ex o q (ql, qs, md, qe, n) y g a [.ref o, .ref rq]) (va_Qi (fun (r : Int32) (u : (Nat → Int32) × (Nat → Nat → Int32)) => r = (b2i (soV (cgo n (a 3) (a 4) (laX (g 3) (g 4) (a 2) (a 5)) (fun t => cix (rf t)) N) (a 22) (a 23) (a 24) rn)) ∧ ∃ (T : LnS (Nat → Int32) × Int32 × Int32), u = ((upd g 18 T.2.2), (va_up (va_up (va_up (va_up (va_up a 12 ((T.1).1)) 13 ((T.1).2.1)) 14 ((T.1).2.2.1)) 15 ((T.1).2.2.2.1)) 16 ((T.1).2.2.2.2)))) (gB dC dI ct A ex o q (ql, qs, md, qe, n) y) A) 0 0 A := by
  refine Met.ofW (cc := cX0_areSo) (maxL := 4) (ret := (some .boolean)) (by decide) rfl ?_
  intro p e s m args below meth c s₁ B hml hv
  obtain ⟨rfl, hP, hK, hD, hE⟩ := hv
  have hx := B.exec
  have hb := B.bytes
  have hr := B.returns
  have hts := atoms_spec (ws := ws_ yX0_areSo cX0_areSo 4 (some .boolean)) B.pre
  have hts : ∀ w ∈ lw_all, w.before _ s = true := fun w h => hts w (List.mem_cons_of_mem _ h)
  have hown : s.vm.findClass RX0 = some m.cls := findClass_of_methodNamed B.named
  have hlocks := B.notSynchronized
  have hS : va_S A s.heap s.heap [] := va_S.rf
  have hl := lv_entry ([.ref o, .ref rq]) (n := 4) (Nat.le_of_ble_eq_true rfl)
  rw [lg_entry_eq]
  generalize (lg_sl ([.ref o, .ref rq]) ++ List.replicate (4 - (lg_sl ([.ref o, .ref rq])).length) Slot.unset).toArray = ls at hl ⊢
  have hl : lv_has ls 4 [(0, .ref o), (1, .ref rq)] := hl
  refine lv_aload_n hx hb dX0_areSo_0 rfl (lv_at hl 0 rfl) ?_
  refine lv_aload_n hx hb dX0_areSo_1 rfl (lv_at hl 1 rfl) ?_
  refine va_calli (va_runV (As := [.ref rq]) (rest := []) ⟨hx, hb, hml, hown, hts⟩ (metX0_goAll l dC dI ct A ex o q ql qs md qe n y g a  rp rq N rf hrp hN hn6 hpr) (cwV 1 hts (lw_V q693 q695 qs18 q69 q696) rfl rfl rfl (by decide +kernel) ⟨Nat.le_of_ble_eq_true rfl, Nat.le_of_ble_eq_true rfl⟩) (gPV hK hP hD hE _) rfl rfl hl.1 rfl (lv_room (Nat.le_of_ble_eq_true rfl)) dX0_areSo_2 ⟨Nat.zero_le _, Nat.zero_le _⟩) hS (fun q _ h => h) (fun q h => h) (fun r u t H1 locs ht hvm hw hB hz1 hk1 hS => ?_)
  obtain ⟨hw, hw2⟩ := hw
  have hw : r = (lgo fuX (laX (g 3) (g 4) (a 2) (a 5)) (a 4) n (fun t => cix (rf t)) (xbeg n (a 3) ((a 12), (a 13), (a 14), (a 15), (a 16))) N).2.1 := hw
  subst hw
  subst hw2
  obtain ⟨hP, -, hD⟩ := hB
  rw [ht] at hP
  generalize H1 = H at hP hS ⊢
  have hP : va_P (dC, dI) clA (xG ct o q (ql, qs, md, qe, n) y (upd g 18 ((lgo fuX (laX (g 3) (g 4) (a 2) (a 5)) (a 4) n (fun t => cix (rf t)) (xbeg n (a 3) ((a 12), (a 13), (a 14), (a 15), (a 16))) N).2.2)) (va_up (va_up (va_up (va_up (va_up a 12 (((lgo fuX (laX (g 3) (g 4) (a 2) (a 5)) (a 4) n (fun t => cix (rf t)) (xbeg n (a 3) ((a 12), (a 13), (a 14), (a 15), (a 16))) N).1).1)) 13 (((lgo fuX (laX (g 3) (g 4) (a 2) (a 5)) (a 4) n (fun t => cix (rf t)) (xbeg n (a 3) ((a 12), (a 13), (a 14), (a 15), (a 16))) N).1).2.1)) 14 (((lgo fuX (laX (g 3) (g 4) (a 2) (a 5)) (a 4) n (fun t => cix (rf t)) (xbeg n (a 3) ((a 12), (a 13), (a 14), (a 15), (a 16))) N).1).2.2.1)) 15 (((lgo fuX (laX (g 3) (g 4) (a 2) (a 5)) (a 4) n (fun t => cix (rf t)) (xbeg n (a 3) ((a 12), (a 13), (a 14), (a 15), (a 16))) N).1).2.2.2.1)) 16 (((lgo fuX (laX (g 3) (g 4) (a 2) (a 5)) (a 4) n (fun t => cix (rf t)) (xbeg n (a 3) ((a 12), (a 13), (a 14), (a 15), (a 16))) N).1).2.2.2.2)) ex) H := hP
  have hD : va_D A (xG ct o q (ql, qs, md, qe, n) y (upd g 18 ((lgo fuX (laX (g 3) (g 4) (a 2) (a 5)) (a 4) n (fun t => cix (rf t)) (xbeg n (a 3) ((a 12), (a 13), (a 14), (a 15), (a 16))) N).2.2)) (va_up (va_up (va_up (va_up (va_up a 12 (((lgo fuX (laX (g 3) (g 4) (a 2) (a 5)) (a 4) n (fun t => cix (rf t)) (xbeg n (a 3) ((a 12), (a 13), (a 14), (a 15), (a 16))) N).1).1)) 13 (((lgo fuX (laX (g 3) (g 4) (a 2) (a 5)) (a 4) n (fun t => cix (rf t)) (xbeg n (a 3) ((a 12), (a 13), (a 14), (a 15), (a 16))) N).1).2.1)) 14 (((lgo fuX (laX (g 3) (g 4) (a 2) (a 5)) (a 4) n (fun t => cix (rf t)) (xbeg n (a 3) ((a 12), (a 13), (a 14), (a 15), (a 16))) N).1).2.2.1)) 15 (((lgo fuX (laX (g 3) (g 4) (a 2) (a 5)) (a 4) n (fun t => cix (rf t)) (xbeg n (a 3) ((a 12), (a 13), (a 14), (a 15), (a 16))) N).1).2.2.2.1)) 16 (((lgo fuX (laX (g 3) (g 4) (a 2) (a 5)) (a 4) n (fun t => cix (rf t)) (xbeg n (a 3) ((a 12), (a 13), (a 14), (a 15), (a 16))) N).1).2.2.2.2)) ex) := hD
  refine lv_bipush (v := (-9)) hx hb dX0_areSo_5 (by decide) ?_
  refine lv_icmp_eq (tgt := 12) hx hb dX0_areSo_7 (by decide) (fun c_1 => ?_) (fun c_1 => ?_)
  · skip
    refine lv_iconst (v := 1) hx hb dX0_areSo_12 (by decide) ?_
    refine lv_istore_n (lv' := [(2, .int 1), (0, .ref o), (1, .ref rq)]) hx hb dX0_areSo_13 rfl hl (by decide) rfl (fun ls hl => ?_)
    refine lv_iconst (v := 0) hx hb dX0_areSo_14 (by decide) ?_
    refine lv_istore_n (lv' := [(3, .int 0), (2, .int 1), (0, .ref o), (1, .ref rq)]) hx hb dX0_areSo_15 rfl hl (by decide) rfl (fun ls hl => ?_)
    have loop1 : ∀ (f1 : Nat) (i : Nat), (i ≤ rn) → (rn + 1 ≤ i + f1) → ∀ (H : Heap) (locs : List Loc), va_P (dC, dI) clA (xG ct o q (ql, qs, md, qe, n) y (upd g 18 ((lgo fuX (laX (g 3) (g 4) (a 2) (a 5)) (a 4) n (fun t => cix (rf t)) (xbeg n (a 3) ((a 12), (a 13), (a 14), (a 15), (a 16))) N).2.2)) (va_up (va_up (va_up (va_up (va_up a 12 (((lgo fuX (laX (g 3) (g 4) (a 2) (a 5)) (a 4) n (fun t => cix (rf t)) (xbeg n (a 3) ((a 12), (a 13), (a 14), (a 15), (a 16))) N).1).1)) 13 (((lgo fuX (laX (g 3) (g 4) (a 2) (a 5)) (a 4) n (fun t => cix (rf t)) (xbeg n (a 3) ((a 12), (a 13), (a 14), (a 15), (a 16))) N).1).2.1)) 14 (((lgo fuX (laX (g 3) (g 4) (a 2) (a 5)) (a 4) n (fun t => cix (rf t)) (xbeg n (a 3) ((a 12), (a 13), (a 14), (a 15), (a 16))) N).1).2.2.1)) 15 (((lgo fuX (laX (g 3) (g 4) (a 2) (a 5)) (a 4) n (fun t => cix (rf t)) (xbeg n (a 3) ((a 12), (a 13), (a 14), (a 15), (a 16))) N).1).2.2.2.1)) 16 (((lgo fuX (laX (g 3) (g 4) (a 2) (a 5)) (a 4) n (fun t => cix (rf t)) (xbeg n (a 3) ((a 12), (a 13), (a 14), (a 15), (a 16))) N).1).2.2.2.2)) ex) H → va_D A (xG ct o q (ql, qs, md, qe, n) y (upd g 18 ((lgo fuX (laX (g 3) (g 4) (a 2) (a 5)) (a 4) n (fun t => cix (rf t)) (xbeg n (a 3) ((a 12), (a 13), (a 14), (a 15), (a 16))) N).2.2)) (va_up (va_up (va_up (va_up (va_up a 12 (((lgo fuX (laX (g 3) (g 4) (a 2) (a 5)) (a 4) n (fun t => cix (rf t)) (xbeg n (a 3) ((a 12), (a 13), (a 14), (a 15), (a 16))) N).1).1)) 13 (((lgo fuX (laX (g 3) (g 4) (a 2) (a 5)) (a 4) n (fun t => cix (rf t)) (xbeg n (a 3) ((a 12), (a 13), (a 14), (a 15), (a 16))) N).1).2.1)) 14 (((lgo fuX (laX (g 3) (g 4) (a 2) (a 5)) (a 4) n (fun t => cix (rf t)) (xbeg n (a 3) ((a 12), (a 13), (a 14), (a 15), (a 16))) N).1).2.2.1)) 15 (((lgo fuX (laX (g 3) (g 4) (a 2) (a 5)) (a 4) n (fun t => cix (rf t)) (xbeg n (a 3) ((a 12), (a 13), (a 14), (a 15), (a 16))) N).1).2.2.2.1)) 16 (((lgo fuX (laX (g 3) (g 4) (a 2) (a 5)) (a 4) n (fun t => cix (rf t)) (xbeg n (a 3) ((a 12), (a 13), (a 14), (a 15), (a 16))) N).1).2.2.2.2)) ex) → va_S A s.heap H locs → ∀ (ls : Array Slot), lv_has ls 4 [(3, .int (nI i)), (2, .int (b2i (rdOk (lgo fuX (laX (g 3) (g 4) (a 2) (a 5)) (a 4) n (fun t => cix (rf t)) (xbeg n (a 3) ((a 12), (a 13), (a 14), (a 15), (a 16))) N).1.2.2.2.1 (a 22) (a 23) (a 24) i))), (0, .ref o)] → W p l e (headSpec (ws_ yX0_areSo cX0_areSo 4 (some .boolean)) ({ frames := 7, cells := 0, slots := 0, locals := 146 })).room s m ([.ref o, .ref rq] : List Value).toArray below meth c H locs 0 0 (MQ below (va_Qi (fun (r : Int32) (u : (Nat → Int32) × (Nat → Nat → Int32)) => r = (b2i (soV (cgo n (a 3) (a 4) (laX (g 3) (g 4) (a 2) (a 5)) (fun t => cix (rf t)) N) (a 22) (a 23) (a 24) rn)) ∧ ∃ (T : LnS (Nat → Int32) × Int32 × Int32), u = ((upd g 18 T.2.2), (va_up (va_up (va_up (va_up (va_up a 12 ((T.1).1)) 13 ((T.1).2.1)) 14 ((T.1).2.2.1)) 15 ((T.1).2.2.2.1)) 16 ((T.1).2.2.2.2)))) (gB dC dI ct A ex o q (ql, qs, md, qe, n) y) A) ([.ref o, .ref rq] : List Value).toArray s 0 0 A) (F0 m 16 ls []) := by
      intro f1
      induction f1 with
      | zero => intro i hi hf; exact False.elim (by omega)
      | succ f1 ih1 =>
        intro i hi hf H locs hP hD hS ls hl
        refine lv_iload_n hx hb dX0_areSo_16 rfl (lv_at hl 0 rfl) ?_
        refine lv_aload_n hx hb dX0_areSo_17 rfl (lv_at hl 2 rfl) ?_
        refine g_get (v := .int (g 21)) hx hb hts hown hK hP 21 (by decide) rfl q170 rfl dX0_areSo_18 ?_
        refine lv_icmp_ge (tgt := 67) hx hb dX0_areSo_21 (by decide) (fun c_2 => ?_) (fun c_2 => ?_)
        · skip
          have hge : i = rn := by rw [hrn] at c_2; exact Nat.le_antisymm (by omega) ((nI_leI (by omega) (by omega)).mp c_2)
          refine lv_iload_n hx hb dX0_areSo_67 rfl (lv_at hl 1 rfl) ?_
          exact W.zret (v := (b2i (rdOk (lgo fuX (laX (g 3) (g 4) (a 2) (a 5)) (a 4) n (fun t => cix (rf t)) (xbeg n (a 3) ((a 12), (a 13), (a 14), (a 15), (a 16))) N).1.2.2.2.1 (a 22) (a 23) (a 24) i))) hx hb hr (nar_b2i _) (fun t ht hW => ⟨⟨(b2i (rdOk (lgo fuX (laX (g 3) (g 4) (a 2) (a 5)) (a 4) n (fun t => cix (rf t)) (xbeg n (a 3) ((a 12), (a 13), (a 14), (a 15), (a 16))) N).1.2.2.2.1 (a 22) (a 23) (a 24) i)), ((upd g 18 ((lgo fuX (laX (g 3) (g 4) (a 2) (a 5)) (a 4) n (fun t => cix (rf t)) (xbeg n (a 3) ((a 12), (a 13), (a 14), (a 15), (a 16))) N).2.2)), (va_up (va_up (va_up (va_up (va_up a 12 (((lgo fuX (laX (g 3) (g 4) (a 2) (a 5)) (a 4) n (fun t => cix (rf t)) (xbeg n (a 3) ((a 12), (a 13), (a 14), (a 15), (a 16))) N).1).1)) 13 (((lgo fuX (laX (g 3) (g 4) (a 2) (a 5)) (a 4) n (fun t => cix (rf t)) (xbeg n (a 3) ((a 12), (a 13), (a 14), (a 15), (a 16))) N).1).2.1)) 14 (((lgo fuX (laX (g 3) (g 4) (a 2) (a 5)) (a 4) n (fun t => cix (rf t)) (xbeg n (a 3) ((a 12), (a 13), (a 14), (a 15), (a 16))) N).1).2.2.1)) 15 (((lgo fuX (laX (g 3) (g 4) (a 2) (a 5)) (a 4) n (fun t => cix (rf t)) (xbeg n (a 3) ((a 12), (a 13), (a 14), (a 15), (a 16))) N).1).2.2.2.1)) 16 (((lgo fuX (laX (g 3) (g 4) (a 2) (a 5)) (a 4) n (fun t => cix (rf t)) (xbeg n (a 3) ((a 12), (a 13), (a 14), (a 15), (a 16))) N).1).2.2.2.2))), rfl, ⟨(by rw [← (soV_x hn6 (fun _ _ => rfl) _ (fun t ht => (hpr t ht).2) (fun _ _ => rfl) (fun k hk => (hrw k hk).2))]; unfold soV; rw [hge, show decide (¬ 0 ≤ (lgo fuX (laX (g 3) (g 4) (a 2) (a 5)) (a 4) n (fun t => cix (rf t)) (xbeg n (a 3) ((a 12), (a 13), (a 14), (a 15), (a 16))) N).2.1) = true by rw [c_1]; decide, Bool.true_and]), ⟨(lgo fuX (laX (g 3) (g 4) (a 2) (a 5)) (a 4) n (fun t => cix (rf t)) (xbeg n (a 3) ((a 12), (a 13), (a 14), (a 15), (a 16))) N), rfl⟩⟩, by rw [ht]; exact hP, va_K.moved hW.alike hK, hD⟩, hS.F ht⟩) hS.2.2 dX0_areSo_68
        · skip
          have hlt : i < rn := by rw [hrn] at c_2; exact Nat.lt_of_not_le (fun z => c_2 ((nI_leI (by omega) (by omega)).mpr z))
          refine lv_iload_n hx hb dX0_areSo_24 rfl (lv_at hl 1 rfl) ?_
          refine lv_aload_n hx hb dX0_areSo_25 rfl (lv_at hl 2 rfl) ?_
          refine g_get (v := .ref (q 15)) hx hb hts hown hK hP 12 (by decide) rfl q161 rfl dX0_areSo_26 ?_
          refine lv_aload_n hx hb dX0_areSo_29 rfl (lv_at hl 2 rfl) ?_
          refine g_get (v := .ref (q 22)) hx hb hts hown hK hP 22 (by decide) rfl q171 rfl dX0_areSo_30 ?_
          refine lv_iload_n hx hb dX0_areSo_33 rfl (lv_at hl 0 rfl) ?_
          refine g_ild hx hb hK hP (gWa22 _ _ _ _ _ _ _ _ _ _ _ _) (a 22) rfl i rfl (by omega) (by decide) dX0_areSo_34 ?_
          refine g_ild hx hb hK hP (gWa15 _ _ _ _ _ _ _ _ _ _ _ _) (((lgo fuX (laX (g 3) (g 4) (a 2) (a 5)) (a 4) n (fun t => cix (rf t)) (xbeg n (a 3) ((a 12), (a 13), (a 14), (a 15), (a 16))) N).1).2.2.2.1) rfl (cix (a 22 i)) (hrw i hlt).1 (Nat.lt_of_lt_of_le (hrw i hlt).2 hn6) (by decide) dX0_areSo_35 ?_
          refine lv_aload_n hx hb dX0_areSo_36 rfl (lv_at hl 2 rfl) ?_
          refine g_get (v := .ref (q 23)) hx hb hts hown hK hP 23 (by decide) rfl q172 rfl dX0_areSo_37 ?_
          refine lv_iload_n hx hb dX0_areSo_40 rfl (lv_at hl 0 rfl) ?_
          refine g_ild hx hb hK hP (gWa23 _ _ _ _ _ _ _ _ _ _ _ _) (a 23) rfl i rfl (by omega) (by decide) dX0_areSo_41 ?_
          refine vp_callSi ((va_runS (As := [.int (((lgo fuX (laX (g 3) (g 4) (a 2) (a 5)) (a 4) n (fun t => cix (rf t)) (xbeg n (a 3) ((a 12), (a 13), (a 14), (a 15), (a 16))) N).1).2.2.2.1 (cix (a 22 i))), .int ((a 23) i)]) (rest := [.int (b2i (rdOk (lgo fuX (laX (g 3) (g 4) (a 2) (a 5)) (a 4) n (fun t => cix (rf t)) (xbeg n (a 3) ((a 12), (a 13), (a 14), (a 15), (a 16))) N).1.2.2.2.1 (a 22) (a 23) (a 24) i))]) ⟨hx, hb, hml, hown, hts⟩ (metX0_isOf l (((lgo fuX (laX (g 3) (g 4) (a 2) (a 5)) (a 4) n (fun t => cix (rf t)) (xbeg n (a 3) ((a 12), (a 13), (a 14), (a 15), (a 16))) N).1).2.2.2.1 (cix (a 22 i))) ((a 23) i) ) (va_cwS 2 hts (lw_S q723 q724 q69 q725) rfl rfl rfl (by decide +kernel) ⟨Nat.le_of_ble_eq_true rfl, Nat.le_of_ble_eq_true rfl⟩) (pcS _) rfl rfl hl.1 rfl (lv_room (Nat.le_of_ble_eq_true rfl)) dX0_areSo_42 ⟨Nat.zero_le _, Nat.zero_le _⟩)).run (fun r hw => ?_)
          have hw : r = (b2i (bq (((lgo fuX (laX (g 3) (g 4) (a 2) (a 5)) (a 4) n (fun t => cix (rf t)) (xbeg n (a 3) ((a 12), (a 13), (a 14), (a 15), (a 16))) N).1).2.2.2.1 (cix (a 22 i))) ((a 23) i))) := hw
          subst hw
          refine lv_aload_n hx hb dX0_areSo_45 rfl (lv_at hl 2 rfl) ?_
          refine g_get (v := .ref (q 24)) hx hb hts hown hK hP 24 (by decide) rfl q173 rfl dX0_areSo_46 ?_
          refine lv_iload_n hx hb dX0_areSo_49 rfl (lv_at hl 0 rfl) ?_
          refine g_zld hx hb hK hP (gWa24 _ _ _ _ _ _ _ _ _ _ _ _) (a 24) rfl i rfl (by omega) (by decide) dX0_areSo_50 ?_
          refine lv_icmp_ne (tgt := 58) hx hb dX0_areSo_51 (by decide) (fun c_3 => ?_) (fun c_3 => ?_)
          · skip
            skip
            refine lv_iconst (v := 0) hx hb dX0_areSo_58 (by decide) ?_
            refine lv_iand hx hb dX0_areSo_59 ?_
            refine lv_topi (fun z_4 ez_4 => ?_)
            have ez_4 : z_4 = (b2i (rdOk (lgo fuX (laX (g 3) (g 4) (a 2) (a 5)) (a 4) n (fun t => cix (rf t)) (xbeg n (a 3) ((a 12), (a 13), (a 14), (a 15), (a 16))) N).1.2.2.2.1 (a 22) (a 23) (a 24) (i + 1))) := ez_4.trans (rd_0 (decide_eq_false c_3))
            subst ez_4
            refine lv_istore_n (lv' := [(2, .int (b2i (rdOk (lgo fuX (laX (g 3) (g 4) (a 2) (a 5)) (a 4) n (fun t => cix (rf t)) (xbeg n (a 3) ((a 12), (a 13), (a 14), (a 15), (a 16))) N).1.2.2.2.1 (a 22) (a 23) (a 24) (i + 1)))), (3, .int (nI i)), (0, .ref o)]) hx hb dX0_areSo_60 rfl hl (by decide) rfl (fun ls hl => ?_)
            refine lv_iinc (v := (nI (i + 1))) (lv' := [(3, .int (nI (i + 1))), (2, .int (b2i (rdOk (lgo fuX (laX (g 3) (g 4) (a 2) (a 5)) (a 4) n (fun t => cix (rf t)) (xbeg n (a 3) ((a 12), (a 13), (a 14), (a 15), (a 16))) N).1.2.2.2.1 (a 22) (a 23) (a 24) (i + 1)))), (0, .ref o)]) hx hb dX0_areSo_61 hl (k := 1) rfl (nI_1 i) (by decide) rfl (fun ls hl => ?_)
            refine lv_goto (tgt := 16) hx hb dX0_areSo_64 (by decide) ?_
            exact ih1 (i + 1) (by omega) (by omega) _ _ hP hD hS _ (lv_sub hl [0, 1, 2] rfl)
          · skip
            skip
            refine lv_iconst (v := 1) hx hb dX0_areSo_54 (by decide) ?_
            refine lv_goto (tgt := 59) hx hb dX0_areSo_55 (by decide) ?_
            refine lv_iand hx hb dX0_areSo_59 ?_
            refine lv_topi (fun z_5 ez_5 => ?_)
            have ez_5 : z_5 = (b2i (rdOk (lgo fuX (laX (g 3) (g 4) (a 2) (a 5)) (a 4) n (fun t => cix (rf t)) (xbeg n (a 3) ((a 12), (a 13), (a 14), (a 15), (a 16))) N).1.2.2.2.1 (a 22) (a 23) (a 24) (i + 1))) := ez_5.trans (rd_1 (decide_eq_true c_3))
            subst ez_5
            refine lv_istore_n (lv' := [(2, .int (b2i (rdOk (lgo fuX (laX (g 3) (g 4) (a 2) (a 5)) (a 4) n (fun t => cix (rf t)) (xbeg n (a 3) ((a 12), (a 13), (a 14), (a 15), (a 16))) N).1.2.2.2.1 (a 22) (a 23) (a 24) (i + 1)))), (3, .int (nI i)), (0, .ref o)]) hx hb dX0_areSo_60 rfl hl (by decide) rfl (fun ls hl => ?_)
            refine lv_iinc (v := (nI (i + 1))) (lv' := [(3, .int (nI (i + 1))), (2, .int (b2i (rdOk (lgo fuX (laX (g 3) (g 4) (a 2) (a 5)) (a 4) n (fun t => cix (rf t)) (xbeg n (a 3) ((a 12), (a 13), (a 14), (a 15), (a 16))) N).1.2.2.2.1 (a 22) (a 23) (a 24) (i + 1)))), (0, .ref o)]) hx hb dX0_areSo_61 hl (k := 1) rfl (nI_1 i) (by decide) rfl (fun ls hl => ?_)
            refine lv_goto (tgt := 16) hx hb dX0_areSo_64 (by decide) ?_
            exact ih1 (i + 1) (by omega) (by omega) _ _ hP hD hS _ (lv_sub hl [0, 1, 2] rfl)
    exact loop1 (rn + 1) 0 (by omega) (by omega) _ _ hP hD hS _ (lv_sub hl [0, 1, 2] rfl)
  · skip
    refine lv_iconst (v := 0) hx hb dX0_areSo_10 (by decide) ?_
    exact W.zret (v := 0) hx hb hr rfl (fun t ht hW => ⟨⟨0, ((upd g 18 ((lgo fuX (laX (g 3) (g 4) (a 2) (a 5)) (a 4) n (fun t => cix (rf t)) (xbeg n (a 3) ((a 12), (a 13), (a 14), (a 15), (a 16))) N).2.2)), (va_up (va_up (va_up (va_up (va_up a 12 (((lgo fuX (laX (g 3) (g 4) (a 2) (a 5)) (a 4) n (fun t => cix (rf t)) (xbeg n (a 3) ((a 12), (a 13), (a 14), (a 15), (a 16))) N).1).1)) 13 (((lgo fuX (laX (g 3) (g 4) (a 2) (a 5)) (a 4) n (fun t => cix (rf t)) (xbeg n (a 3) ((a 12), (a 13), (a 14), (a 15), (a 16))) N).1).2.1)) 14 (((lgo fuX (laX (g 3) (g 4) (a 2) (a 5)) (a 4) n (fun t => cix (rf t)) (xbeg n (a 3) ((a 12), (a 13), (a 14), (a 15), (a 16))) N).1).2.2.1)) 15 (((lgo fuX (laX (g 3) (g 4) (a 2) (a 5)) (a 4) n (fun t => cix (rf t)) (xbeg n (a 3) ((a 12), (a 13), (a 14), (a 15), (a 16))) N).1).2.2.2.1)) 16 (((lgo fuX (laX (g 3) (g 4) (a 2) (a 5)) (a 4) n (fun t => cix (rf t)) (xbeg n (a 3) ((a 12), (a 13), (a 14), (a 15), (a 16))) N).1).2.2.2.2))), rfl, ⟨(by rw [← (soV_x hn6 (fun _ _ => rfl) _ (fun t ht => (hpr t ht).2) (fun _ _ => rfl) (fun k hk => (hrw k hk).2))]; unfold soV; rw [decide_eq_false (fun z => z ((lgo_21 (by omega)).resolve_left c_1))]; rfl), ⟨(lgo fuX (laX (g 3) (g 4) (a 2) (a 5)) (a 4) n (fun t => cix (rf t)) (xbeg n (a 3) ((a 12), (a 13), (a 14), (a 15), (a 16))) N), rfl⟩⟩, by rw [ht]; exact hP, va_K.moved hW.alike hK, hD⟩, hS.F ht⟩) hS.2.2 dX0_areSo_11
set_option maxHeartbeats 4000000 in
set_option maxRecDepth 100000 in
theorem metX0_scenesOf (l : Launch) (dC : Nat → ClassId) (dI : Nat → Nat → Nat) (ct : Nat → ClassId) (A : Nat → Prop) (ex : va_W) (o : Nat) (q : Nat → Nat) (ql qs : Nat) (md : Int32) (qe n : Nat) (y : Nat → Nat) (g : Nat → Int32) (a : Nat → Nat → Int32) (w : Int32) (K : Nat) (hKn : K < n) (rp rq N : Nat) (rf : Nat → Int32) (hrp : ex[rp]? = some (rq, .inl (ct 0, 2 * N, .inl rf))) (hN : N ≤ 30) (hn6 : n ≤ 6) (hpr : ∀ t, t < 2 * N → rf t = nI (cix (rf t)) ∧ cix (rf t) < n) (rn : Nat) (hr8 : rn ≤ 8) (hrn : g 21 = nI rn) (hrw : ∀ k, k < rn → a 22 k = nI (cix (a 22 k)) ∧ cix (a 22 k) < n) : Met l yX0_scenesOf (ws_ yX0_scenesOf cX0_scenesOf 8 (some .int)) ({ frames := 8, cells := 0, slots := 0, locals := 169 }) (gPre dC dI ct A ex o q (ql, qs, md, qe, n) y g a [.ref o, .ref (y K), .ref rq, .int w]) (va_Qi (fun (r : Int32) (u : (Nat → Int32) × (Nat → Nat → Int32)) => r = (if w = 0 then cntB (fun z => (soV (cgo n (upd (a 3) K (nI z)) (a 4) (laX (g 3) (g 4) (a 2) (a 5)) (fun t => cix (rf t)) N) (a 22) (a 23) (a 24) rn)) 64 else leastB (fun z => (soV (cgo n (upd (a 3) K (nI z)) (a 4) (laX (g 3) (g 4) (a 2) (a 5)) (fun t => cix (rf t)) N) (a 22) (a 23) (a 24) rn)) 64) ∧ ∃ (T : LnS (Nat → Int32) × Int32 × Int32), u = ((upd g 18 T.2.2), (va_up (va_up (va_up (va_up (va_up a 12 ((T.1).1)) 13 ((T.1).2.1)) 14 ((T.1).2.2.1)) 15 ((T.1).2.2.2.1)) 16 ((T.1).2.2.2.2)))) (gB dC dI ct A ex o q (ql, qs, md, qe, n) y) A) 0 0 A := by
  refine Met.ofW (cc := cX0_scenesOf) (maxL := 8) (ret := (some .int)) (by decide) rfl ?_
  intro p e s m args below meth c s₁ B hml hv
  obtain ⟨rfl, hP, hK, hD, hE⟩ := hv
  have hx := B.exec
  have hb := B.bytes
  have hr := B.returns
  have hts := atoms_spec (ws := ws_ yX0_scenesOf cX0_scenesOf 8 (some .int)) B.pre
  have hts : ∀ w ∈ lw_all, w.before _ s = true := fun w h => hts w (List.mem_cons_of_mem _ h)
  have hown : s.vm.findClass RX0 = some m.cls := findClass_of_methodNamed B.named
  have hlocks := B.notSynchronized
  have hS : va_S A s.heap s.heap [] := va_S.rf
  have hl := lv_entry ([.ref o, .ref (y K), .ref rq, .int w]) (n := 8) (Nat.le_of_ble_eq_true rfl)
  rw [lg_entry_eq]
  generalize (lg_sl ([.ref o, .ref (y K), .ref rq, .int w]) ++ List.replicate (8 - (lg_sl ([.ref o, .ref (y K), .ref rq, .int w])).length) Slot.unset).toArray = ls at hl ⊢
  have hl : lv_has ls 8 [(0, .ref o), (1, .ref (y K)), (2, .ref rq), (3, .int w)] := hl
  refine lv_aload_n hx hb dX0_scenesOf_0 rfl (lv_at hl 1 rfl) ?_
  refine c_getN (v := .int ((a 3) K)) hx hb hts hown hK hP hKn 1 (by decide) rfl (xE_q460 hE) dX0_scenesOf_1 ?_
  refine lv_istore (lv' := [(4, .int ((a 3) K)), (0, .ref o), (1, .ref (y K)), (2, .ref rq), (3, .int w)]) hx hb dX0_scenesOf_4 hl (by decide) rfl (fun ls hl => ?_)
  refine lv_iconst (v := 0) hx hb dX0_scenesOf_6 (by decide) ?_
  refine lv_istore (lv' := [(5, .int 0), (4, .int ((a 3) K)), (0, .ref o), (1, .ref (y K)), (2, .ref rq), (3, .int w)]) hx hb dX0_scenesOf_7 hl (by decide) rfl (fun ls hl => ?_)
  refine lv_bipush (v := (-9)) hx hb dX0_scenesOf_9 (by decide) ?_
  refine lv_istore (lv' := [(6, .int (-9)), (5, .int 0), (4, .int ((a 3) K)), (0, .ref o), (1, .ref (y K)), (2, .ref rq), (3, .int w)]) hx hb dX0_scenesOf_11 hl (by decide) rfl (fun ls hl => ?_)
  refine lv_iconst (v := 0) hx hb dX0_scenesOf_13 (by decide) ?_
  refine lv_istore (lv' := [(7, .int 0), (6, .int (-9)), (5, .int 0), (4, .int ((a 3) K)), (0, .ref o), (1, .ref (y K)), (2, .ref rq), (3, .int w)]) hx hb dX0_scenesOf_14 hl (by decide) rfl (fun ls hl => ?_)
  have loop1 : ∀ (f1 : Nat) (i : Nat) (v : Int32) (T : LnS (Nat → Int32) × Int32 × Int32), (i ≤ 64) → (64 + 1 ≤ i + f1) → ∀ (H : Heap) (locs : List Loc), va_P (dC, dI) clA (xG ct o q (ql, qs, md, qe, n) y (upd g 18 T.2.2) (va_up (va_up (va_up (va_up (va_up (va_up a 3 (upd (a 3) K v)) 12 ((T.1).1)) 13 ((T.1).2.1)) 14 ((T.1).2.2.1)) 15 ((T.1).2.2.2.1)) 16 ((T.1).2.2.2.2)) ex) H → va_D A (xG ct o q (ql, qs, md, qe, n) y (upd g 18 T.2.2) (va_up (va_up (va_up (va_up (va_up (va_up a 3 (upd (a 3) K v)) 12 ((T.1).1)) 13 ((T.1).2.1)) 14 ((T.1).2.2.1)) 15 ((T.1).2.2.2.1)) 16 ((T.1).2.2.2.2)) ex) → va_S A s.heap H locs → ∀ (ls : Array Slot), lv_has ls 8 [(7, .int (nI i)), (6, .int (leastB (fun z => (soV (cgo n (upd (a 3) K (nI z)) (a 4) (laX (g 3) (g 4) (a 2) (a 5)) (fun t => cix (rf t)) N) (a 22) (a 23) (a 24) rn)) i)), (5, .int (cntB (fun z => (soV (cgo n (upd (a 3) K (nI z)) (a 4) (laX (g 3) (g 4) (a 2) (a 5)) (fun t => cix (rf t)) N) (a 22) (a 23) (a 24) rn)) i)), (4, .int ((a 3) K)), (3, .int w), (2, .ref rq), (1, .ref (y K)), (0, .ref o)] → W p l e (headSpec (ws_ yX0_scenesOf cX0_scenesOf 8 (some .int)) ({ frames := 8, cells := 0, slots := 0, locals := 169 })).room s m ([.ref o, .ref (y K), .ref rq, .int w] : List Value).toArray below meth c H locs 0 0 (MQ below (va_Qi (fun (r : Int32) (u : (Nat → Int32) × (Nat → Nat → Int32)) => r = (if w = 0 then cntB (fun z => (soV (cgo n (upd (a 3) K (nI z)) (a 4) (laX (g 3) (g 4) (a 2) (a 5)) (fun t => cix (rf t)) N) (a 22) (a 23) (a 24) rn)) 64 else leastB (fun z => (soV (cgo n (upd (a 3) K (nI z)) (a 4) (laX (g 3) (g 4) (a 2) (a 5)) (fun t => cix (rf t)) N) (a 22) (a 23) (a 24) rn)) 64) ∧ ∃ (T : LnS (Nat → Int32) × Int32 × Int32), u = ((upd g 18 T.2.2), (va_up (va_up (va_up (va_up (va_up a 12 ((T.1).1)) 13 ((T.1).2.1)) 14 ((T.1).2.2.1)) 15 ((T.1).2.2.2.1)) 16 ((T.1).2.2.2.2)))) (gB dC dI ct A ex o q (ql, qs, md, qe, n) y) A) ([.ref o, .ref (y K), .ref rq, .int w] : List Value).toArray s 0 0 A) (F0 m 16 ls []) := by
    intro f1
    induction f1 with
    | zero => intro i v T hi hf; exact False.elim (by omega)
    | succ f1 ih1 =>
      intro i v T hi hf H locs hP hD hS ls hl
      refine lv_iload hx hb dX0_scenesOf_16 (lv_at hl 0 rfl) ?_
      refine lv_bipush (v := 64) hx hb dX0_scenesOf_18 (by decide) ?_
      refine lv_icmp_ge (tgt := 63) hx hb dX0_scenesOf_20 (by decide) (fun c_1 => ?_) (fun c_1 => ?_)
      · skip
        have hge : i = 64 := Nat.le_antisymm (by omega) ((nI_leI (a := 64) (by omega) (by omega)).mp c_1)
        refine lv_aload_n hx hb dX0_scenesOf_63 rfl (lv_at hl 6 rfl) ?_
        refine lv_iload hx hb dX0_scenesOf_64 (lv_at hl 3 rfl) ?_
        refine c_putN (v := ((a 3) K)) hx hb hts hown hK hP hD hS hKn 1 3 (by unfold chK; decide) (xE_q460 hE) dX0_scenesOf_66 (fun H locs hP hD hS => ?_)
        have hP : va_P (dC, dI) clA (xG ct o q (ql, qs, md, qe, n) y (upd g 18 T.2.2) (va_up (va_up (va_up (va_up (va_up (va_up (va_up a 3 (upd (a 3) K v)) 12 ((T.1).1)) 13 ((T.1).2.1)) 14 ((T.1).2.2.1)) 15 ((T.1).2.2.2.1)) 16 ((T.1).2.2.2.2)) 3 (upd (upd (a 3) K v) K ((a 3) K))) ex) H := hP
        have hD : va_D A (xG ct o q (ql, qs, md, qe, n) y (upd g 18 T.2.2) (va_up (va_up (va_up (va_up (va_up (va_up (va_up a 3 (upd (a 3) K v)) 12 ((T.1).1)) 13 ((T.1).2.1)) 14 ((T.1).2.2.1)) 15 ((T.1).2.2.2.1)) 16 ((T.1).2.2.2.2)) 3 (upd (upd (a 3) K v) K ((a 3) K))) ex) := hD
        have eW_2 : ∀ (zg18 : Int32) (za3 : Nat → Int32) (za12 : Nat → Int32) (za13 : Nat → Int32) (za14 : Nat → Int32) (za15 : Nat → Int32) (za16 : Nat → Int32) (zn : Nat → Int32), xG ct o q (ql, qs, md, qe, n) y (upd g 18 zg18) (va_up (va_up (va_up (va_up (va_up (va_up (va_up a 3 za3) 12 za12) 13 za13) 14 za14) 15 za15) 16 za16) 3 zn) ex = xG ct o q (ql, qs, md, qe, n) y (upd g 18 zg18) (va_up (va_up (va_up (va_up (va_up (va_up a 3 zn) 12 za12) 13 za13) 14 za14) 15 za15) 16 za16) ex := fun _ _ _ _ _ _ _ _ => rfl
        have hP : va_P (dC, dI) clA (xG ct o q (ql, qs, md, qe, n) y (upd g 18 T.2.2) (va_up (va_up (va_up (va_up (va_up (va_up a 3 (upd (upd (a 3) K v) K ((a 3) K))) 12 ((T.1).1)) 13 ((T.1).2.1)) 14 ((T.1).2.2.1)) 15 ((T.1).2.2.2.1)) 16 ((T.1).2.2.2.2)) ex) H := Eq.mp (congrArg (fun w => va_P (dC, dI) clA w H) (eW_2 T.2.2 (upd (a 3) K v) ((T.1).1) ((T.1).2.1) ((T.1).2.2.1) ((T.1).2.2.2.1) ((T.1).2.2.2.2) (upd (upd (a 3) K v) K ((a 3) K)))) hP
        have hD : va_D A (xG ct o q (ql, qs, md, qe, n) y (upd g 18 T.2.2) (va_up (va_up (va_up (va_up (va_up (va_up a 3 (upd (upd (a 3) K v) K ((a 3) K))) 12 ((T.1).1)) 13 ((T.1).2.1)) 14 ((T.1).2.2.1)) 15 ((T.1).2.2.2.1)) 16 ((T.1).2.2.2.2)) ex) := Eq.mp (congrArg (fun w => va_D A w) (eW_2 T.2.2 (upd (a 3) K v) ((T.1).1) ((T.1).2.1) ((T.1).2.2.1) ((T.1).2.2.2.1) ((T.1).2.2.2.2) (upd (upd (a 3) K v) K ((a 3) K)))) hD
        have e_3 : (upd (upd (a 3) K v) K ((a 3) K)) = (a 3) := (by rw [upd_uu]; exact upd_id _ _)
        rw [e_3] at hP hD
        have hP : va_P (dC, dI) clA (xG ct o q (ql, qs, md, qe, n) y (upd g 18 T.2.2) (va_up (va_up (va_up (va_up (va_up a 12 ((T.1).1)) 13 ((T.1).2.1)) 14 ((T.1).2.2.1)) 15 ((T.1).2.2.2.1)) 16 ((T.1).2.2.2.2)) ex) H := hP
        have hD : va_D A (xG ct o q (ql, qs, md, qe, n) y (upd g 18 T.2.2) (va_up (va_up (va_up (va_up (va_up a 12 ((T.1).1)) 13 ((T.1).2.1)) 14 ((T.1).2.2.1)) 15 ((T.1).2.2.2.1)) 16 ((T.1).2.2.2.2)) ex) := hD
        refine lv_iload_n hx hb dX0_scenesOf_69 rfl (lv_at hl 4 rfl) ?_
        refine lv_if_ne (tgt := 78) hx hb dX0_scenesOf_70 (by decide) (fun c_4 => ?_) (fun c_4 => ?_)
        · skip
          refine lv_iload hx hb dX0_scenesOf_78 (lv_at hl 1 rfl) ?_
          exact W.iret (v := (leastB (fun z => (soV (cgo n (upd (a 3) K (nI z)) (a 4) (laX (g 3) (g 4) (a 2) (a 5)) (fun t => cix (rf t)) N) (a 22) (a 23) (a 24) rn)) i)) hx hb hr (fun t ht hW => ⟨⟨(leastB (fun z => (soV (cgo n (upd (a 3) K (nI z)) (a 4) (laX (g 3) (g 4) (a 2) (a 5)) (fun t => cix (rf t)) N) (a 22) (a 23) (a 24) rn)) i), ((upd g 18 T.2.2), (va_up (va_up (va_up (va_up (va_up a 12 ((T.1).1)) 13 ((T.1).2.1)) 14 ((T.1).2.2.1)) 15 ((T.1).2.2.2.1)) 16 ((T.1).2.2.2.2))), rfl, ⟨(by rw [hge]; rw [if_neg c_4]), ⟨T, rfl⟩⟩, by rw [ht]; exact hP, va_K.moved hW.alike hK, hD⟩, hS.F ht⟩) hS.2.2 dX0_scenesOf_80
        · skip
          refine lv_iload hx hb dX0_scenesOf_73 (lv_at hl 2 rfl) ?_
          refine lv_goto (tgt := 80) hx hb dX0_scenesOf_75 (by decide) ?_
          exact W.iret (v := (cntB (fun z => (soV (cgo n (upd (a 3) K (nI z)) (a 4) (laX (g 3) (g 4) (a 2) (a 5)) (fun t => cix (rf t)) N) (a 22) (a 23) (a 24) rn)) i)) hx hb hr (fun t ht hW => ⟨⟨(cntB (fun z => (soV (cgo n (upd (a 3) K (nI z)) (a 4) (laX (g 3) (g 4) (a 2) (a 5)) (fun t => cix (rf t)) N) (a 22) (a 23) (a 24) rn)) i), ((upd g 18 T.2.2), (va_up (va_up (va_up (va_up (va_up a 12 ((T.1).1)) 13 ((T.1).2.1)) 14 ((T.1).2.2.1)) 15 ((T.1).2.2.2.1)) 16 ((T.1).2.2.2.2))), rfl, ⟨(by rw [hge]; rw [if_pos c_4]), ⟨T, rfl⟩⟩, by rw [ht]; exact hP, va_K.moved hW.alike hK, hD⟩, hS.F ht⟩) hS.2.2 dX0_scenesOf_80
      · skip
        have hlt : i < 64 := Nat.lt_of_not_le (fun z => c_1 (nI_le (a := 64) z (by omega)))
        refine lv_aload_n hx hb dX0_scenesOf_23 rfl (lv_at hl 6 rfl) ?_
        refine lv_iload hx hb dX0_scenesOf_24 (lv_at hl 0 rfl) ?_
        refine c_putN (v := (nI i)) hx hb hts hown hK hP hD hS hKn 1 3 (by unfold chK; decide) (xE_q460 hE) dX0_scenesOf_26 (fun H locs hP hD hS => ?_)
        have hP : va_P (dC, dI) clA (xG ct o q (ql, qs, md, qe, n) y (upd g 18 T.2.2) (va_up (va_up (va_up (va_up (va_up (va_up (va_up a 3 (upd (a 3) K v)) 12 ((T.1).1)) 13 ((T.1).2.1)) 14 ((T.1).2.2.1)) 15 ((T.1).2.2.2.1)) 16 ((T.1).2.2.2.2)) 3 (upd (upd (a 3) K v) K (nI i))) ex) H := hP
        have hD : va_D A (xG ct o q (ql, qs, md, qe, n) y (upd g 18 T.2.2) (va_up (va_up (va_up (va_up (va_up (va_up (va_up a 3 (upd (a 3) K v)) 12 ((T.1).1)) 13 ((T.1).2.1)) 14 ((T.1).2.2.1)) 15 ((T.1).2.2.2.1)) 16 ((T.1).2.2.2.2)) 3 (upd (upd (a 3) K v) K (nI i))) ex) := hD
        have eW_5 : ∀ (zg18 : Int32) (za3 : Nat → Int32) (za12 : Nat → Int32) (za13 : Nat → Int32) (za14 : Nat → Int32) (za15 : Nat → Int32) (za16 : Nat → Int32) (zn : Nat → Int32), xG ct o q (ql, qs, md, qe, n) y (upd g 18 zg18) (va_up (va_up (va_up (va_up (va_up (va_up (va_up a 3 za3) 12 za12) 13 za13) 14 za14) 15 za15) 16 za16) 3 zn) ex = xG ct o q (ql, qs, md, qe, n) y (upd g 18 zg18) (va_up (va_up (va_up (va_up (va_up (va_up a 3 zn) 12 za12) 13 za13) 14 za14) 15 za15) 16 za16) ex := fun _ _ _ _ _ _ _ _ => rfl
        have hP : va_P (dC, dI) clA (xG ct o q (ql, qs, md, qe, n) y (upd g 18 T.2.2) (va_up (va_up (va_up (va_up (va_up (va_up a 3 (upd (upd (a 3) K v) K (nI i))) 12 ((T.1).1)) 13 ((T.1).2.1)) 14 ((T.1).2.2.1)) 15 ((T.1).2.2.2.1)) 16 ((T.1).2.2.2.2)) ex) H := Eq.mp (congrArg (fun w => va_P (dC, dI) clA w H) (eW_5 T.2.2 (upd (a 3) K v) ((T.1).1) ((T.1).2.1) ((T.1).2.2.1) ((T.1).2.2.2.1) ((T.1).2.2.2.2) (upd (upd (a 3) K v) K (nI i)))) hP
        have hD : va_D A (xG ct o q (ql, qs, md, qe, n) y (upd g 18 T.2.2) (va_up (va_up (va_up (va_up (va_up (va_up a 3 (upd (upd (a 3) K v) K (nI i))) 12 ((T.1).1)) 13 ((T.1).2.1)) 14 ((T.1).2.2.1)) 15 ((T.1).2.2.2.1)) 16 ((T.1).2.2.2.2)) ex) := Eq.mp (congrArg (fun w => va_D A w) (eW_5 T.2.2 (upd (a 3) K v) ((T.1).1) ((T.1).2.1) ((T.1).2.2.1) ((T.1).2.2.2.1) ((T.1).2.2.2.2) (upd (upd (a 3) K v) K (nI i)))) hD
        have e_6 : (upd (upd (a 3) K v) K (nI i)) = (upd (a 3) K (nI i)) := upd_uu _ _ _ _
        rw [e_6] at hP hD
        refine lv_aload_n hx hb dX0_scenesOf_29 rfl (lv_at hl 7 rfl) ?_
        refine lv_aload_n hx hb dX0_scenesOf_30 rfl (lv_at hl 5 rfl) ?_
        refine va_calli (va_runV (As := [.ref rq]) (rest := []) ⟨hx, hb, hml, hown, hts⟩ (metX0_areSo l dC dI ct A ex o q ql qs md qe n y (upd g 18 T.2.2) (va_up (va_up (va_up (va_up (va_up (va_up a 3 (upd (a 3) K (nI i))) 12 ((T.1).1)) 13 ((T.1).2.1)) 14 ((T.1).2.2.1)) 15 ((T.1).2.2.2.1)) 16 ((T.1).2.2.2.2))  rp rq N rf hrp hN hn6 hpr rn hr8 hrn hrw) (cwV 1 hts (lw_V q822 q824 qs35 q69 q825) rfl rfl rfl (by decide +kernel) ⟨Nat.le_of_ble_eq_true rfl, Nat.le_of_ble_eq_true rfl⟩) (gPV hK hP hD hE _) rfl rfl hl.1 rfl (lv_room (Nat.le_of_ble_eq_true rfl)) dX0_scenesOf_31 ⟨Nat.zero_le _, Nat.zero_le _⟩) hS (fun q _ h => h) (fun q h => h) (fun r u t H1 locs ht hvm hw hB hz1 hk1 hS => ?_)
        obtain ⟨hw, T_7, hw2⟩ := hw
        have hw : r = (b2i (soV (cgo n (upd (a 3) K (nI i)) (a 4) (laX (g 3) (g 4) (a 2) (a 5)) (fun t => cix (rf t)) N) (a 22) (a 23) (a 24) rn)) := hw
        subst hw
        subst hw2
        obtain ⟨hP, -, hD⟩ := hB
        rw [ht] at hP
        generalize H1 = H at hP hS ⊢
        have hP : va_P (dC, dI) clA (xG ct o q (ql, qs, md, qe, n) y (upd g 18 T_7.2.2) (va_up (va_up (va_up (va_up (va_up (va_up a 3 (upd (a 3) K (nI i))) 12 ((T_7.1).1)) 13 ((T_7.1).2.1)) 14 ((T_7.1).2.2.1)) 15 ((T_7.1).2.2.2.1)) 16 ((T_7.1).2.2.2.2)) ex) H := hP
        have hD : va_D A (xG ct o q (ql, qs, md, qe, n) y (upd g 18 T_7.2.2) (va_up (va_up (va_up (va_up (va_up (va_up a 3 (upd (a 3) K (nI i))) 12 ((T_7.1).1)) 13 ((T_7.1).2.1)) 14 ((T_7.1).2.2.1)) 15 ((T_7.1).2.2.2.1)) 16 ((T_7.1).2.2.2.2)) ex) := hD
        refine bz_ne (tgt := 40) hx hb dX0_scenesOf_34 (by decide) (fun c_8 => ?_) (fun c_8 => ?_)
        · skip
          have hso : (soV (cgo n (upd (a 3) K (nI i)) (a 4) (laX (g 3) (g 4) (a 2) (a 5)) (fun t => cix (rf t)) N) (a 22) (a 23) (a 24) rn) = true := c_8
          refine lv_iload hx hb dX0_scenesOf_40 (lv_at hl 2 rfl) ?_
          refine lv_if_ne (tgt := 50) hx hb dX0_scenesOf_42 (by decide) (fun c_9 => ?_) (fun c_9 => ?_)
          · skip
            skip
            refine lv_iload hx hb dX0_scenesOf_50 (lv_at hl 1 rfl) ?_
            refine lv_topi (fun z_10 ez_10 => ?_)
            have ez_10 : z_10 = (leastB (fun z => (soV (cgo n (upd (a 3) K (nI z)) (a 4) (laX (g 3) (g 4) (a 2) (a 5)) (fun t => cix (rf t)) N) (a 22) (a 23) (a 24) rn)) (i + 1)) := ez_10.trans (leastB_t1 (f := (fun z => (soV (cgo n (upd (a 3) K (nI z)) (a 4) (laX (g 3) (g 4) (a 2) (a 5)) (fun t => cix (rf t)) N) (a 22) (a 23) (a 24) rn))) hso (Decidable.not_not.mp (fun z => c_9 ((cl_iff _ i hi).mpr z))))
            subst ez_10
            refine lv_istore (lv' := [(6, .int (leastB (fun z => (soV (cgo n (upd (a 3) K (nI z)) (a 4) (laX (g 3) (g 4) (a 2) (a 5)) (fun t => cix (rf t)) N) (a 22) (a 23) (a 24) rn)) (i + 1))), (7, .int (nI i)), (5, .int (cntB (fun z => (soV (cgo n (upd (a 3) K (nI z)) (a 4) (laX (g 3) (g 4) (a 2) (a 5)) (fun t => cix (rf t)) N) (a 22) (a 23) (a 24) rn)) i)), (4, .int ((a 3) K)), (3, .int w), (2, .ref rq), (1, .ref (y K)), (0, .ref o)]) hx hb dX0_scenesOf_52 hl (by decide) rfl (fun ls hl => ?_)
            refine lv_iinc (v := (cntB (fun z => (soV (cgo n (upd (a 3) K (nI z)) (a 4) (laX (g 3) (g 4) (a 2) (a 5)) (fun t => cix (rf t)) N) (a 22) (a 23) (a 24) rn)) (i + 1))) (lv' := [(5, .int (cntB (fun z => (soV (cgo n (upd (a 3) K (nI z)) (a 4) (laX (g 3) (g 4) (a 2) (a 5)) (fun t => cix (rf t)) N) (a 22) (a 23) (a 24) rn)) (i + 1))), (6, .int (leastB (fun z => (soV (cgo n (upd (a 3) K (nI z)) (a 4) (laX (g 3) (g 4) (a 2) (a 5)) (fun t => cix (rf t)) N) (a 22) (a 23) (a 24) rn)) (i + 1))), (7, .int (nI i)), (4, .int ((a 3) K)), (3, .int w), (2, .ref rq), (1, .ref (y K)), (0, .ref o)]) hx hb dX0_scenesOf_54 hl (k := 2) rfl (cntB_t (f := (fun z => (soV (cgo n (upd (a 3) K (nI z)) (a 4) (laX (g 3) (g 4) (a 2) (a 5)) (fun t => cix (rf t)) N) (a 22) (a 23) (a 24) rn))) hso) (by decide) rfl (fun ls hl => ?_)
            refine lv_iinc (v := (nI (i + 1))) (lv' := [(7, .int (nI (i + 1))), (5, .int (cntB (fun z => (soV (cgo n (upd (a 3) K (nI z)) (a 4) (laX (g 3) (g 4) (a 2) (a 5)) (fun t => cix (rf t)) N) (a 22) (a 23) (a 24) rn)) (i + 1))), (6, .int (leastB (fun z => (soV (cgo n (upd (a 3) K (nI z)) (a 4) (laX (g 3) (g 4) (a 2) (a 5)) (fun t => cix (rf t)) N) (a 22) (a 23) (a 24) rn)) (i + 1))), (4, .int ((a 3) K)), (3, .int w), (2, .ref rq), (1, .ref (y K)), (0, .ref o)]) hx hb dX0_scenesOf_57 hl (k := 2) rfl (nI_1 i) (by decide) rfl (fun ls hl => ?_)
            refine lv_goto (tgt := 16) hx hb dX0_scenesOf_60 (by decide) ?_
            exact ih1 (i + 1) (nI i) T_7 (by omega) (by omega) _ _ hP hD hS _ (lv_sub hl [0, 2, 1, 3, 4, 5, 6, 7] rfl)
          · skip
            skip
            refine lv_iload hx hb dX0_scenesOf_45 (lv_at hl 0 rfl) ?_
            refine lv_goto (tgt := 52) hx hb dX0_scenesOf_47 (by decide) ?_
            refine lv_topi (fun z_11 ez_11 => ?_)
            have ez_11 : z_11 = (leastB (fun z => (soV (cgo n (upd (a 3) K (nI z)) (a 4) (laX (g 3) (g 4) (a 2) (a 5)) (fun t => cix (rf t)) N) (a 22) (a 23) (a 24) rn)) (i + 1)) := ez_11.trans (leastB_t0 (f := (fun z => (soV (cgo n (upd (a 3) K (nI z)) (a 4) (laX (g 3) (g 4) (a 2) (a 5)) (fun t => cix (rf t)) N) (a 22) (a 23) (a 24) rn))) hso ((cl_iff _ i hi).mp c_9))
            subst ez_11
            refine lv_istore (lv' := [(6, .int (leastB (fun z => (soV (cgo n (upd (a 3) K (nI z)) (a 4) (laX (g 3) (g 4) (a 2) (a 5)) (fun t => cix (rf t)) N) (a 22) (a 23) (a 24) rn)) (i + 1))), (7, .int (nI i)), (5, .int (cntB (fun z => (soV (cgo n (upd (a 3) K (nI z)) (a 4) (laX (g 3) (g 4) (a 2) (a 5)) (fun t => cix (rf t)) N) (a 22) (a 23) (a 24) rn)) i)), (4, .int ((a 3) K)), (3, .int w), (2, .ref rq), (1, .ref (y K)), (0, .ref o)]) hx hb dX0_scenesOf_52 hl (by decide) rfl (fun ls hl => ?_)
            refine lv_iinc (v := (cntB (fun z => (soV (cgo n (upd (a 3) K (nI z)) (a 4) (laX (g 3) (g 4) (a 2) (a 5)) (fun t => cix (rf t)) N) (a 22) (a 23) (a 24) rn)) (i + 1))) (lv' := [(5, .int (cntB (fun z => (soV (cgo n (upd (a 3) K (nI z)) (a 4) (laX (g 3) (g 4) (a 2) (a 5)) (fun t => cix (rf t)) N) (a 22) (a 23) (a 24) rn)) (i + 1))), (6, .int (leastB (fun z => (soV (cgo n (upd (a 3) K (nI z)) (a 4) (laX (g 3) (g 4) (a 2) (a 5)) (fun t => cix (rf t)) N) (a 22) (a 23) (a 24) rn)) (i + 1))), (7, .int (nI i)), (4, .int ((a 3) K)), (3, .int w), (2, .ref rq), (1, .ref (y K)), (0, .ref o)]) hx hb dX0_scenesOf_54 hl (k := 2) rfl (cntB_t (f := (fun z => (soV (cgo n (upd (a 3) K (nI z)) (a 4) (laX (g 3) (g 4) (a 2) (a 5)) (fun t => cix (rf t)) N) (a 22) (a 23) (a 24) rn))) hso) (by decide) rfl (fun ls hl => ?_)
            refine lv_iinc (v := (nI (i + 1))) (lv' := [(7, .int (nI (i + 1))), (5, .int (cntB (fun z => (soV (cgo n (upd (a 3) K (nI z)) (a 4) (laX (g 3) (g 4) (a 2) (a 5)) (fun t => cix (rf t)) N) (a 22) (a 23) (a 24) rn)) (i + 1))), (6, .int (leastB (fun z => (soV (cgo n (upd (a 3) K (nI z)) (a 4) (laX (g 3) (g 4) (a 2) (a 5)) (fun t => cix (rf t)) N) (a 22) (a 23) (a 24) rn)) (i + 1))), (4, .int ((a 3) K)), (3, .int w), (2, .ref rq), (1, .ref (y K)), (0, .ref o)]) hx hb dX0_scenesOf_57 hl (k := 2) rfl (nI_1 i) (by decide) rfl (fun ls hl => ?_)
            refine lv_goto (tgt := 16) hx hb dX0_scenesOf_60 (by decide) ?_
            exact ih1 (i + 1) (nI i) T_7 (by omega) (by omega) _ _ hP hD hS _ (lv_sub hl [0, 2, 1, 3, 4, 5, 6, 7] rfl)
        · skip
          have hso : (soV (cgo n (upd (a 3) K (nI i)) (a 4) (laX (g 3) (g 4) (a 2) (a 5)) (fun t => cix (rf t)) N) (a 22) (a 23) (a 24) rn) = false := c_8
          refine lv_goto (tgt := 57) hx hb dX0_scenesOf_37 (by decide) ?_
          rw [cntB_f (f := (fun z => (soV (cgo n (upd (a 3) K (nI z)) (a 4) (laX (g 3) (g 4) (a 2) (a 5)) (fun t => cix (rf t)) N) (a 22) (a 23) (a 24) rn))) hso, leastB_f (f := (fun z => (soV (cgo n (upd (a 3) K (nI z)) (a 4) (laX (g 3) (g 4) (a 2) (a 5)) (fun t => cix (rf t)) N) (a 22) (a 23) (a 24) rn))) hso] at hl
          refine lv_iinc (v := (nI (i + 1))) (lv' := [(7, .int (nI (i + 1))), (6, .int (leastB (fun z => (soV (cgo n (upd (a 3) K (nI z)) (a 4) (laX (g 3) (g 4) (a 2) (a 5)) (fun t => cix (rf t)) N) (a 22) (a 23) (a 24) rn)) (i + 1))), (5, .int (cntB (fun z => (soV (cgo n (upd (a 3) K (nI z)) (a 4) (laX (g 3) (g 4) (a 2) (a 5)) (fun t => cix (rf t)) N) (a 22) (a 23) (a 24) rn)) (i + 1))), (4, .int ((a 3) K)), (3, .int w), (2, .ref rq), (1, .ref (y K)), (0, .ref o)]) hx hb dX0_scenesOf_57 hl (k := 0) rfl (nI_1 i) (by decide) rfl (fun ls hl => ?_)
          refine lv_goto (tgt := 16) hx hb dX0_scenesOf_60 (by decide) ?_
          exact ih1 (i + 1) (nI i) T_7 (by omega) (by omega) _ _ hP hD hS _ (lv_sub hl [0, 1, 2, 3, 4, 5, 6, 7] rfl)
  exact loop1 65 0 (a 3 K) ((a 12, a 13, a 14, a 15, a 16), 0, g 18) (by omega) (by omega) _ _ (by rw [upd_id (a 3) K]; exact hP) (by rw [upd_id (a 3) K]; exact hD) hS _ (lv_sub hl [0, 1, 2, 3, 7, 6, 5, 4] rfl)
set_option maxHeartbeats 4000000 in
set_option maxRecDepth 100000 in
theorem metX0_kindsOf (l : Launch) (dC : Nat → ClassId) (dI : Nat → Nat → Nat) (ct : Nat → ClassId) (A : Nat → Prop) (ex : va_W) (o : Nat) (q : Nat → Nat) (ql qs : Nat) (md : Int32) (qe n : Nat) (y : Nat → Nat) (g : Nat → Int32) (a : Nat → Nat → Int32)  (K : Nat) (hKn : K < n) (rp rq N : Nat) (rf : Nat → Int32) (hrp : ex[rp]? = some (rq, .inl (ct 0, 2 * N, .inl rf))) (hN : N ≤ 30) (hn6 : n ≤ 6) (hpr : ∀ t, t < 2 * N → rf t = nI (cix (rf t)) ∧ cix (rf t) < n) (rn : Nat) (hr8 : rn ≤ 8) (hrn : g 21 = nI rn) (hrw : ∀ k, k < rn → a 22 k = nI (cix (a 22 k)) ∧ cix (a 22 k) < n) : Met l yX0_kindsOf (ws_ yX0_kindsOf cX0_kindsOf 4 (some .int)) ({ frames := 8, cells := 0, slots := 0, locals := 169 }) (gPre dC dI ct A ex o q (ql, qs, md, qe, n) y g a [.ref o, .ref (y K), .ref rq]) (va_Qi (fun (r : Int32) (u : (Nat → Int32) × (Nat → Nat → Int32)) => r = (mset (fun z => (soV (cgo n (a 3) (a 4) (laX (nI K) (nI z) (a 2) (a 5)) (fun t => cix (rf t)) N) (a 22) (a 23) (a 24) rn)) 3) ∧ ∃ (T : LnS (Nat → Int32) × Int32 × Int32), u = ((upd (upd (upd g 3 (-9)) 4 3) 18 T.2.2), (va_up (va_up (va_up (va_up (va_up a 12 ((T.1).1)) 13 ((T.1).2.1)) 14 ((T.1).2.2.1)) 15 ((T.1).2.2.2.1)) 16 ((T.1).2.2.2.2)))) (gB dC dI ct A ex o q (ql, qs, md, qe, n) y) A) 0 0 A := by
  refine Met.ofW (cc := cX0_kindsOf) (maxL := 4) (ret := (some .int)) (by decide) rfl ?_
  intro p e s m args below meth c s₁ B hml hv
  obtain ⟨rfl, hP, hK, hD, hE⟩ := hv
  have hx := B.exec
  have hb := B.bytes
  have hr := B.returns
  have hts := atoms_spec (ws := ws_ yX0_kindsOf cX0_kindsOf 4 (some .int)) B.pre
  have hts : ∀ w ∈ lw_all, w.before _ s = true := fun w h => hts w (List.mem_cons_of_mem _ h)
  have hown : s.vm.findClass RX0 = some m.cls := findClass_of_methodNamed B.named
  have hlocks := B.notSynchronized
  have hS : va_S A s.heap s.heap [] := va_S.rf
  have hl := lv_entry ([.ref o, .ref (y K), .ref rq]) (n := 4) (Nat.le_of_ble_eq_true rfl)
  rw [lg_entry_eq]
  generalize (lg_sl ([.ref o, .ref (y K), .ref rq]) ++ List.replicate (4 - (lg_sl ([.ref o, .ref (y K), .ref rq])).length) Slot.unset).toArray = ls at hl ⊢
  have hl : lv_has ls 4 [(0, .ref o), (1, .ref (y K)), (2, .ref rq)] := hl
  refine lv_aload_n hx hb dX0_kindsOf_0 rfl (lv_at hl 0 rfl) ?_
  refine lv_aload_n hx hb dX0_kindsOf_1 rfl (lv_at hl 1 rfl) ?_
  refine c_getN (v := .int (nI K)) hx hb hts hown hK hP hKn 0 (by decide) rfl (xE_q458 hE) dX0_kindsOf_2 ?_
  refine g_put (v := (nI K)) hx hb hts hown hK hP hD hS 3 3 (by decide) rfl q147 rfl rfl (by decide +kernel) dX0_kindsOf_5 (fun H locs hP hD hS => ?_)
  refine lv_iconst (v := 0) hx hb dX0_kindsOf_8 (by decide) ?_
  refine lv_istore_n (lv' := [(3, .int 0), (0, .ref o), (1, .ref (y K)), (2, .ref rq)]) hx hb dX0_kindsOf_9 rfl hl (by decide) rfl (fun ls hl => ?_)
  refine lv_aload_n hx hb dX0_kindsOf_10 rfl (lv_at hl 1 rfl) ?_
  refine lv_iconst (v := 0) hx hb dX0_kindsOf_11 (by decide) ?_
  refine g_put (v := 0) hx hb hts hown hK hP hD hS 4 4 (by decide) rfl q150 rfl rfl (by decide +kernel) dX0_kindsOf_12 (fun H locs hP hD hS => ?_)
  have loop1 : ∀ (f1 : Nat) (i : Nat) (T : LnS (Nat → Int32) × Int32 × Int32), (i ≤ 3) → (3 + 1 ≤ i + f1) → ∀ (H : Heap) (locs : List Loc), va_P (dC, dI) clA (xG ct o q (ql, qs, md, qe, n) y (upd (upd (upd g 3 (nI K)) 4 (nI i)) 18 T.2.2) (va_up (va_up (va_up (va_up (va_up a 12 ((T.1).1)) 13 ((T.1).2.1)) 14 ((T.1).2.2.1)) 15 ((T.1).2.2.2.1)) 16 ((T.1).2.2.2.2)) ex) H → va_D A (xG ct o q (ql, qs, md, qe, n) y (upd (upd (upd g 3 (nI K)) 4 (nI i)) 18 T.2.2) (va_up (va_up (va_up (va_up (va_up a 12 ((T.1).1)) 13 ((T.1).2.1)) 14 ((T.1).2.2.1)) 15 ((T.1).2.2.2.1)) 16 ((T.1).2.2.2.2)) ex) → va_S A s.heap H locs → ∀ (ls : Array Slot), lv_has ls 4 [(3, .int (mset (fun z => (soV (cgo n (a 3) (a 4) (laX (nI K) (nI z) (a 2) (a 5)) (fun t => cix (rf t)) N) (a 22) (a 23) (a 24) rn)) i)), (2, .ref rq), (1, .ref (y K)), (0, .ref o)] → W p l e (headSpec (ws_ yX0_kindsOf cX0_kindsOf 4 (some .int)) ({ frames := 8, cells := 0, slots := 0, locals := 169 })).room s m ([.ref o, .ref (y K), .ref rq] : List Value).toArray below meth c H locs 0 0 (MQ below (va_Qi (fun (r : Int32) (u : (Nat → Int32) × (Nat → Nat → Int32)) => r = (mset (fun z => (soV (cgo n (a 3) (a 4) (laX (nI K) (nI z) (a 2) (a 5)) (fun t => cix (rf t)) N) (a 22) (a 23) (a 24) rn)) 3) ∧ ∃ (T : LnS (Nat → Int32) × Int32 × Int32), u = ((upd (upd (upd g 3 (-9)) 4 3) 18 T.2.2), (va_up (va_up (va_up (va_up (va_up a 12 ((T.1).1)) 13 ((T.1).2.1)) 14 ((T.1).2.2.1)) 15 ((T.1).2.2.2.1)) 16 ((T.1).2.2.2.2)))) (gB dC dI ct A ex o q (ql, qs, md, qe, n) y) A) ([.ref o, .ref (y K), .ref rq] : List Value).toArray s 0 0 A) (F0 m 15 ls []) := by
    intro f1
    induction f1 with
    | zero => intro i T hi hf; exact False.elim (by omega)
    | succ f1 ih1 =>
      intro i T hi hf H locs hP hD hS ls hl
      refine lv_aload_n hx hb dX0_kindsOf_15 rfl (lv_at hl 3 rfl) ?_
      refine g_get (v := .int (nI i)) hx hb hts hown hK hP 4 (by decide) rfl q150 rfl dX0_kindsOf_16 ?_
      refine lv_iconst (v := 3) hx hb dX0_kindsOf_19 (by decide) ?_
      refine lv_icmp_ge (tgt := 57) hx hb dX0_kindsOf_20 (by decide) (fun c_1 => ?_) (fun c_1 => ?_)
      · skip
        have hge : i = 3 := Nat.le_antisymm (by omega) ((nI_leI (a := 3) (by omega) (by omega)).mp c_1)
        subst hge
        refine lv_aload_n hx hb dX0_kindsOf_57 rfl (lv_at hl 3 rfl) ?_
        refine lv_bipush (v := (-9)) hx hb dX0_kindsOf_58 (by decide) ?_
        refine g_put (v := (-9)) hx hb hts hown hK hP hD hS 3 3 (by decide) rfl q147 rfl rfl (by decide +kernel) dX0_kindsOf_60 (fun H locs hP hD hS => ?_)
        have eW_2 : ∀ (zg3 : Int32) (zg4 : Int32) (zg18 : Int32) (za12 : Nat → Int32) (za13 : Nat → Int32) (za14 : Nat → Int32) (za15 : Nat → Int32) (za16 : Nat → Int32) (zn : Int32), xG ct o q (ql, qs, md, qe, n) y (upd (upd (upd (upd g 3 zg3) 4 zg4) 18 zg18) 3 zn) (va_up (va_up (va_up (va_up (va_up a 12 za12) 13 za13) 14 za14) 15 za15) 16 za16) ex = xG ct o q (ql, qs, md, qe, n) y (upd (upd (upd g 3 zn) 4 zg4) 18 zg18) (va_up (va_up (va_up (va_up (va_up a 12 za12) 13 za13) 14 za14) 15 za15) 16 za16) ex := fun _ _ _ _ _ _ _ _ _ => rfl
        have hP : va_P (dC, dI) clA (xG ct o q (ql, qs, md, qe, n) y (upd (upd (upd g 3 (-9)) 4 (nI 3)) 18 T.2.2) (va_up (va_up (va_up (va_up (va_up a 12 ((T.1).1)) 13 ((T.1).2.1)) 14 ((T.1).2.2.1)) 15 ((T.1).2.2.2.1)) 16 ((T.1).2.2.2.2)) ex) H := Eq.mp (congrArg (fun w => va_P (dC, dI) clA w H) (eW_2 (nI K) (nI 3) T.2.2 ((T.1).1) ((T.1).2.1) ((T.1).2.2.1) ((T.1).2.2.2.1) ((T.1).2.2.2.2) (-9))) hP
        have hD : va_D A (xG ct o q (ql, qs, md, qe, n) y (upd (upd (upd g 3 (-9)) 4 (nI 3)) 18 T.2.2) (va_up (va_up (va_up (va_up (va_up a 12 ((T.1).1)) 13 ((T.1).2.1)) 14 ((T.1).2.2.1)) 15 ((T.1).2.2.2.1)) 16 ((T.1).2.2.2.2)) ex) := Eq.mp (congrArg (fun w => va_D A w) (eW_2 (nI K) (nI 3) T.2.2 ((T.1).1) ((T.1).2.1) ((T.1).2.2.1) ((T.1).2.2.2.1) ((T.1).2.2.2.2) (-9))) hD
        refine lv_iload_n hx hb dX0_kindsOf_63 rfl (lv_at hl 0 rfl) ?_
        exact W.iret (v := (mset (fun z => (soV (cgo n (a 3) (a 4) (laX (nI K) (nI z) (a 2) (a 5)) (fun t => cix (rf t)) N) (a 22) (a 23) (a 24) rn)) 3)) hx hb hr (fun t ht hW => ⟨⟨(mset (fun z => (soV (cgo n (a 3) (a 4) (laX (nI K) (nI z) (a 2) (a 5)) (fun t => cix (rf t)) N) (a 22) (a 23) (a 24) rn)) 3), ((upd (upd (upd g 3 (-9)) 4 (nI 3)) 18 T.2.2), (va_up (va_up (va_up (va_up (va_up a 12 ((T.1).1)) 13 ((T.1).2.1)) 14 ((T.1).2.2.1)) 15 ((T.1).2.2.2.1)) 16 ((T.1).2.2.2.2))), rfl, ⟨rfl, ⟨T, rfl⟩⟩, by rw [ht]; exact hP, va_K.moved hW.alike hK, hD⟩, hS.F ht⟩) hS.2.2 dX0_kindsOf_64
      · skip
        have hlt : i < 3 := Nat.lt_of_not_le (fun z => c_1 (nI_le (a := 3) z (by omega)))
        refine lv_iload_n hx hb dX0_kindsOf_23 rfl (lv_at hl 0 rfl) ?_
        refine lv_aload_n hx hb dX0_kindsOf_24 rfl (lv_at hl 3 rfl) ?_
        refine lv_aload_n hx hb dX0_kindsOf_25 rfl (lv_at hl 1 rfl) ?_
        refine va_calli (va_runV (As := [.ref rq]) (rest := [.int (mset (fun z => (soV (cgo n (a 3) (a 4) (laX (nI K) (nI z) (a 2) (a 5)) (fun t => cix (rf t)) N) (a 22) (a 23) (a 24) rn)) i)]) ⟨hx, hb, hml, hown, hts⟩ (metX0_areSo l dC dI ct A ex o q ql qs md qe n y (upd (upd (upd g 3 (nI K)) 4 (nI i)) 18 T.2.2) (va_up (va_up (va_up (va_up (va_up a 12 ((T.1).1)) 13 ((T.1).2.1)) 14 ((T.1).2.2.1)) 15 ((T.1).2.2.2.1)) 16 ((T.1).2.2.2.2))  rp rq N rf hrp hN hn6 hpr rn hr8 hrn hrw) (cwV 1 hts (lw_V q822 q824 qs35 q69 q825) rfl rfl rfl (by decide +kernel) ⟨Nat.le_of_ble_eq_true rfl, Nat.le_of_ble_eq_true rfl⟩) (gPV hK hP hD hE _) rfl rfl hl.1 rfl (lv_room (Nat.le_of_ble_eq_true rfl)) dX0_kindsOf_26 ⟨Nat.zero_le _, Nat.zero_le _⟩) hS (fun q _ h => h) (fun q h => h) (fun r u t H1 locs ht hvm hw hB hz1 hk1 hS => ?_)
        obtain ⟨hw, T_3, hw2⟩ := hw
        have hw : r = (b2i (soV (cgo n (a 3) (a 4) (laX (nI K) (nI i) (a 2) (a 5)) (fun t => cix (rf t)) N) (a 22) (a 23) (a 24) rn)) := hw
        subst hw
        subst hw2
        obtain ⟨hP, -, hD⟩ := hB
        rw [ht] at hP
        generalize H1 = H at hP hS ⊢
        have hP : va_P (dC, dI) clA (xG ct o q (ql, qs, md, qe, n) y (upd (upd (upd g 3 (nI K)) 4 (nI i)) 18 T_3.2.2) (va_up (va_up (va_up (va_up (va_up a 12 ((T_3.1).1)) 13 ((T_3.1).2.1)) 14 ((T_3.1).2.2.1)) 15 ((T_3.1).2.2.2.1)) 16 ((T_3.1).2.2.2.2)) ex) H := hP
        have hD : va_D A (xG ct o q (ql, qs, md, qe, n) y (upd (upd (upd g 3 (nI K)) 4 (nI i)) 18 T_3.2.2) (va_up (va_up (va_up (va_up (va_up a 12 ((T_3.1).1)) 13 ((T_3.1).2.1)) 14 ((T_3.1).2.2.1)) 15 ((T_3.1).2.2.2.1)) 16 ((T_3.1).2.2.2.2)) ex) := hD
        refine bz_eq (tgt := 41) hx hb dX0_kindsOf_29 (by decide) (fun c_4 => ?_) (fun c_4 => ?_)
        · skip
          have hso : (fun z => (soV (cgo n (a 3) (a 4) (laX (nI K) (nI z) (a 2) (a 5)) (fun t => cix (rf t)) N) (a 22) (a 23) (a 24) rn)) i = false := c_4
          refine lv_iconst (v := 0) hx hb dX0_kindsOf_41 (by decide) ?_
          refine lv_ior hx hb dX0_kindsOf_42 ?_
          refine lv_topi (fun z_5 ez_5 => ?_)
          have ez_5 : z_5 = (mset (fun z => (soV (cgo n (a 3) (a 4) (laX (nI K) (nI z) (a 2) (a 5)) (fun t => cix (rf t)) N) (a 22) (a 23) (a 24) rn)) (i + 1)) := ez_5.trans (mset_f (f := (fun z => (soV (cgo n (a 3) (a 4) (laX (nI K) (nI z) (a 2) (a 5)) (fun t => cix (rf t)) N) (a 22) (a 23) (a 24) rn))) hso)
          subst ez_5
          refine lv_istore_n (lv' := [(3, .int (mset (fun z => (soV (cgo n (a 3) (a 4) (laX (nI K) (nI z) (a 2) (a 5)) (fun t => cix (rf t)) N) (a 22) (a 23) (a 24) rn)) (i + 1))), (2, .ref rq), (1, .ref (y K)), (0, .ref o)]) hx hb dX0_kindsOf_43 rfl hl (by decide) rfl (fun ls hl => ?_)
          refine lv_aload_n hx hb dX0_kindsOf_44 rfl (lv_at hl 3 rfl) ?_
          refine lv_dup hx hb dX0_kindsOf_45 rfl ?_
          refine g_get (v := .int (nI i)) hx hb hts hown hK hP 4 (by decide) rfl q150 rfl dX0_kindsOf_46 ?_
          refine lv_iconst (v := 1) hx hb dX0_kindsOf_49 (by decide) ?_
          refine lv_iadd hx hb dX0_kindsOf_50 ?_
          refine lv_topi (fun z_6 ez_6 => ?_)
          have ez_6 : z_6 = (nI (i + 1)) := ez_6.trans (nI_1 i)
          subst ez_6
          refine g_put (v := (nI (i + 1))) hx hb hts hown hK hP hD hS 4 4 (by decide) rfl q150 rfl rfl (by decide +kernel) dX0_kindsOf_51 (fun H locs hP hD hS => ?_)
          have eW_7 : ∀ (zg3 : Int32) (zg4 : Int32) (zg18 : Int32) (za12 : Nat → Int32) (za13 : Nat → Int32) (za14 : Nat → Int32) (za15 : Nat → Int32) (za16 : Nat → Int32) (zn : Int32), xG ct o q (ql, qs, md, qe, n) y (upd (upd (upd (upd g 3 zg3) 4 zg4) 18 zg18) 4 zn) (va_up (va_up (va_up (va_up (va_up a 12 za12) 13 za13) 14 za14) 15 za15) 16 za16) ex = xG ct o q (ql, qs, md, qe, n) y (upd (upd (upd g 3 zg3) 4 zn) 18 zg18) (va_up (va_up (va_up (va_up (va_up a 12 za12) 13 za13) 14 za14) 15 za15) 16 za16) ex := fun _ _ _ _ _ _ _ _ _ => rfl
          have hP : va_P (dC, dI) clA (xG ct o q (ql, qs, md, qe, n) y (upd (upd (upd g 3 (nI K)) 4 (nI (i + 1))) 18 T_3.2.2) (va_up (va_up (va_up (va_up (va_up a 12 ((T_3.1).1)) 13 ((T_3.1).2.1)) 14 ((T_3.1).2.2.1)) 15 ((T_3.1).2.2.2.1)) 16 ((T_3.1).2.2.2.2)) ex) H := Eq.mp (congrArg (fun w => va_P (dC, dI) clA w H) (eW_7 (nI K) (nI i) T_3.2.2 ((T_3.1).1) ((T_3.1).2.1) ((T_3.1).2.2.1) ((T_3.1).2.2.2.1) ((T_3.1).2.2.2.2) (nI (i + 1)))) hP
          have hD : va_D A (xG ct o q (ql, qs, md, qe, n) y (upd (upd (upd g 3 (nI K)) 4 (nI (i + 1))) 18 T_3.2.2) (va_up (va_up (va_up (va_up (va_up a 12 ((T_3.1).1)) 13 ((T_3.1).2.1)) 14 ((T_3.1).2.2.1)) 15 ((T_3.1).2.2.2.1)) 16 ((T_3.1).2.2.2.2)) ex) := Eq.mp (congrArg (fun w => va_D A w) (eW_7 (nI K) (nI i) T_3.2.2 ((T_3.1).1) ((T_3.1).2.1) ((T_3.1).2.2.1) ((T_3.1).2.2.2.1) ((T_3.1).2.2.2.2) (nI (i + 1)))) hD
          refine lv_goto (tgt := 15) hx hb dX0_kindsOf_54 (by decide) ?_
          exact ih1 (i + 1) T_3 (by omega) (by omega) _ _ hP hD hS _ (lv_sub hl [0, 1, 2, 3] rfl)
        · skip
          have hso : (fun z => (soV (cgo n (a 3) (a 4) (laX (nI K) (nI z) (a 2) (a 5)) (fun t => cix (rf t)) N) (a 22) (a 23) (a 24) rn)) i = true := c_4
          refine lv_iconst (v := 1) hx hb dX0_kindsOf_32 (by decide) ?_
          refine lv_aload_n hx hb dX0_kindsOf_33 rfl (lv_at hl 3 rfl) ?_
          refine g_get (v := .int (nI i)) hx hb hts hown hK hP 4 (by decide) rfl q150 rfl dX0_kindsOf_34 ?_
          refine lv_ishl hx hb dX0_kindsOf_37 ?_
          refine lv_goto (tgt := 42) hx hb dX0_kindsOf_38 (by decide) ?_
          refine lv_ior hx hb dX0_kindsOf_42 ?_
          refine lv_topi (fun z_8 ez_8 => ?_)
          have ez_8 : z_8 = (mset (fun z => (soV (cgo n (a 3) (a 4) (laX (nI K) (nI z) (a 2) (a 5)) (fun t => cix (rf t)) N) (a 22) (a 23) (a 24) rn)) (i + 1)) := ez_8.trans (mset_t (f := (fun z => (soV (cgo n (a 3) (a 4) (laX (nI K) (nI z) (a 2) (a 5)) (fun t => cix (rf t)) N) (a 22) (a 23) (a 24) rn))) hso)
          subst ez_8
          refine lv_istore_n (lv' := [(3, .int (mset (fun z => (soV (cgo n (a 3) (a 4) (laX (nI K) (nI z) (a 2) (a 5)) (fun t => cix (rf t)) N) (a 22) (a 23) (a 24) rn)) (i + 1))), (2, .ref rq), (1, .ref (y K)), (0, .ref o)]) hx hb dX0_kindsOf_43 rfl hl (by decide) rfl (fun ls hl => ?_)
          refine lv_aload_n hx hb dX0_kindsOf_44 rfl (lv_at hl 3 rfl) ?_
          refine lv_dup hx hb dX0_kindsOf_45 rfl ?_
          refine g_get (v := .int (nI i)) hx hb hts hown hK hP 4 (by decide) rfl q150 rfl dX0_kindsOf_46 ?_
          refine lv_iconst (v := 1) hx hb dX0_kindsOf_49 (by decide) ?_
          refine lv_iadd hx hb dX0_kindsOf_50 ?_
          refine lv_topi (fun z_9 ez_9 => ?_)
          have ez_9 : z_9 = (nI (i + 1)) := ez_9.trans (nI_1 i)
          subst ez_9
          refine g_put (v := (nI (i + 1))) hx hb hts hown hK hP hD hS 4 4 (by decide) rfl q150 rfl rfl (by decide +kernel) dX0_kindsOf_51 (fun H locs hP hD hS => ?_)
          have eW_10 : ∀ (zg3 : Int32) (zg4 : Int32) (zg18 : Int32) (za12 : Nat → Int32) (za13 : Nat → Int32) (za14 : Nat → Int32) (za15 : Nat → Int32) (za16 : Nat → Int32) (zn : Int32), xG ct o q (ql, qs, md, qe, n) y (upd (upd (upd (upd g 3 zg3) 4 zg4) 18 zg18) 4 zn) (va_up (va_up (va_up (va_up (va_up a 12 za12) 13 za13) 14 za14) 15 za15) 16 za16) ex = xG ct o q (ql, qs, md, qe, n) y (upd (upd (upd g 3 zg3) 4 zn) 18 zg18) (va_up (va_up (va_up (va_up (va_up a 12 za12) 13 za13) 14 za14) 15 za15) 16 za16) ex := fun _ _ _ _ _ _ _ _ _ => rfl
          have hP : va_P (dC, dI) clA (xG ct o q (ql, qs, md, qe, n) y (upd (upd (upd g 3 (nI K)) 4 (nI (i + 1))) 18 T_3.2.2) (va_up (va_up (va_up (va_up (va_up a 12 ((T_3.1).1)) 13 ((T_3.1).2.1)) 14 ((T_3.1).2.2.1)) 15 ((T_3.1).2.2.2.1)) 16 ((T_3.1).2.2.2.2)) ex) H := Eq.mp (congrArg (fun w => va_P (dC, dI) clA w H) (eW_10 (nI K) (nI i) T_3.2.2 ((T_3.1).1) ((T_3.1).2.1) ((T_3.1).2.2.1) ((T_3.1).2.2.2.1) ((T_3.1).2.2.2.2) (nI (i + 1)))) hP
          have hD : va_D A (xG ct o q (ql, qs, md, qe, n) y (upd (upd (upd g 3 (nI K)) 4 (nI (i + 1))) 18 T_3.2.2) (va_up (va_up (va_up (va_up (va_up a 12 ((T_3.1).1)) 13 ((T_3.1).2.1)) 14 ((T_3.1).2.2.1)) 15 ((T_3.1).2.2.2.1)) 16 ((T_3.1).2.2.2.2)) ex) := Eq.mp (congrArg (fun w => va_D A w) (eW_10 (nI K) (nI i) T_3.2.2 ((T_3.1).1) ((T_3.1).2.1) ((T_3.1).2.2.1) ((T_3.1).2.2.2.1) ((T_3.1).2.2.2.2) (nI (i + 1)))) hD
          refine lv_goto (tgt := 15) hx hb dX0_kindsOf_54 (by decide) ?_
          exact ih1 (i + 1) T_3 (by omega) (by omega) _ _ hP hD hS _ (lv_sub hl [0, 1, 2, 3] rfl)
  exact loop1 4 0 ((a 12, a 13, a 14, a 15, a 16), 0, g 18) (by omega) (by omega) _ _ hP hD hS _ (lv_sub hl [0, 3, 2, 1] rfl)
set_option maxHeartbeats 4000000 in
set_option maxRecDepth 100000 in
theorem metX0_wearsOf (l : Launch) (dC : Nat → ClassId) (dI : Nat → Nat → Nat) (ct : Nat → ClassId) (A : Nat → Prop) (ex : va_W) (o : Nat) (q : Nat → Nat) (ql qs : Nat) (md : Int32) (qe n : Nat) (y : Nat → Nat) (g : Nat → Int32) (a : Nat → Nat → Int32)  (K : Nat) (hKn : K < n) (rp rq N : Nat) (rf : Nat → Int32) (hrp : ex[rp]? = some (rq, .inl (ct 0, 2 * N, .inl rf))) (hN : N ≤ 30) (hn6 : n ≤ 6) (hpr : ∀ t, t < 2 * N → rf t = nI (cix (rf t)) ∧ cix (rf t) < n) (rn : Nat) (hr8 : rn ≤ 8) (hrn : g 21 = nI rn) (hrw : ∀ k, k < rn → a 22 k = nI (cix (a 22 k)) ∧ cix (a 22 k) < n) : Met l yX0_wearsOf (ws_ yX0_wearsOf cX0_wearsOf 5 (some .int)) ({ frames := 8, cells := 0, slots := 0, locals := 169 }) (gPre dC dI ct A ex o q (ql, qs, md, qe, n) y g a [.ref o, .ref (y K), .ref rq]) (va_Qi (fun (r : Int32) (u : (Nat → Int32) × (Nat → Nat → Int32)) => r = (mset (fun z => decide (1 ≤ z) && (soV (cgo n (a 3) (a 4) (laX (g 3) (g 4) (a 2) (upd (a 5) K (nI z))) (fun t => cix (rf t)) N) (a 22) (a 23) (a 24) rn)) 10) ∧ ∃ (T : LnS (Nat → Int32) × Int32 × Int32), u = ((upd g 18 T.2.2), (va_up (va_up (va_up (va_up (va_up a 12 ((T.1).1)) 13 ((T.1).2.1)) 14 ((T.1).2.2.1)) 15 ((T.1).2.2.2.1)) 16 ((T.1).2.2.2.2)))) (gB dC dI ct A ex o q (ql, qs, md, qe, n) y) A) 0 0 A := by
  refine Met.ofW (cc := cX0_wearsOf) (maxL := 5) (ret := (some .int)) (by decide) rfl ?_
  intro p e s m args below meth c s₁ B hml hv
  obtain ⟨rfl, hP, hK, hD, hE⟩ := hv
  have hx := B.exec
  have hb := B.bytes
  have hr := B.returns
  have hts := atoms_spec (ws := ws_ yX0_wearsOf cX0_wearsOf 5 (some .int)) B.pre
  have hts : ∀ w ∈ lw_all, w.before _ s = true := fun w h => hts w (List.mem_cons_of_mem _ h)
  have hown : s.vm.findClass RX0 = some m.cls := findClass_of_methodNamed B.named
  have hlocks := B.notSynchronized
  have hS : va_S A s.heap s.heap [] := va_S.rf
  have hl := lv_entry ([.ref o, .ref (y K), .ref rq]) (n := 5) (Nat.le_of_ble_eq_true rfl)
  rw [lg_entry_eq]
  generalize (lg_sl ([.ref o, .ref (y K), .ref rq]) ++ List.replicate (5 - (lg_sl ([.ref o, .ref (y K), .ref rq])).length) Slot.unset).toArray = ls at hl ⊢
  have hl : lv_has ls 5 [(0, .ref o), (1, .ref (y K)), (2, .ref rq)] := hl
  refine lv_aload_n hx hb dX0_wearsOf_0 rfl (lv_at hl 1 rfl) ?_
  refine c_getN (v := .int ((a 5) K)) hx hb hts hown hK hP hKn 3 (by decide) rfl (xE_q464 hE) dX0_wearsOf_1 ?_
  refine lv_istore_n (lv' := [(3, .int ((a 5) K)), (0, .ref o), (1, .ref (y K)), (2, .ref rq)]) hx hb dX0_wearsOf_4 rfl hl (by decide) rfl (fun ls hl => ?_)
  refine lv_iconst (v := 0) hx hb dX0_wearsOf_5 (by decide) ?_
  refine lv_istore (lv' := [(4, .int 0), (3, .int ((a 5) K)), (0, .ref o), (1, .ref (y K)), (2, .ref rq)]) hx hb dX0_wearsOf_6 hl (by decide) rfl (fun ls hl => ?_)
  refine lv_aload_n hx hb dX0_wearsOf_8 rfl (lv_at hl 3 rfl) ?_
  refine lv_iconst (v := 1) hx hb dX0_wearsOf_9 (by decide) ?_
  refine c_putN (v := 1) hx hb hts hown hK hP hD hS hKn 3 5 (by unfold chK; decide) (xE_q464 hE) dX0_wearsOf_10 (fun H locs hP hD hS => ?_)
  have hP : va_P (dC, dI) clA (xG ct o q (ql, qs, md, qe, n) y g (va_up a 5 (upd (a 5) K 1)) ex) H := hP
  have hD : va_D A (xG ct o q (ql, qs, md, qe, n) y g (va_up a 5 (upd (a 5) K 1)) ex) := hD
  have loop1 : ∀ (f1 : Nat) (i : Nat) (T : LnS (Nat → Int32) × Int32 × Int32), (1 ≤ i) → (i ≤ 10) → (10 + 1 ≤ i + f1) → ∀ (H : Heap) (locs : List Loc), va_P (dC, dI) clA (xG ct o q (ql, qs, md, qe, n) y (upd g 18 T.2.2) (va_up (va_up (va_up (va_up (va_up (va_up a 5 (upd (a 5) K (nI i))) 12 ((T.1).1)) 13 ((T.1).2.1)) 14 ((T.1).2.2.1)) 15 ((T.1).2.2.2.1)) 16 ((T.1).2.2.2.2)) ex) H → va_D A (xG ct o q (ql, qs, md, qe, n) y (upd g 18 T.2.2) (va_up (va_up (va_up (va_up (va_up (va_up a 5 (upd (a 5) K (nI i))) 12 ((T.1).1)) 13 ((T.1).2.1)) 14 ((T.1).2.2.1)) 15 ((T.1).2.2.2.1)) 16 ((T.1).2.2.2.2)) ex) → va_S A s.heap H locs → ∀ (ls : Array Slot), lv_has ls 5 [(4, .int (mset (fun z => decide (1 ≤ z) && (soV (cgo n (a 3) (a 4) (laX (g 3) (g 4) (a 2) (upd (a 5) K (nI z))) (fun t => cix (rf t)) N) (a 22) (a 23) (a 24) rn)) i)), (3, .int ((a 5) K)), (2, .ref rq), (1, .ref (y K)), (0, .ref o)] → W p l e (headSpec (ws_ yX0_wearsOf cX0_wearsOf 5 (some .int)) ({ frames := 8, cells := 0, slots := 0, locals := 169 })).room s m ([.ref o, .ref (y K), .ref rq] : List Value).toArray below meth c H locs 0 0 (MQ below (va_Qi (fun (r : Int32) (u : (Nat → Int32) × (Nat → Nat → Int32)) => r = (mset (fun z => decide (1 ≤ z) && (soV (cgo n (a 3) (a 4) (laX (g 3) (g 4) (a 2) (upd (a 5) K (nI z))) (fun t => cix (rf t)) N) (a 22) (a 23) (a 24) rn)) 10) ∧ ∃ (T : LnS (Nat → Int32) × Int32 × Int32), u = ((upd g 18 T.2.2), (va_up (va_up (va_up (va_up (va_up a 12 ((T.1).1)) 13 ((T.1).2.1)) 14 ((T.1).2.2.1)) 15 ((T.1).2.2.2.1)) 16 ((T.1).2.2.2.2)))) (gB dC dI ct A ex o q (ql, qs, md, qe, n) y) A) ([.ref o, .ref (y K), .ref rq] : List Value).toArray s 0 0 A) (F0 m 13 ls []) := by
    intro f1
    induction f1 with
    | zero => intro i T h1i hi hf; exact False.elim (by omega)
    | succ f1 ih1 =>
      intro i T h1i hi hf H locs hP hD hS ls hl
      refine lv_aload_n hx hb dX0_wearsOf_13 rfl (lv_at hl 3 rfl) ?_
      refine c_getN (v := .int ((upd (a 5) K (nI i)) K)) hx hb hts hown hK hP hKn 3 (by decide) rfl (xE_q464 hE) dX0_wearsOf_14 ?_
      refine lv_topi (fun z_1 ez_1 => ?_)
      have ez_1 : z_1 = (nI i) := ez_1.trans (upd_s _ _ _)
      subst ez_1
      refine lv_bipush (v := 9) hx hb dX0_wearsOf_17 (by decide) ?_
      refine lv_icmp_gt (tgt := 58) hx hb dX0_wearsOf_19 (by decide) (fun c_2 => ?_) (fun c_2 => ?_)
      · skip
        have hge : i = 10 := by have := (nI_ltI (a := 9) (by omega) (by omega)).mp c_2; omega
        subst hge
        refine lv_aload_n hx hb dX0_wearsOf_58 rfl (lv_at hl 3 rfl) ?_
        refine lv_iload_n hx hb dX0_wearsOf_59 rfl (lv_at hl 1 rfl) ?_
        refine c_putN (v := ((a 5) K)) hx hb hts hown hK hP hD hS hKn 3 5 (by unfold chK; decide) (xE_q464 hE) dX0_wearsOf_60 (fun H locs hP hD hS => ?_)
        have hP : va_P (dC, dI) clA (xG ct o q (ql, qs, md, qe, n) y (upd g 18 T.2.2) (va_up (va_up (va_up (va_up (va_up (va_up (va_up a 5 (upd (a 5) K (nI 10))) 12 ((T.1).1)) 13 ((T.1).2.1)) 14 ((T.1).2.2.1)) 15 ((T.1).2.2.2.1)) 16 ((T.1).2.2.2.2)) 5 (upd (upd (a 5) K (nI 10)) K ((a 5) K))) ex) H := hP
        have hD : va_D A (xG ct o q (ql, qs, md, qe, n) y (upd g 18 T.2.2) (va_up (va_up (va_up (va_up (va_up (va_up (va_up a 5 (upd (a 5) K (nI 10))) 12 ((T.1).1)) 13 ((T.1).2.1)) 14 ((T.1).2.2.1)) 15 ((T.1).2.2.2.1)) 16 ((T.1).2.2.2.2)) 5 (upd (upd (a 5) K (nI 10)) K ((a 5) K))) ex) := hD
        have eW_3 : ∀ (zg18 : Int32) (za5 : Nat → Int32) (za12 : Nat → Int32) (za13 : Nat → Int32) (za14 : Nat → Int32) (za15 : Nat → Int32) (za16 : Nat → Int32) (zn : Nat → Int32), xG ct o q (ql, qs, md, qe, n) y (upd g 18 zg18) (va_up (va_up (va_up (va_up (va_up (va_up (va_up a 5 za5) 12 za12) 13 za13) 14 za14) 15 za15) 16 za16) 5 zn) ex = xG ct o q (ql, qs, md, qe, n) y (upd g 18 zg18) (va_up (va_up (va_up (va_up (va_up (va_up a 5 zn) 12 za12) 13 za13) 14 za14) 15 za15) 16 za16) ex := fun _ _ _ _ _ _ _ _ => rfl
        have hP : va_P (dC, dI) clA (xG ct o q (ql, qs, md, qe, n) y (upd g 18 T.2.2) (va_up (va_up (va_up (va_up (va_up (va_up a 5 (upd (upd (a 5) K (nI 10)) K ((a 5) K))) 12 ((T.1).1)) 13 ((T.1).2.1)) 14 ((T.1).2.2.1)) 15 ((T.1).2.2.2.1)) 16 ((T.1).2.2.2.2)) ex) H := Eq.mp (congrArg (fun w => va_P (dC, dI) clA w H) (eW_3 T.2.2 (upd (a 5) K (nI 10)) ((T.1).1) ((T.1).2.1) ((T.1).2.2.1) ((T.1).2.2.2.1) ((T.1).2.2.2.2) (upd (upd (a 5) K (nI 10)) K ((a 5) K)))) hP
        have hD : va_D A (xG ct o q (ql, qs, md, qe, n) y (upd g 18 T.2.2) (va_up (va_up (va_up (va_up (va_up (va_up a 5 (upd (upd (a 5) K (nI 10)) K ((a 5) K))) 12 ((T.1).1)) 13 ((T.1).2.1)) 14 ((T.1).2.2.1)) 15 ((T.1).2.2.2.1)) 16 ((T.1).2.2.2.2)) ex) := Eq.mp (congrArg (fun w => va_D A w) (eW_3 T.2.2 (upd (a 5) K (nI 10)) ((T.1).1) ((T.1).2.1) ((T.1).2.2.1) ((T.1).2.2.2.1) ((T.1).2.2.2.2) (upd (upd (a 5) K (nI 10)) K ((a 5) K)))) hD
        have e_4 : (upd (upd (a 5) K (nI 10)) K ((a 5) K)) = (a 5) := (by rw [upd_uu]; exact upd_id _ _)
        rw [e_4] at hP hD
        have hP : va_P (dC, dI) clA (xG ct o q (ql, qs, md, qe, n) y (upd g 18 T.2.2) (va_up (va_up (va_up (va_up (va_up a 12 ((T.1).1)) 13 ((T.1).2.1)) 14 ((T.1).2.2.1)) 15 ((T.1).2.2.2.1)) 16 ((T.1).2.2.2.2)) ex) H := hP
        have hD : va_D A (xG ct o q (ql, qs, md, qe, n) y (upd g 18 T.2.2) (va_up (va_up (va_up (va_up (va_up a 12 ((T.1).1)) 13 ((T.1).2.1)) 14 ((T.1).2.2.1)) 15 ((T.1).2.2.2.1)) 16 ((T.1).2.2.2.2)) ex) := hD
        refine lv_iload hx hb dX0_wearsOf_63 (lv_at hl 0 rfl) ?_
        exact W.iret (v := (mset (fun z => decide (1 ≤ z) && (soV (cgo n (a 3) (a 4) (laX (g 3) (g 4) (a 2) (upd (a 5) K (nI z))) (fun t => cix (rf t)) N) (a 22) (a 23) (a 24) rn)) 10)) hx hb hr (fun t ht hW => ⟨⟨(mset (fun z => decide (1 ≤ z) && (soV (cgo n (a 3) (a 4) (laX (g 3) (g 4) (a 2) (upd (a 5) K (nI z))) (fun t => cix (rf t)) N) (a 22) (a 23) (a 24) rn)) 10), ((upd g 18 T.2.2), (va_up (va_up (va_up (va_up (va_up a 12 ((T.1).1)) 13 ((T.1).2.1)) 14 ((T.1).2.2.1)) 15 ((T.1).2.2.2.1)) 16 ((T.1).2.2.2.2))), rfl, ⟨rfl, ⟨T, rfl⟩⟩, by rw [ht]; exact hP, va_K.moved hW.alike hK, hD⟩, hS.F ht⟩) hS.2.2 dX0_wearsOf_65
      · skip
        have hlt : i ≤ 9 := Nat.le_of_not_lt (fun z => c_2 (nI_lt (a := 9) z (by omega)))
        refine lv_iload hx hb dX0_wearsOf_22 (lv_at hl 0 rfl) ?_
        refine lv_aload_n hx hb dX0_wearsOf_24 rfl (lv_at hl 4 rfl) ?_
        refine lv_aload_n hx hb dX0_wearsOf_25 rfl (lv_at hl 2 rfl) ?_
        refine va_calli (va_runV (As := [.ref rq]) (rest := [.int (mset (fun z => decide (1 ≤ z) && (soV (cgo n (a 3) (a 4) (laX (g 3) (g 4) (a 2) (upd (a 5) K (nI z))) (fun t => cix (rf t)) N) (a 22) (a 23) (a 24) rn)) i)]) ⟨hx, hb, hml, hown, hts⟩ (metX0_areSo l dC dI ct A ex o q ql qs md qe n y (upd g 18 T.2.2) (va_up (va_up (va_up (va_up (va_up (va_up a 5 (upd (a 5) K (nI i))) 12 ((T.1).1)) 13 ((T.1).2.1)) 14 ((T.1).2.2.1)) 15 ((T.1).2.2.2.1)) 16 ((T.1).2.2.2.2))  rp rq N rf hrp hN hn6 hpr rn hr8 hrn hrw) (cwV 1 hts (lw_V q822 q824 qs35 q69 q825) rfl rfl rfl (by decide +kernel) ⟨Nat.le_of_ble_eq_true rfl, Nat.le_of_ble_eq_true rfl⟩) (gPV hK hP hD hE _) rfl rfl hl.1 rfl (lv_room (Nat.le_of_ble_eq_true rfl)) dX0_wearsOf_26 ⟨Nat.zero_le _, Nat.zero_le _⟩) hS (fun q _ h => h) (fun q h => h) (fun r u t H1 locs ht hvm hw hB hz1 hk1 hS => ?_)
        obtain ⟨hw, T_5, hw2⟩ := hw
        have hw : r = (b2i (soV (cgo n (a 3) (a 4) (laX (g 3) (g 4) (a 2) (upd (a 5) K (nI i))) (fun t => cix (rf t)) N) (a 22) (a 23) (a 24) rn)) := hw
        subst hw
        subst hw2
        obtain ⟨hP, -, hD⟩ := hB
        rw [ht] at hP
        generalize H1 = H at hP hS ⊢
        have hP : va_P (dC, dI) clA (xG ct o q (ql, qs, md, qe, n) y (upd g 18 T_5.2.2) (va_up (va_up (va_up (va_up (va_up (va_up a 5 (upd (a 5) K (nI i))) 12 ((T_5.1).1)) 13 ((T_5.1).2.1)) 14 ((T_5.1).2.2.1)) 15 ((T_5.1).2.2.2.1)) 16 ((T_5.1).2.2.2.2)) ex) H := hP
        have hD : va_D A (xG ct o q (ql, qs, md, qe, n) y (upd g 18 T_5.2.2) (va_up (va_up (va_up (va_up (va_up (va_up a 5 (upd (a 5) K (nI i))) 12 ((T_5.1).1)) 13 ((T_5.1).2.1)) 14 ((T_5.1).2.2.1)) 15 ((T_5.1).2.2.2.1)) 16 ((T_5.1).2.2.2.2)) ex) := hD
        refine bz_eq (tgt := 41) hx hb dX0_wearsOf_29 (by decide) (fun c_6 => ?_) (fun c_6 => ?_)
        · skip
          have hso : (fun z => decide (1 ≤ z) && (soV (cgo n (a 3) (a 4) (laX (g 3) (g 4) (a 2) (upd (a 5) K (nI z))) (fun t => cix (rf t)) N) (a 22) (a 23) (a 24) rn)) i = false := by show (decide (1 ≤ i) && _) = _; rw [decide_eq_true h1i, Bool.true_and]; exact c_6
          refine lv_iconst (v := 0) hx hb dX0_wearsOf_41 (by decide) ?_
          refine lv_ior hx hb dX0_wearsOf_42 ?_
          refine lv_topi (fun z_7 ez_7 => ?_)
          have ez_7 : z_7 = (mset (fun z => decide (1 ≤ z) && (soV (cgo n (a 3) (a 4) (laX (g 3) (g 4) (a 2) (upd (a 5) K (nI z))) (fun t => cix (rf t)) N) (a 22) (a 23) (a 24) rn)) (i + 1)) := ez_7.trans (mset_f (f := (fun z => decide (1 ≤ z) && (soV (cgo n (a 3) (a 4) (laX (g 3) (g 4) (a 2) (upd (a 5) K (nI z))) (fun t => cix (rf t)) N) (a 22) (a 23) (a 24) rn))) hso)
          subst ez_7
          refine lv_istore (lv' := [(4, .int (mset (fun z => decide (1 ≤ z) && (soV (cgo n (a 3) (a 4) (laX (g 3) (g 4) (a 2) (upd (a 5) K (nI z))) (fun t => cix (rf t)) N) (a 22) (a 23) (a 24) rn)) (i + 1))), (3, .int ((a 5) K)), (2, .ref rq), (1, .ref (y K)), (0, .ref o)]) hx hb dX0_wearsOf_43 hl (by decide) rfl (fun ls hl => ?_)
          refine lv_aload_n hx hb dX0_wearsOf_45 rfl (lv_at hl 3 rfl) ?_
          refine lv_dup hx hb dX0_wearsOf_46 rfl ?_
          refine c_getN (v := .int ((upd (a 5) K (nI i)) K)) hx hb hts hown hK hP hKn 3 (by decide) rfl (xE_q464 hE) dX0_wearsOf_47 ?_
          refine lv_iconst (v := 1) hx hb dX0_wearsOf_50 (by decide) ?_
          refine lv_iadd hx hb dX0_wearsOf_51 ?_
          refine c_putN (v := (((upd (a 5) K (nI i)) K) + 1)) hx hb hts hown hK hP hD hS hKn 3 5 (by unfold chK; decide) (xE_q464 hE) dX0_wearsOf_52 (fun H locs hP hD hS => ?_)
          have hP : va_P (dC, dI) clA (xG ct o q (ql, qs, md, qe, n) y (upd g 18 T_5.2.2) (va_up (va_up (va_up (va_up (va_up (va_up (va_up a 5 (upd (a 5) K (nI i))) 12 ((T_5.1).1)) 13 ((T_5.1).2.1)) 14 ((T_5.1).2.2.1)) 15 ((T_5.1).2.2.2.1)) 16 ((T_5.1).2.2.2.2)) 5 (upd (upd (a 5) K (nI i)) K (((upd (a 5) K (nI i)) K) + 1))) ex) H := hP
          have hD : va_D A (xG ct o q (ql, qs, md, qe, n) y (upd g 18 T_5.2.2) (va_up (va_up (va_up (va_up (va_up (va_up (va_up a 5 (upd (a 5) K (nI i))) 12 ((T_5.1).1)) 13 ((T_5.1).2.1)) 14 ((T_5.1).2.2.1)) 15 ((T_5.1).2.2.2.1)) 16 ((T_5.1).2.2.2.2)) 5 (upd (upd (a 5) K (nI i)) K (((upd (a 5) K (nI i)) K) + 1))) ex) := hD
          have eW_8 : ∀ (zg18 : Int32) (za5 : Nat → Int32) (za12 : Nat → Int32) (za13 : Nat → Int32) (za14 : Nat → Int32) (za15 : Nat → Int32) (za16 : Nat → Int32) (zn : Nat → Int32), xG ct o q (ql, qs, md, qe, n) y (upd g 18 zg18) (va_up (va_up (va_up (va_up (va_up (va_up (va_up a 5 za5) 12 za12) 13 za13) 14 za14) 15 za15) 16 za16) 5 zn) ex = xG ct o q (ql, qs, md, qe, n) y (upd g 18 zg18) (va_up (va_up (va_up (va_up (va_up (va_up a 5 zn) 12 za12) 13 za13) 14 za14) 15 za15) 16 za16) ex := fun _ _ _ _ _ _ _ _ => rfl
          have hP : va_P (dC, dI) clA (xG ct o q (ql, qs, md, qe, n) y (upd g 18 T_5.2.2) (va_up (va_up (va_up (va_up (va_up (va_up a 5 (upd (upd (a 5) K (nI i)) K (((upd (a 5) K (nI i)) K) + 1))) 12 ((T_5.1).1)) 13 ((T_5.1).2.1)) 14 ((T_5.1).2.2.1)) 15 ((T_5.1).2.2.2.1)) 16 ((T_5.1).2.2.2.2)) ex) H := Eq.mp (congrArg (fun w => va_P (dC, dI) clA w H) (eW_8 T_5.2.2 (upd (a 5) K (nI i)) ((T_5.1).1) ((T_5.1).2.1) ((T_5.1).2.2.1) ((T_5.1).2.2.2.1) ((T_5.1).2.2.2.2) (upd (upd (a 5) K (nI i)) K (((upd (a 5) K (nI i)) K) + 1)))) hP
          have hD : va_D A (xG ct o q (ql, qs, md, qe, n) y (upd g 18 T_5.2.2) (va_up (va_up (va_up (va_up (va_up (va_up a 5 (upd (upd (a 5) K (nI i)) K (((upd (a 5) K (nI i)) K) + 1))) 12 ((T_5.1).1)) 13 ((T_5.1).2.1)) 14 ((T_5.1).2.2.1)) 15 ((T_5.1).2.2.2.1)) 16 ((T_5.1).2.2.2.2)) ex) := Eq.mp (congrArg (fun w => va_D A w) (eW_8 T_5.2.2 (upd (a 5) K (nI i)) ((T_5.1).1) ((T_5.1).2.1) ((T_5.1).2.2.1) ((T_5.1).2.2.2.1) ((T_5.1).2.2.2.2) (upd (upd (a 5) K (nI i)) K (((upd (a 5) K (nI i)) K) + 1)))) hD
          have e_9 : (upd (upd (a 5) K (nI i)) K (((upd (a 5) K (nI i)) K) + 1)) = (upd (a 5) K (nI (i + 1))) := (by rw [upd_uu, upd_s, nI_1])
          rw [e_9] at hP hD
          refine lv_goto (tgt := 13) hx hb dX0_wearsOf_55 (by decide) ?_
          exact ih1 (i + 1) T_5 (by omega) (by omega) (by omega) _ _ hP hD hS _ (lv_sub hl [0, 1, 2, 3, 4] rfl)
        · skip
          have hso : (fun z => decide (1 ≤ z) && (soV (cgo n (a 3) (a 4) (laX (g 3) (g 4) (a 2) (upd (a 5) K (nI z))) (fun t => cix (rf t)) N) (a 22) (a 23) (a 24) rn)) i = true := by show (decide (1 ≤ i) && _) = _; rw [decide_eq_true h1i, Bool.true_and]; exact c_6
          refine lv_iconst (v := 1) hx hb dX0_wearsOf_32 (by decide) ?_
          refine lv_aload_n hx hb dX0_wearsOf_33 rfl (lv_at hl 3 rfl) ?_
          refine c_getN (v := .int ((upd (a 5) K (nI i)) K)) hx hb hts hown hK hP hKn 3 (by decide) rfl (xE_q464 hE) dX0_wearsOf_34 ?_
          refine lv_topi (fun z_10 ez_10 => ?_)
          have ez_10 : z_10 = (nI i) := ez_10.trans (upd_s _ _ _)
          subst ez_10
          refine lv_ishl hx hb dX0_wearsOf_37 ?_
          refine lv_goto (tgt := 42) hx hb dX0_wearsOf_38 (by decide) ?_
          refine lv_ior hx hb dX0_wearsOf_42 ?_
          refine lv_topi (fun z_11 ez_11 => ?_)
          have ez_11 : z_11 = (mset (fun z => decide (1 ≤ z) && (soV (cgo n (a 3) (a 4) (laX (g 3) (g 4) (a 2) (upd (a 5) K (nI z))) (fun t => cix (rf t)) N) (a 22) (a 23) (a 24) rn)) (i + 1)) := ez_11.trans (mset_t (f := (fun z => decide (1 ≤ z) && (soV (cgo n (a 3) (a 4) (laX (g 3) (g 4) (a 2) (upd (a 5) K (nI z))) (fun t => cix (rf t)) N) (a 22) (a 23) (a 24) rn))) hso)
          subst ez_11
          refine lv_istore (lv' := [(4, .int (mset (fun z => decide (1 ≤ z) && (soV (cgo n (a 3) (a 4) (laX (g 3) (g 4) (a 2) (upd (a 5) K (nI z))) (fun t => cix (rf t)) N) (a 22) (a 23) (a 24) rn)) (i + 1))), (3, .int ((a 5) K)), (2, .ref rq), (1, .ref (y K)), (0, .ref o)]) hx hb dX0_wearsOf_43 hl (by decide) rfl (fun ls hl => ?_)
          refine lv_aload_n hx hb dX0_wearsOf_45 rfl (lv_at hl 3 rfl) ?_
          refine lv_dup hx hb dX0_wearsOf_46 rfl ?_
          refine c_getN (v := .int ((upd (a 5) K (nI i)) K)) hx hb hts hown hK hP hKn 3 (by decide) rfl (xE_q464 hE) dX0_wearsOf_47 ?_
          refine lv_iconst (v := 1) hx hb dX0_wearsOf_50 (by decide) ?_
          refine lv_iadd hx hb dX0_wearsOf_51 ?_
          refine c_putN (v := (((upd (a 5) K (nI i)) K) + 1)) hx hb hts hown hK hP hD hS hKn 3 5 (by unfold chK; decide) (xE_q464 hE) dX0_wearsOf_52 (fun H locs hP hD hS => ?_)
          have hP : va_P (dC, dI) clA (xG ct o q (ql, qs, md, qe, n) y (upd g 18 T_5.2.2) (va_up (va_up (va_up (va_up (va_up (va_up (va_up a 5 (upd (a 5) K (nI i))) 12 ((T_5.1).1)) 13 ((T_5.1).2.1)) 14 ((T_5.1).2.2.1)) 15 ((T_5.1).2.2.2.1)) 16 ((T_5.1).2.2.2.2)) 5 (upd (upd (a 5) K (nI i)) K (((upd (a 5) K (nI i)) K) + 1))) ex) H := hP
          have hD : va_D A (xG ct o q (ql, qs, md, qe, n) y (upd g 18 T_5.2.2) (va_up (va_up (va_up (va_up (va_up (va_up (va_up a 5 (upd (a 5) K (nI i))) 12 ((T_5.1).1)) 13 ((T_5.1).2.1)) 14 ((T_5.1).2.2.1)) 15 ((T_5.1).2.2.2.1)) 16 ((T_5.1).2.2.2.2)) 5 (upd (upd (a 5) K (nI i)) K (((upd (a 5) K (nI i)) K) + 1))) ex) := hD
          have eW_12 : ∀ (zg18 : Int32) (za5 : Nat → Int32) (za12 : Nat → Int32) (za13 : Nat → Int32) (za14 : Nat → Int32) (za15 : Nat → Int32) (za16 : Nat → Int32) (zn : Nat → Int32), xG ct o q (ql, qs, md, qe, n) y (upd g 18 zg18) (va_up (va_up (va_up (va_up (va_up (va_up (va_up a 5 za5) 12 za12) 13 za13) 14 za14) 15 za15) 16 za16) 5 zn) ex = xG ct o q (ql, qs, md, qe, n) y (upd g 18 zg18) (va_up (va_up (va_up (va_up (va_up (va_up a 5 zn) 12 za12) 13 za13) 14 za14) 15 za15) 16 za16) ex := fun _ _ _ _ _ _ _ _ => rfl
          have hP : va_P (dC, dI) clA (xG ct o q (ql, qs, md, qe, n) y (upd g 18 T_5.2.2) (va_up (va_up (va_up (va_up (va_up (va_up a 5 (upd (upd (a 5) K (nI i)) K (((upd (a 5) K (nI i)) K) + 1))) 12 ((T_5.1).1)) 13 ((T_5.1).2.1)) 14 ((T_5.1).2.2.1)) 15 ((T_5.1).2.2.2.1)) 16 ((T_5.1).2.2.2.2)) ex) H := Eq.mp (congrArg (fun w => va_P (dC, dI) clA w H) (eW_12 T_5.2.2 (upd (a 5) K (nI i)) ((T_5.1).1) ((T_5.1).2.1) ((T_5.1).2.2.1) ((T_5.1).2.2.2.1) ((T_5.1).2.2.2.2) (upd (upd (a 5) K (nI i)) K (((upd (a 5) K (nI i)) K) + 1)))) hP
          have hD : va_D A (xG ct o q (ql, qs, md, qe, n) y (upd g 18 T_5.2.2) (va_up (va_up (va_up (va_up (va_up (va_up a 5 (upd (upd (a 5) K (nI i)) K (((upd (a 5) K (nI i)) K) + 1))) 12 ((T_5.1).1)) 13 ((T_5.1).2.1)) 14 ((T_5.1).2.2.1)) 15 ((T_5.1).2.2.2.1)) 16 ((T_5.1).2.2.2.2)) ex) := Eq.mp (congrArg (fun w => va_D A w) (eW_12 T_5.2.2 (upd (a 5) K (nI i)) ((T_5.1).1) ((T_5.1).2.1) ((T_5.1).2.2.1) ((T_5.1).2.2.2.1) ((T_5.1).2.2.2.2) (upd (upd (a 5) K (nI i)) K (((upd (a 5) K (nI i)) K) + 1)))) hD
          have e_13 : (upd (upd (a 5) K (nI i)) K (((upd (a 5) K (nI i)) K) + 1)) = (upd (a 5) K (nI (i + 1))) := (by rw [upd_uu, upd_s, nI_1])
          rw [e_13] at hP hD
          refine lv_goto (tgt := 13) hx hb dX0_wearsOf_55 (by decide) ?_
          exact ih1 (i + 1) T_5 (by omega) (by omega) (by omega) _ _ hP hD hS _ (lv_sub hl [0, 1, 2, 3, 4] rfl)
  exact loop1 10 1 ((a 12, a 13, a 14, a 15, a 16), 0, g 18) (by omega) (by omega) (by omega) _ _ hP hD hS _ (by rw [← mset_w1]; exact (lv_sub hl [0, 1, 4, 3, 2] rfl))
