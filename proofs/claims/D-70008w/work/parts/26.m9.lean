/-! THE MODEL: what is seen -/
set_option maxHeartbeats 4000000 in
set_option maxRecDepth 100000 in
theorem metX2_areSo (l : Launch) (dC : Nat → ClassId) (dI : Nat → Nat → Nat) (ct : Nat → ClassId) (A : Nat → Prop) (ex : va_W) (o : Nat) (q : Nat → Nat) (g : Nat → Int32) (a : Nat → Nat → Int32) (x : Int32) (y : Int32) (n F N rn : Nat) (hn6 : n ≤ 6) (hn : g 1 = nI n) (ex0 : x = nI F) (ey : y = nI N) (hN : N ≤ 30) (hF : F + 2 * N ≤ 240) (hpr : ∀ t, t < 2 * N → a 27 (F + t) = nI (cix (a 27 (F + t))) ∧ cix (a 27 (F + t)) < n) (hr8 : rn ≤ 8) (hrn : g 21 = nI rn) (hrw : ∀ k, k < rn → a 22 k = nI (cix (a 22 k)) ∧ cix (a 22 k) < n) : Met l yX2_areSo (ws_ yX2_areSo cX2_areSo 5 (some .boolean)) ({ frames := 4, cells := 0, slots := 0, locals := 92 }) (mPre dC dI ct A ex o q g a [.ref o, .int x, .int y]) (va_Qi (fun (r : Int32) (u : (Nat → Int32) × (Nat → Nat → Int32)) => r = (b2i (soV (cgo n (a 3) (a 4) (fun c => lastsV ((a 2) c) ((a 5) c)) (fun t => cix ((a 27) (F + t))) N) (a 22) (a 23) (a 24) rn)) ∧ ∃ (T : LnS (Nat → Int32) × Int32 × Int32), u = ((upd (upd g 17 T.2.1) 18 T.2.2), (va_up (va_up (va_up (va_up (va_up a 12 ((T.1).1)) 13 ((T.1).2.1)) 14 ((T.1).2.2.1)) 15 ((T.1).2.2.2.1)) 16 ((T.1).2.2.2.2)))) (mB dC dI ct A ex o q) A) 0 0 A := by
  refine Met.ofW (cc := cX2_areSo) (maxL := 5) (ret := (some .boolean)) (by decide) rfl ?_
  intro p e s m args below meth c s₁ B hml hv
  obtain ⟨rfl, hP, hK, hD⟩ := hv
  have hx := B.exec
  have hb := B.bytes
  have hr := B.returns
  have hts := atoms_spec (ws := ws_ yX2_areSo cX2_areSo 5 (some .boolean)) B.pre
  have hts : ∀ w ∈ lw_all, w.before _ s = true := fun w h => hts w (List.mem_cons_of_mem _ h)
  have hown : s.vm.findClass RX2 = some m.cls := findClass_of_methodNamed B.named
  have hlocks := B.notSynchronized
  have hS : va_S A s.heap s.heap [] := va_S.rf
  have hl := lv_entry ([.ref o, .int x, .int y]) (n := 5) (Nat.le_of_ble_eq_true rfl)
  rw [lg_entry_eq]
  generalize (lg_sl ([.ref o, .int x, .int y]) ++ List.replicate (5 - (lg_sl ([.ref o, .int x, .int y])).length) Slot.unset).toArray = ls at hl ⊢
  have hl : lv_has ls 5 [(0, .ref o), (1, .int x), (2, .int y)] := hl
  subst ex0
  subst ey
  refine lv_aload_n hx hb dX2_areSo_0 rfl (lv_at hl 0 rfl) ?_
  refine lv_iload_n hx hb dX2_areSo_1 rfl (lv_at hl 1 rfl) ?_
  refine lv_iload_n hx hb dX2_areSo_2 rfl (lv_at hl 2 rfl) ?_
  refine va_callv (va_runV (As := [.int (nI F), .int (nI N)]) (rest := []) ⟨hx, hb, hml, hown, hts⟩ (metX2_goLoans l dC dI ct A ex o q g a (nI F) (nI N) n F N hn6 hn rfl rfl hN hF hpr) (cwV 2 hts (lw_V q1154 q1156 qs51 q74 q1157) rfl rfl rfl (by decide +kernel) ⟨Nat.le_of_ble_eq_true rfl, Nat.le_of_ble_eq_true rfl⟩) (mPV hK hP hD _) rfl rfl hl.1 rfl (lv_room (Nat.le_of_ble_eq_true rfl)) dX2_areSo_3 ⟨Nat.zero_le _, Nat.zero_le _⟩) hS (fun q _ h => h) (fun q h => h) (fun u t H1 locs ht hvm hw hB hz1 hk1 hS => ?_)
  subst hw
  obtain ⟨hP, -, hD⟩ := hB
  rw [ht] at hP
  generalize H1 = H at hP hS ⊢
  have hP : va_P (dC, dI) clA (mW ct o q (upd (upd g 17 ((lgo (fuM (a 4)) (fun c => lastsV ((a 2) c) ((a 5) c)) (a 4) n (fun t => cix ((a 27) (F + t))) (mbeg n (a 3) (a 4) ((a 12), (a 13), (a 14), (a 15), (a 16))) N).2.1)) 18 ((lgo (fuM (a 4)) (fun c => lastsV ((a 2) c) ((a 5) c)) (a 4) n (fun t => cix ((a 27) (F + t))) (mbeg n (a 3) (a 4) ((a 12), (a 13), (a 14), (a 15), (a 16))) N).2.2)) (va_up (va_up (va_up (va_up (va_up a 12 (((lgo (fuM (a 4)) (fun c => lastsV ((a 2) c) ((a 5) c)) (a 4) n (fun t => cix ((a 27) (F + t))) (mbeg n (a 3) (a 4) ((a 12), (a 13), (a 14), (a 15), (a 16))) N).1).1)) 13 (((lgo (fuM (a 4)) (fun c => lastsV ((a 2) c) ((a 5) c)) (a 4) n (fun t => cix ((a 27) (F + t))) (mbeg n (a 3) (a 4) ((a 12), (a 13), (a 14), (a 15), (a 16))) N).1).2.1)) 14 (((lgo (fuM (a 4)) (fun c => lastsV ((a 2) c) ((a 5) c)) (a 4) n (fun t => cix ((a 27) (F + t))) (mbeg n (a 3) (a 4) ((a 12), (a 13), (a 14), (a 15), (a 16))) N).1).2.2.1)) 15 (((lgo (fuM (a 4)) (fun c => lastsV ((a 2) c) ((a 5) c)) (a 4) n (fun t => cix ((a 27) (F + t))) (mbeg n (a 3) (a 4) ((a 12), (a 13), (a 14), (a 15), (a 16))) N).1).2.2.2.1)) 16 (((lgo (fuM (a 4)) (fun c => lastsV ((a 2) c) ((a 5) c)) (a 4) n (fun t => cix ((a 27) (F + t))) (mbeg n (a 3) (a 4) ((a 12), (a 13), (a 14), (a 15), (a 16))) N).1).2.2.2.2)) ++ ex) H := hP
  have hD : va_D A (mW ct o q (upd (upd g 17 ((lgo (fuM (a 4)) (fun c => lastsV ((a 2) c) ((a 5) c)) (a 4) n (fun t => cix ((a 27) (F + t))) (mbeg n (a 3) (a 4) ((a 12), (a 13), (a 14), (a 15), (a 16))) N).2.1)) 18 ((lgo (fuM (a 4)) (fun c => lastsV ((a 2) c) ((a 5) c)) (a 4) n (fun t => cix ((a 27) (F + t))) (mbeg n (a 3) (a 4) ((a 12), (a 13), (a 14), (a 15), (a 16))) N).2.2)) (va_up (va_up (va_up (va_up (va_up a 12 (((lgo (fuM (a 4)) (fun c => lastsV ((a 2) c) ((a 5) c)) (a 4) n (fun t => cix ((a 27) (F + t))) (mbeg n (a 3) (a 4) ((a 12), (a 13), (a 14), (a 15), (a 16))) N).1).1)) 13 (((lgo (fuM (a 4)) (fun c => lastsV ((a 2) c) ((a 5) c)) (a 4) n (fun t => cix ((a 27) (F + t))) (mbeg n (a 3) (a 4) ((a 12), (a 13), (a 14), (a 15), (a 16))) N).1).2.1)) 14 (((lgo (fuM (a 4)) (fun c => lastsV ((a 2) c) ((a 5) c)) (a 4) n (fun t => cix ((a 27) (F + t))) (mbeg n (a 3) (a 4) ((a 12), (a 13), (a 14), (a 15), (a 16))) N).1).2.2.1)) 15 (((lgo (fuM (a 4)) (fun c => lastsV ((a 2) c) ((a 5) c)) (a 4) n (fun t => cix ((a 27) (F + t))) (mbeg n (a 3) (a 4) ((a 12), (a 13), (a 14), (a 15), (a 16))) N).1).2.2.2.1)) 16 (((lgo (fuM (a 4)) (fun c => lastsV ((a 2) c) ((a 5) c)) (a 4) n (fun t => cix ((a 27) (F + t))) (mbeg n (a 3) (a 4) ((a 12), (a 13), (a 14), (a 15), (a 16))) N).1).2.2.2.2)) ++ ex) := hD
  refine lv_aload_n hx hb dX2_areSo_6 rfl (lv_at hl 0 rfl) ?_
  refine m_get (v := .int ((lgo (fuM (a 4)) (fun c => lastsV ((a 2) c) ((a 5) c)) (a 4) n (fun t => cix ((a 27) (F + t))) (mbeg n (a 3) (a 4) ((a 12), (a 13), (a 14), (a 15), (a 16))) N).2.1)) hx hb hts hown hK hP 17 (by decide) rfl q1001 rfl dX2_areSo_7 ?_
  have loop1 : ∀ (f1 : Nat) (i : Nat), i ≤ rn → rn + 1 ≤ i + f1 → ∀ (H : Heap) (locs : List Loc), va_P (dC, dI) clA (mW ct o q (upd (upd g 17 ((lgo (fuM (a 4)) (fun c => lastsV ((a 2) c) ((a 5) c)) (a 4) n (fun t => cix ((a 27) (F + t))) (mbeg n (a 3) (a 4) ((a 12), (a 13), (a 14), (a 15), (a 16))) N).2.1)) 18 ((lgo (fuM (a 4)) (fun c => lastsV ((a 2) c) ((a 5) c)) (a 4) n (fun t => cix ((a 27) (F + t))) (mbeg n (a 3) (a 4) ((a 12), (a 13), (a 14), (a 15), (a 16))) N).2.2)) (va_up (va_up (va_up (va_up (va_up a 12 (((lgo (fuM (a 4)) (fun c => lastsV ((a 2) c) ((a 5) c)) (a 4) n (fun t => cix ((a 27) (F + t))) (mbeg n (a 3) (a 4) ((a 12), (a 13), (a 14), (a 15), (a 16))) N).1).1)) 13 (((lgo (fuM (a 4)) (fun c => lastsV ((a 2) c) ((a 5) c)) (a 4) n (fun t => cix ((a 27) (F + t))) (mbeg n (a 3) (a 4) ((a 12), (a 13), (a 14), (a 15), (a 16))) N).1).2.1)) 14 (((lgo (fuM (a 4)) (fun c => lastsV ((a 2) c) ((a 5) c)) (a 4) n (fun t => cix ((a 27) (F + t))) (mbeg n (a 3) (a 4) ((a 12), (a 13), (a 14), (a 15), (a 16))) N).1).2.2.1)) 15 (((lgo (fuM (a 4)) (fun c => lastsV ((a 2) c) ((a 5) c)) (a 4) n (fun t => cix ((a 27) (F + t))) (mbeg n (a 3) (a 4) ((a 12), (a 13), (a 14), (a 15), (a 16))) N).1).2.2.2.1)) 16 (((lgo (fuM (a 4)) (fun c => lastsV ((a 2) c) ((a 5) c)) (a 4) n (fun t => cix ((a 27) (F + t))) (mbeg n (a 3) (a 4) ((a 12), (a 13), (a 14), (a 15), (a 16))) N).1).2.2.2.2)) ++ ex) H → va_D A (mW ct o q (upd (upd g 17 ((lgo (fuM (a 4)) (fun c => lastsV ((a 2) c) ((a 5) c)) (a 4) n (fun t => cix ((a 27) (F + t))) (mbeg n (a 3) (a 4) ((a 12), (a 13), (a 14), (a 15), (a 16))) N).2.1)) 18 ((lgo (fuM (a 4)) (fun c => lastsV ((a 2) c) ((a 5) c)) (a 4) n (fun t => cix ((a 27) (F + t))) (mbeg n (a 3) (a 4) ((a 12), (a 13), (a 14), (a 15), (a 16))) N).2.2)) (va_up (va_up (va_up (va_up (va_up a 12 (((lgo (fuM (a 4)) (fun c => lastsV ((a 2) c) ((a 5) c)) (a 4) n (fun t => cix ((a 27) (F + t))) (mbeg n (a 3) (a 4) ((a 12), (a 13), (a 14), (a 15), (a 16))) N).1).1)) 13 (((lgo (fuM (a 4)) (fun c => lastsV ((a 2) c) ((a 5) c)) (a 4) n (fun t => cix ((a 27) (F + t))) (mbeg n (a 3) (a 4) ((a 12), (a 13), (a 14), (a 15), (a 16))) N).1).2.1)) 14 (((lgo (fuM (a 4)) (fun c => lastsV ((a 2) c) ((a 5) c)) (a 4) n (fun t => cix ((a 27) (F + t))) (mbeg n (a 3) (a 4) ((a 12), (a 13), (a 14), (a 15), (a 16))) N).1).2.2.1)) 15 (((lgo (fuM (a 4)) (fun c => lastsV ((a 2) c) ((a 5) c)) (a 4) n (fun t => cix ((a 27) (F + t))) (mbeg n (a 3) (a 4) ((a 12), (a 13), (a 14), (a 15), (a 16))) N).1).2.2.2.1)) 16 (((lgo (fuM (a 4)) (fun c => lastsV ((a 2) c) ((a 5) c)) (a 4) n (fun t => cix ((a 27) (F + t))) (mbeg n (a 3) (a 4) ((a 12), (a 13), (a 14), (a 15), (a 16))) N).1).2.2.2.2)) ++ ex) → va_S A s.heap H locs → ∀ (ls : Array Slot), lv_has ls 5 [(4, .int (nI i)), (3, .int (b2i ((decide (¬ 0 ≤ (lgo (fuM (a 4)) (fun c => lastsV ((a 2) c) ((a 5) c)) (a 4) n (fun t => cix ((a 27) (F + t))) (mbeg n (a 3) (a 4) ((a 12), (a 13), (a 14), (a 15), (a 16))) N).2.1)) && rdOk (lgo (fuM (a 4)) (fun c => lastsV ((a 2) c) ((a 5) c)) (a 4) n (fun t => cix ((a 27) (F + t))) (mbeg n (a 3) (a 4) ((a 12), (a 13), (a 14), (a 15), (a 16))) N).1.2.2.2.1 (a 22) (a 23) (a 24) i))), (0, .ref o)] → W p l e (headSpec (ws_ yX2_areSo cX2_areSo 5 (some .boolean)) ({ frames := 4, cells := 0, slots := 0, locals := 92 })).room s m ([.ref o, .int (nI F), .int (nI N)] : List Value).toArray below meth c H locs 0 0 (MQ below (va_Qi (fun (r : Int32) (u : (Nat → Int32) × (Nat → Nat → Int32)) => r = (b2i (soV (cgo n (a 3) (a 4) (fun c => lastsV ((a 2) c) ((a 5) c)) (fun t => cix ((a 27) (F + t))) N) (a 22) (a 23) (a 24) rn)) ∧ ∃ (T : LnS (Nat → Int32) × Int32 × Int32), u = ((upd (upd g 17 T.2.1) 18 T.2.2), (va_up (va_up (va_up (va_up (va_up a 12 ((T.1).1)) 13 ((T.1).2.1)) 14 ((T.1).2.2.1)) 15 ((T.1).2.2.2.1)) 16 ((T.1).2.2.2.2)))) (mB dC dI ct A ex o q) A) ([.ref o, .int (nI F), .int (nI N)] : List Value).toArray s 0 0 A) (F0 m 22 ls []) := by
    intro f1
    induction f1 with
    | zero => intro i hi hf; exact False.elim (by omega)
    | succ f1 ih1 =>
      intro i hi hf H locs hP hD hS ls hl
      refine lv_iload hx hb dX2_areSo_22 (lv_at hl 0 rfl) ?_
      refine lv_aload_n hx hb dX2_areSo_24 rfl (lv_at hl 2 rfl) ?_
      refine m_get (v := .int (g 21)) hx hb hts hown hK hP 21 (by decide) rfl q1005 rfl dX2_areSo_25 ?_
      refine lv_icmp_ge (tgt := 79) hx hb dX2_areSo_28 (by decide) (fun c_1 => ?_) (fun c_1 => ?_)
      · skip
        have hge : i = rn := by rw [hrn] at c_1; exact Nat.le_antisymm (by omega) ((nI_leI (by omega) (by omega)).mp c_1)
        refine lv_iload_n hx hb dX2_areSo_79 rfl (lv_at hl 1 rfl) ?_
        exact W.zret (v := (b2i ((decide (¬ 0 ≤ (lgo (fuM (a 4)) (fun c => lastsV ((a 2) c) ((a 5) c)) (a 4) n (fun t => cix ((a 27) (F + t))) (mbeg n (a 3) (a 4) ((a 12), (a 13), (a 14), (a 15), (a 16))) N).2.1)) && rdOk (lgo (fuM (a 4)) (fun c => lastsV ((a 2) c) ((a 5) c)) (a 4) n (fun t => cix ((a 27) (F + t))) (mbeg n (a 3) (a 4) ((a 12), (a 13), (a 14), (a 15), (a 16))) N).1.2.2.2.1 (a 22) (a 23) (a 24) i))) hx hb hr (nar_b2i _) (fun t ht hW => ⟨⟨(b2i ((decide (¬ 0 ≤ (lgo (fuM (a 4)) (fun c => lastsV ((a 2) c) ((a 5) c)) (a 4) n (fun t => cix ((a 27) (F + t))) (mbeg n (a 3) (a 4) ((a 12), (a 13), (a 14), (a 15), (a 16))) N).2.1)) && rdOk (lgo (fuM (a 4)) (fun c => lastsV ((a 2) c) ((a 5) c)) (a 4) n (fun t => cix ((a 27) (F + t))) (mbeg n (a 3) (a 4) ((a 12), (a 13), (a 14), (a 15), (a 16))) N).1.2.2.2.1 (a 22) (a 23) (a 24) i)), ((upd (upd g 17 ((lgo (fuM (a 4)) (fun c => lastsV ((a 2) c) ((a 5) c)) (a 4) n (fun t => cix ((a 27) (F + t))) (mbeg n (a 3) (a 4) ((a 12), (a 13), (a 14), (a 15), (a 16))) N).2.1)) 18 ((lgo (fuM (a 4)) (fun c => lastsV ((a 2) c) ((a 5) c)) (a 4) n (fun t => cix ((a 27) (F + t))) (mbeg n (a 3) (a 4) ((a 12), (a 13), (a 14), (a 15), (a 16))) N).2.2)), (va_up (va_up (va_up (va_up (va_up a 12 (((lgo (fuM (a 4)) (fun c => lastsV ((a 2) c) ((a 5) c)) (a 4) n (fun t => cix ((a 27) (F + t))) (mbeg n (a 3) (a 4) ((a 12), (a 13), (a 14), (a 15), (a 16))) N).1).1)) 13 (((lgo (fuM (a 4)) (fun c => lastsV ((a 2) c) ((a 5) c)) (a 4) n (fun t => cix ((a 27) (F + t))) (mbeg n (a 3) (a 4) ((a 12), (a 13), (a 14), (a 15), (a 16))) N).1).2.1)) 14 (((lgo (fuM (a 4)) (fun c => lastsV ((a 2) c) ((a 5) c)) (a 4) n (fun t => cix ((a 27) (F + t))) (mbeg n (a 3) (a 4) ((a 12), (a 13), (a 14), (a 15), (a 16))) N).1).2.2.1)) 15 (((lgo (fuM (a 4)) (fun c => lastsV ((a 2) c) ((a 5) c)) (a 4) n (fun t => cix ((a 27) (F + t))) (mbeg n (a 3) (a 4) ((a 12), (a 13), (a 14), (a 15), (a 16))) N).1).2.2.2.1)) 16 (((lgo (fuM (a 4)) (fun c => lastsV ((a 2) c) ((a 5) c)) (a 4) n (fun t => cix ((a 27) (F + t))) (mbeg n (a 3) (a 4) ((a 12), (a 13), (a 14), (a 15), (a 16))) N).1).2.2.2.2))), rfl, ⟨(by rw [hge]; exact congrArg b2i (soV_c (by omega) _ (fun t ht => (hpr t ht).2) (fun k hk => (hrw k hk).2))), ⟨(lgo (fuM (a 4)) (fun c => lastsV ((a 2) c) ((a 5) c)) (a 4) n (fun t => cix ((a 27) (F + t))) (mbeg n (a 3) (a 4) ((a 12), (a 13), (a 14), (a 15), (a 16))) N), rfl⟩⟩, by rw [ht]; exact hP, va_K.moved hW.alike hK, hD⟩, hS.F ht⟩) hS.2.2 dX2_areSo_80
      · skip
        have hlt : i < rn := by rw [hrn] at c_1; exact Nat.lt_of_not_le (fun z => c_1 ((nI_leI (by omega) (by omega)).mpr z))
        refine lv_iload_n hx hb dX2_areSo_31 rfl (lv_at hl 1 rfl) ?_
        refine bz_eq (tgt := 71) hx hb dX2_areSo_32 (by decide) (fun c_2 => ?_) (fun c_2 => ?_)
        · skip
          skip
          refine lv_iconst (v := 0) hx hb dX2_areSo_71 (by decide) ?_
          refine lv_topi (fun z_3 ez_3 => ?_)
          have ez_3 : z_3 = (b2i ((decide (¬ 0 ≤ (lgo (fuM (a 4)) (fun c => lastsV ((a 2) c) ((a 5) c)) (a 4) n (fun t => cix ((a 27) (F + t))) (mbeg n (a 3) (a 4) ((a 12), (a 13), (a 14), (a 15), (a 16))) N).2.1)) && rdOk (lgo (fuM (a 4)) (fun c => lastsV ((a 2) c) ((a 5) c)) (a 4) n (fun t => cix ((a 27) (F + t))) (mbeg n (a 3) (a 4) ((a 12), (a 13), (a 14), (a 15), (a 16))) N).1.2.2.2.1 (a 22) (a 23) (a 24) (i + 1))) := ez_3.trans (congrArg b2i (show false = ((decide (¬ 0 ≤ (lgo (fuM (a 4)) (fun c => lastsV ((a 2) c) ((a 5) c)) (a 4) n (fun t => cix ((a 27) (F + t))) (mbeg n (a 3) (a 4) ((a 12), (a 13), (a 14), (a 15), (a 16))) N).2.1)) && (rdOk (lgo (fuM (a 4)) (fun c => lastsV ((a 2) c) ((a 5) c)) (a 4) n (fun t => cix ((a 27) (F + t))) (mbeg n (a 3) (a 4) ((a 12), (a 13), (a 14), (a 15), (a 16))) N).1.2.2.2.1 (a 22) (a 23) (a 24) i && _)) by rw [← Bool.and_assoc, c_2, Bool.false_and]))
          subst ez_3
          refine lv_istore_n (lv' := [(3, .int (b2i ((decide (¬ 0 ≤ (lgo (fuM (a 4)) (fun c => lastsV ((a 2) c) ((a 5) c)) (a 4) n (fun t => cix ((a 27) (F + t))) (mbeg n (a 3) (a 4) ((a 12), (a 13), (a 14), (a 15), (a 16))) N).2.1)) && rdOk (lgo (fuM (a 4)) (fun c => lastsV ((a 2) c) ((a 5) c)) (a 4) n (fun t => cix ((a 27) (F + t))) (mbeg n (a 3) (a 4) ((a 12), (a 13), (a 14), (a 15), (a 16))) N).1.2.2.2.1 (a 22) (a 23) (a 24) (i + 1)))), (4, .int (nI i)), (0, .ref o)]) hx hb dX2_areSo_72 rfl hl (by decide) rfl (fun ls hl => ?_)
          refine lv_iinc (v := (nI (i + 1))) (lv' := [(4, .int (nI (i + 1))), (3, .int (b2i ((decide (¬ 0 ≤ (lgo (fuM (a 4)) (fun c => lastsV ((a 2) c) ((a 5) c)) (a 4) n (fun t => cix ((a 27) (F + t))) (mbeg n (a 3) (a 4) ((a 12), (a 13), (a 14), (a 15), (a 16))) N).2.1)) && rdOk (lgo (fuM (a 4)) (fun c => lastsV ((a 2) c) ((a 5) c)) (a 4) n (fun t => cix ((a 27) (F + t))) (mbeg n (a 3) (a 4) ((a 12), (a 13), (a 14), (a 15), (a 16))) N).1.2.2.2.1 (a 22) (a 23) (a 24) (i + 1)))), (0, .ref o)]) hx hb dX2_areSo_73 hl (k := 1) rfl (nI_1 i) (by decide) rfl (fun ls hl => ?_)
          refine lv_goto (tgt := 22) hx hb dX2_areSo_76 (by decide) ?_
          exact ih1 (i + 1) (by omega) (by omega) _ _ hP hD hS _ (lv_sub hl [0, 1, 2] rfl)
        · skip
          refine lv_aload_n hx hb dX2_areSo_35 rfl (lv_at hl 2 rfl) ?_
          refine m_get (v := .ref (q 15)) hx hb hts hown hK hP 15 (by decide) rfl q999 rfl dX2_areSo_36 ?_
          refine lv_aload_n hx hb dX2_areSo_39 rfl (lv_at hl 2 rfl) ?_
          refine m_get (v := .ref (q 22)) hx hb hts hown hK hP 22 (by decide) rfl q1006 rfl dX2_areSo_40 ?_
          refine lv_iload hx hb dX2_areSo_43 (lv_at hl 0 rfl) ?_
          refine m_ild hx hb hK hP (mWa22 _ _ _ _ _ _) (a 22) rfl i rfl (by omega) (by decide) dX2_areSo_45 ?_
          refine m_ild hx hb hK hP (mWa15 _ _ _ _ _ _) (((lgo (fuM (a 4)) (fun c => lastsV ((a 2) c) ((a 5) c)) (a 4) n (fun t => cix ((a 27) (F + t))) (mbeg n (a 3) (a 4) ((a 12), (a 13), (a 14), (a 15), (a 16))) N).1).2.2.2.1) rfl (cix (a 22 i)) (hrw i hlt).1 (Nat.lt_of_lt_of_le (hrw i hlt).2 hn6) (by decide) dX2_areSo_46 ?_
          refine lv_aload_n hx hb dX2_areSo_47 rfl (lv_at hl 2 rfl) ?_
          refine m_get (v := .ref (q 23)) hx hb hts hown hK hP 23 (by decide) rfl q1007 rfl dX2_areSo_48 ?_
          refine lv_iload hx hb dX2_areSo_51 (lv_at hl 0 rfl) ?_
          refine m_ild hx hb hK hP (mWa23 _ _ _ _ _ _) (a 23) rfl i rfl (by omega) (by decide) dX2_areSo_53 ?_
          refine vp_callSi ((va_runS (As := [.int (((lgo (fuM (a 4)) (fun c => lastsV ((a 2) c) ((a 5) c)) (a 4) n (fun t => cix ((a 27) (F + t))) (mbeg n (a 3) (a 4) ((a 12), (a 13), (a 14), (a 15), (a 16))) N).1).2.2.2.1 (cix (a 22 i))), .int ((a 23) i)]) (rest := []) ⟨hx, hb, hml, hown, hts⟩ (metX2_isIn l (((lgo (fuM (a 4)) (fun c => lastsV ((a 2) c) ((a 5) c)) (a 4) n (fun t => cix ((a 27) (F + t))) (mbeg n (a 3) (a 4) ((a 12), (a 13), (a 14), (a 15), (a 16))) N).1).2.2.2.1 (cix (a 22 i))) ((a 23) i) ) (va_cwS 2 hts (lw_S q1166 q1167 q74 q1168) rfl rfl rfl (by decide +kernel) ⟨Nat.le_of_ble_eq_true rfl, Nat.le_of_ble_eq_true rfl⟩) (pcS _) rfl rfl hl.1 rfl (lv_room (Nat.le_of_ble_eq_true rfl)) dX2_areSo_54 ⟨Nat.zero_le _, Nat.zero_le _⟩)).run (fun r hw => ?_)
          have hw : r = (b2i (bq (((lgo (fuM (a 4)) (fun c => lastsV ((a 2) c) ((a 5) c)) (a 4) n (fun t => cix ((a 27) (F + t))) (mbeg n (a 3) (a 4) ((a 12), (a 13), (a 14), (a 15), (a 16))) N).1).2.2.2.1 (cix (a 22 i))) ((a 23) i))) := hw
          subst hw
          refine lv_aload_n hx hb dX2_areSo_57 rfl (lv_at hl 2 rfl) ?_
          refine m_get (v := .ref (q 24)) hx hb hts hown hK hP 24 (by decide) rfl q1008 rfl dX2_areSo_58 ?_
          refine lv_iload hx hb dX2_areSo_61 (lv_at hl 0 rfl) ?_
          refine m_zld hx hb hK hP (mWa24 _ _ _ _ _ _) (a 24) rfl i rfl (by omega) (by decide) dX2_areSo_63 ?_
          refine lv_icmp_ne (tgt := 71) hx hb dX2_areSo_64 (by decide) (fun c_4 => ?_) (fun c_4 => ?_)
          · skip
            skip
            refine lv_iconst (v := 0) hx hb dX2_areSo_71 (by decide) ?_
            refine lv_topi (fun z_5 ez_5 => ?_)
            have ez_5 : z_5 = (b2i ((decide (¬ 0 ≤ (lgo (fuM (a 4)) (fun c => lastsV ((a 2) c) ((a 5) c)) (a 4) n (fun t => cix ((a 27) (F + t))) (mbeg n (a 3) (a 4) ((a 12), (a 13), (a 14), (a 15), (a 16))) N).2.1)) && rdOk (lgo (fuM (a 4)) (fun c => lastsV ((a 2) c) ((a 5) c)) (a 4) n (fun t => cix ((a 27) (F + t))) (mbeg n (a 3) (a 4) ((a 12), (a 13), (a 14), (a 15), (a 16))) N).1.2.2.2.1 (a 22) (a 23) (a 24) (i + 1))) := ez_5.trans (congrArg b2i (show false = ((decide (¬ 0 ≤ (lgo (fuM (a 4)) (fun c => lastsV ((a 2) c) ((a 5) c)) (a 4) n (fun t => cix ((a 27) (F + t))) (mbeg n (a 3) (a 4) ((a 12), (a 13), (a 14), (a 15), (a 16))) N).2.1)) && (rdOk (lgo (fuM (a 4)) (fun c => lastsV ((a 2) c) ((a 5) c)) (a 4) n (fun t => cix ((a 27) (F + t))) (mbeg n (a 3) (a 4) ((a 12), (a 13), (a 14), (a 15), (a 16))) N).1.2.2.2.1 (a 22) (a 23) (a 24) i && _)) by rw [decide_eq_false c_4, Bool.and_false, Bool.and_false]))
            subst ez_5
            refine lv_istore_n (lv' := [(3, .int (b2i ((decide (¬ 0 ≤ (lgo (fuM (a 4)) (fun c => lastsV ((a 2) c) ((a 5) c)) (a 4) n (fun t => cix ((a 27) (F + t))) (mbeg n (a 3) (a 4) ((a 12), (a 13), (a 14), (a 15), (a 16))) N).2.1)) && rdOk (lgo (fuM (a 4)) (fun c => lastsV ((a 2) c) ((a 5) c)) (a 4) n (fun t => cix ((a 27) (F + t))) (mbeg n (a 3) (a 4) ((a 12), (a 13), (a 14), (a 15), (a 16))) N).1.2.2.2.1 (a 22) (a 23) (a 24) (i + 1)))), (4, .int (nI i)), (0, .ref o)]) hx hb dX2_areSo_72 rfl hl (by decide) rfl (fun ls hl => ?_)
            refine lv_iinc (v := (nI (i + 1))) (lv' := [(4, .int (nI (i + 1))), (3, .int (b2i ((decide (¬ 0 ≤ (lgo (fuM (a 4)) (fun c => lastsV ((a 2) c) ((a 5) c)) (a 4) n (fun t => cix ((a 27) (F + t))) (mbeg n (a 3) (a 4) ((a 12), (a 13), (a 14), (a 15), (a 16))) N).2.1)) && rdOk (lgo (fuM (a 4)) (fun c => lastsV ((a 2) c) ((a 5) c)) (a 4) n (fun t => cix ((a 27) (F + t))) (mbeg n (a 3) (a 4) ((a 12), (a 13), (a 14), (a 15), (a 16))) N).1.2.2.2.1 (a 22) (a 23) (a 24) (i + 1)))), (0, .ref o)]) hx hb dX2_areSo_73 hl (k := 1) rfl (nI_1 i) (by decide) rfl (fun ls hl => ?_)
            refine lv_goto (tgt := 22) hx hb dX2_areSo_76 (by decide) ?_
            exact ih1 (i + 1) (by omega) (by omega) _ _ hP hD hS _ (lv_sub hl [0, 1, 2] rfl)
          · skip
            refine lv_iconst (v := 1) hx hb dX2_areSo_67 (by decide) ?_
            refine lv_goto (tgt := 72) hx hb dX2_areSo_68 (by decide) ?_
            refine lv_topi (fun z_6 ez_6 => ?_)
            have ez_6 : z_6 = (b2i ((decide (¬ 0 ≤ (lgo (fuM (a 4)) (fun c => lastsV ((a 2) c) ((a 5) c)) (a 4) n (fun t => cix ((a 27) (F + t))) (mbeg n (a 3) (a 4) ((a 12), (a 13), (a 14), (a 15), (a 16))) N).2.1)) && rdOk (lgo (fuM (a 4)) (fun c => lastsV ((a 2) c) ((a 5) c)) (a 4) n (fun t => cix ((a 27) (F + t))) (mbeg n (a 3) (a 4) ((a 12), (a 13), (a 14), (a 15), (a 16))) N).1.2.2.2.1 (a 22) (a 23) (a 24) (i + 1))) := ez_6.trans (congrArg b2i (show true = ((decide (¬ 0 ≤ (lgo (fuM (a 4)) (fun c => lastsV ((a 2) c) ((a 5) c)) (a 4) n (fun t => cix ((a 27) (F + t))) (mbeg n (a 3) (a 4) ((a 12), (a 13), (a 14), (a 15), (a 16))) N).2.1)) && (rdOk (lgo (fuM (a 4)) (fun c => lastsV ((a 2) c) ((a 5) c)) (a 4) n (fun t => cix ((a 27) (F + t))) (mbeg n (a 3) (a 4) ((a 12), (a 13), (a 14), (a 15), (a 16))) N).1.2.2.2.1 (a 22) (a 23) (a 24) i && _)) by rw [decide_eq_true c_4, Bool.and_true]; exact c_2.symm))
            subst ez_6
            refine lv_istore_n (lv' := [(3, .int (b2i ((decide (¬ 0 ≤ (lgo (fuM (a 4)) (fun c => lastsV ((a 2) c) ((a 5) c)) (a 4) n (fun t => cix ((a 27) (F + t))) (mbeg n (a 3) (a 4) ((a 12), (a 13), (a 14), (a 15), (a 16))) N).2.1)) && rdOk (lgo (fuM (a 4)) (fun c => lastsV ((a 2) c) ((a 5) c)) (a 4) n (fun t => cix ((a 27) (F + t))) (mbeg n (a 3) (a 4) ((a 12), (a 13), (a 14), (a 15), (a 16))) N).1.2.2.2.1 (a 22) (a 23) (a 24) (i + 1)))), (4, .int (nI i)), (0, .ref o)]) hx hb dX2_areSo_72 rfl hl (by decide) rfl (fun ls hl => ?_)
            refine lv_iinc (v := (nI (i + 1))) (lv' := [(4, .int (nI (i + 1))), (3, .int (b2i ((decide (¬ 0 ≤ (lgo (fuM (a 4)) (fun c => lastsV ((a 2) c) ((a 5) c)) (a 4) n (fun t => cix ((a 27) (F + t))) (mbeg n (a 3) (a 4) ((a 12), (a 13), (a 14), (a 15), (a 16))) N).2.1)) && rdOk (lgo (fuM (a 4)) (fun c => lastsV ((a 2) c) ((a 5) c)) (a 4) n (fun t => cix ((a 27) (F + t))) (mbeg n (a 3) (a 4) ((a 12), (a 13), (a 14), (a 15), (a 16))) N).1.2.2.2.1 (a 22) (a 23) (a 24) (i + 1)))), (0, .ref o)]) hx hb dX2_areSo_73 hl (k := 1) rfl (nI_1 i) (by decide) rfl (fun ls hl => ?_)
            refine lv_goto (tgt := 22) hx hb dX2_areSo_76 (by decide) ?_
            exact ih1 (i + 1) (by omega) (by omega) _ _ hP hD hS _ (lv_sub hl [0, 1, 2] rfl)
  refine lv_if_ge (tgt := 17) hx hb dX2_areSo_10 (by decide) (fun c_7 => ?_) (fun c_7 => ?_)
  · skip
    refine lv_iconst (v := 0) hx hb dX2_areSo_17 (by decide) ?_
    refine lv_topi (fun z_8 ez_8 => ?_)
    have ez_8 : z_8 = (b2i ((decide (¬ 0 ≤ (lgo (fuM (a 4)) (fun c => lastsV ((a 2) c) ((a 5) c)) (a 4) n (fun t => cix ((a 27) (F + t))) (mbeg n (a 3) (a 4) ((a 12), (a 13), (a 14), (a 15), (a 16))) N).2.1)) && rdOk (lgo (fuM (a 4)) (fun c => lastsV ((a 2) c) ((a 5) c)) (a 4) n (fun t => cix ((a 27) (F + t))) (mbeg n (a 3) (a 4) ((a 12), (a 13), (a 14), (a 15), (a 16))) N).1.2.2.2.1 (a 22) (a 23) (a 24) 0)) := ez_8.trans (by rw [decide_eq_false (fun z => z c_7)]; rfl)
    subst ez_8
    refine lv_istore_n (lv' := [(3, .int (b2i ((decide (¬ 0 ≤ (lgo (fuM (a 4)) (fun c => lastsV ((a 2) c) ((a 5) c)) (a 4) n (fun t => cix ((a 27) (F + t))) (mbeg n (a 3) (a 4) ((a 12), (a 13), (a 14), (a 15), (a 16))) N).2.1)) && rdOk (lgo (fuM (a 4)) (fun c => lastsV ((a 2) c) ((a 5) c)) (a 4) n (fun t => cix ((a 27) (F + t))) (mbeg n (a 3) (a 4) ((a 12), (a 13), (a 14), (a 15), (a 16))) N).1.2.2.2.1 (a 22) (a 23) (a 24) 0))), (0, .ref o), (1, .int (nI F)), (2, .int (nI N))]) hx hb dX2_areSo_18 rfl hl (by decide) rfl (fun ls hl => ?_)
    refine lv_iconst (v := 0) hx hb dX2_areSo_19 (by decide) ?_
    refine lv_istore (lv' := [(4, .int 0), (3, .int (b2i ((decide (¬ 0 ≤ (lgo (fuM (a 4)) (fun c => lastsV ((a 2) c) ((a 5) c)) (a 4) n (fun t => cix ((a 27) (F + t))) (mbeg n (a 3) (a 4) ((a 12), (a 13), (a 14), (a 15), (a 16))) N).2.1)) && rdOk (lgo (fuM (a 4)) (fun c => lastsV ((a 2) c) ((a 5) c)) (a 4) n (fun t => cix ((a 27) (F + t))) (mbeg n (a 3) (a 4) ((a 12), (a 13), (a 14), (a 15), (a 16))) N).1.2.2.2.1 (a 22) (a 23) (a 24) 0))), (0, .ref o), (1, .int (nI F)), (2, .int (nI N))]) hx hb dX2_areSo_20 hl (by decide) rfl (fun ls hl => ?_)
    exact loop1 (rn + 1) 0 (by omega) (by omega) _ _ hP hD hS _ (lv_sub hl [0, 1, 2] rfl)
  · skip
    refine lv_iconst (v := 1) hx hb dX2_areSo_13 (by decide) ?_
    refine lv_goto (tgt := 18) hx hb dX2_areSo_14 (by decide) ?_
    refine lv_topi (fun z_9 ez_9 => ?_)
    have ez_9 : z_9 = (b2i ((decide (¬ 0 ≤ (lgo (fuM (a 4)) (fun c => lastsV ((a 2) c) ((a 5) c)) (a 4) n (fun t => cix ((a 27) (F + t))) (mbeg n (a 3) (a 4) ((a 12), (a 13), (a 14), (a 15), (a 16))) N).2.1)) && rdOk (lgo (fuM (a 4)) (fun c => lastsV ((a 2) c) ((a 5) c)) (a 4) n (fun t => cix ((a 27) (F + t))) (mbeg n (a 3) (a 4) ((a 12), (a 13), (a 14), (a 15), (a 16))) N).1.2.2.2.1 (a 22) (a 23) (a 24) 0)) := ez_9.trans (by rw [decide_eq_true c_7]; rfl)
    subst ez_9
    refine lv_istore_n (lv' := [(3, .int (b2i ((decide (¬ 0 ≤ (lgo (fuM (a 4)) (fun c => lastsV ((a 2) c) ((a 5) c)) (a 4) n (fun t => cix ((a 27) (F + t))) (mbeg n (a 3) (a 4) ((a 12), (a 13), (a 14), (a 15), (a 16))) N).2.1)) && rdOk (lgo (fuM (a 4)) (fun c => lastsV ((a 2) c) ((a 5) c)) (a 4) n (fun t => cix ((a 27) (F + t))) (mbeg n (a 3) (a 4) ((a 12), (a 13), (a 14), (a 15), (a 16))) N).1.2.2.2.1 (a 22) (a 23) (a 24) 0))), (0, .ref o), (1, .int (nI F)), (2, .int (nI N))]) hx hb dX2_areSo_18 rfl hl (by decide) rfl (fun ls hl => ?_)
    refine lv_iconst (v := 0) hx hb dX2_areSo_19 (by decide) ?_
    refine lv_istore (lv' := [(4, .int 0), (3, .int (b2i ((decide (¬ 0 ≤ (lgo (fuM (a 4)) (fun c => lastsV ((a 2) c) ((a 5) c)) (a 4) n (fun t => cix ((a 27) (F + t))) (mbeg n (a 3) (a 4) ((a 12), (a 13), (a 14), (a 15), (a 16))) N).2.1)) && rdOk (lgo (fuM (a 4)) (fun c => lastsV ((a 2) c) ((a 5) c)) (a 4) n (fun t => cix ((a 27) (F + t))) (mbeg n (a 3) (a 4) ((a 12), (a 13), (a 14), (a 15), (a 16))) N).1.2.2.2.1 (a 22) (a 23) (a 24) 0))), (0, .ref o), (1, .int (nI F)), (2, .int (nI N))]) hx hb dX2_areSo_20 hl (by decide) rfl (fun ls hl => ?_)
    exact loop1 (rn + 1) 0 (by omega) (by omega) _ _ hP hD hS _ (lv_sub hl [0, 1, 2] rfl)
set_option maxHeartbeats 4000000 in
set_option maxRecDepth 100000 in
theorem metX2_seenBarred (l : Launch) (dC : Nat → ClassId) (dI : Nat → Nat → Nat) (ct : Nat → ClassId) (A : Nat → Prop) (ex : va_W) (o : Nat) (q : Nat → Nat) (g : Nat → Int32) (a : Nat → Nat → Int32) (x : Int32) (y : Int32) (lane : Int32) (i : Int32) (z : Int32) (b : Bool) (n : Nat) (hn6 : n ≤ 6) (hn : g 1 = nI n) (hz : szOk (a 25)) : Met l yX2_seenBarred (ws_ yX2_seenBarred cX2_seenBarred 7 (some .int)) ({ frames := 3, cells := 0, slots := 0, locals := 74 }) (mPre dC dI ct A ex o q g a [.ref o, .int x, .int y, .int lane, .int i, .int z, .int (b2i b)]) (va_Qi (fun (r : Int32) (u : (Nat → Int32) × (Nat → Nat → Int32)) => r = (seenV n a x y lane i z b).1 ∧ u = ((upd g 0 ((seenV n a x y lane i z b).2)), a)) (mB dC dI ct A ex o q) A) 0 0 A := by
  refine Met.ofW (cc := cX2_seenBarred) (maxL := 7) (ret := (some .int)) (by decide) rfl ?_
  intro p e s m args below meth c s₁ B hml hv
  obtain ⟨rfl, hP, hK, hD⟩ := hv
  have hx := B.exec
  have hb := B.bytes
  have hr := B.returns
  have hts := atoms_spec (ws := ws_ yX2_seenBarred cX2_seenBarred 7 (some .int)) B.pre
  have hts : ∀ w ∈ lw_all, w.before _ s = true := fun w h => hts w (List.mem_cons_of_mem _ h)
  have hown : s.vm.findClass RX2 = some m.cls := findClass_of_methodNamed B.named
  have hlocks := B.notSynchronized
  have hS : va_S A s.heap s.heap [] := va_S.rf
  have hl := lv_entry ([.ref o, .int x, .int y, .int lane, .int i, .int z, .int (b2i b)]) (n := 7) (Nat.le_of_ble_eq_true rfl)
  rw [lg_entry_eq]
  generalize (lg_sl ([.ref o, .int x, .int y, .int lane, .int i, .int z, .int (b2i b)]) ++ List.replicate (7 - (lg_sl ([.ref o, .int x, .int y, .int lane, .int i, .int z, .int (b2i b)])).length) Slot.unset).toArray = ls at hl ⊢
  have hl : lv_has ls 7 [(0, .ref o), (1, .int x), (2, .int y), (3, .int lane), (4, .int i), (5, .int z), (6, .int (b2i b))] := hl
  refine lv_aload_n hx hb dX2_seenBarred_0 rfl (lv_at hl 0 rfl) ?_
  refine lv_iload_n hx hb dX2_seenBarred_1 rfl (lv_at hl 1 rfl) ?_
  refine vp_callSi ((va_runV (As := [.int x]) (rest := []) ⟨hx, hb, hml, hown, hts⟩ (metX2_noPerson l dC dI ct A ex o q g a x n hn6 hn) (cwV 1 hts (lw_V q1122 q1124 qs48 q74 q1125) rfl rfl rfl (by decide +kernel) ⟨Nat.le_of_ble_eq_true rfl, Nat.le_of_ble_eq_true rfl⟩) (mPV hK hP hD _) rfl rfl hl.1 rfl (lv_room (Nat.le_of_ble_eq_true rfl)) dX2_seenBarred_2 ⟨Nat.zero_le _, Nat.zero_le _⟩)).run (fun r hw => ?_)
  have hw : r = (b2i (!(inP x n))) := hw
  subst hw
  refine bz_ne (tgt := 15) hx hb dX2_seenBarred_5 (by decide) (fun c_1 => ?_) (fun c_1 => ?_)
  · skip
    refine lv_aload_n hx hb dX2_seenBarred_15 rfl (lv_at hl 0 rfl) ?_
    refine lv_iconst (v := (-1)) hx hb dX2_seenBarred_16 (by decide) ?_
    refine va_calli (va_runV (As := [.int (-1)]) (rest := []) ⟨hx, hb, hml, hown, hts⟩ (metX2_refused l dC dI ct A ex o q g a (-1) ) (cwV 1 hts (lw_V q1086 q1088 qs41 q74 q1089) rfl rfl rfl (by decide +kernel) ⟨Nat.le_of_ble_eq_true rfl, Nat.le_of_ble_eq_true rfl⟩) (mPV hK hP hD _) rfl rfl hl.1 rfl (lv_room (Nat.le_of_ble_eq_true rfl)) dX2_seenBarred_17 ⟨Nat.zero_le _, Nat.zero_le _⟩) hS (fun q _ h => h) (fun q h => h) (fun r u t H1 locs ht hvm hw hB hz1 hk1 hS => ?_)
    obtain ⟨hw, hw2⟩ := hw
    have hw : r = (-1) := hw
    subst hw
    subst hw2
    obtain ⟨hP, -, hD⟩ := hB
    rw [ht] at hP
    generalize H1 = H at hP hS ⊢
    have hP : va_P (dC, dI) clA (mW ct o q (upd g 0 0) a ++ ex) H := hP
    have hD : va_D A (mW ct o q (upd g 0 0) a ++ ex) := hD
    exact W.iret (v := (-1)) hx hb hr (fun t ht hW => ⟨⟨(-1), ((upd g 0 0), a), rfl, ⟨(by simp [seenV, show inP x n = false by simpa using c_1]), (by simp [seenV, show inP x n = false by simpa using c_1])⟩, by rw [ht]; exact hP, va_K.moved hW.alike hK, hD⟩, hS.F ht⟩) hS.2.2 dX2_seenBarred_20
  · skip
    have bX : inP x n = true := by simpa using c_1
    refine lv_iload_n hx hb dX2_seenBarred_8 rfl (lv_at hl 2 rfl) ?_
    refine vp_callSi ((va_runS (As := [.int y]) (rest := []) ⟨hx, hb, hml, hown, hts⟩ (metX2_noSheet l y ) (va_cwS 1 hts (lw_S q1079 q1080 q74 q1081) rfl rfl rfl (by decide +kernel) ⟨Nat.le_of_ble_eq_true rfl, Nat.le_of_ble_eq_true rfl⟩) (pcS _) rfl rfl hl.1 rfl (lv_room (Nat.le_of_ble_eq_true rfl)) dX2_seenBarred_9 ⟨Nat.zero_le _, Nat.zero_le _⟩)).run (fun r hw => ?_)
    have hw : r = (b2i (!(inP y 4))) := hw
    subst hw
    refine bz_eq (tgt := 21) hx hb dX2_seenBarred_12 (by decide) (fun c_2 => ?_) (fun c_2 => ?_)
    · skip
      obtain ⟨Y, hY4, ekY⟩ := inP_of (x := y) (n := 4) (by omega) (by simpa using c_2)
      subst ekY
      have eY : cix (nI Y) = Y := cix_nI (by omega)
      have bY : inP (nI Y) 4 = true := by rw [inP_nI (by omega)]; exact decide_eq_true hY4
      refine lv_iload_n hx hb dX2_seenBarred_21 rfl (lv_at hl 3 rfl) ?_
      refine lv_i2l (v := (Int32.toInt64 lane)) hx hb dX2_seenBarred_22 rfl ?_
      refine lv_lconst (v := 0) hx hb dX2_seenBarred_23 (by decide) ?_
      refine lv_ldc2 (v := 2) hx hb hown (hts _ q1090) dX2_seenBarred_24 ?_
      refine vp_callSi ((va_runS (As := [.long (Int32.toInt64 lane), .long 0, .long 2]) (rest := []) ⟨hx, hb, hml, hown, hts⟩ (metX2_in l (Int32.toInt64 lane) 0 2 ) (va_cwS 3 hts (lw_S q1083 q1084 q74 q1085) rfl rfl rfl (by decide +kernel) ⟨Nat.le_of_ble_eq_true rfl, Nat.le_of_ble_eq_true rfl⟩) (pcS _) rfl rfl hl.1 rfl (lv_room (Nat.le_of_ble_eq_true rfl)) dX2_seenBarred_27 ⟨Nat.zero_le _, Nat.zero_le _⟩)).run (fun r hw => ?_)
      have hw : r = (b2i (lin (Int32.toInt64 lane) 0 2)) := hw
      subst hw
      refine bz_eq (tgt := 51) hx hb dX2_seenBarred_30 (by decide) (fun c_3 => ?_) (fun c_3 => ?_)
      · skip
        rw [lin_inP _ _ 3 (by decide)] at c_3
        refine lv_aload_n hx hb dX2_seenBarred_51 rfl (lv_at hl 0 rfl) ?_
        refine lv_bipush (v := (-2)) hx hb dX2_seenBarred_52 (by decide) ?_
        refine va_calli (va_runV (As := [.int (-2)]) (rest := []) ⟨hx, hb, hml, hown, hts⟩ (metX2_refused l dC dI ct A ex o q g a (-2) ) (cwV 1 hts (lw_V q1086 q1088 qs41 q74 q1089) rfl rfl rfl (by decide +kernel) ⟨Nat.le_of_ble_eq_true rfl, Nat.le_of_ble_eq_true rfl⟩) (mPV hK hP hD _) rfl rfl hl.1 rfl (lv_room (Nat.le_of_ble_eq_true rfl)) dX2_seenBarred_54 ⟨Nat.zero_le _, Nat.zero_le _⟩) hS (fun q _ h => h) (fun q h => h) (fun r u t H1 locs ht hvm hw hB hz1 hk1 hS => ?_)
        obtain ⟨hw, hw2⟩ := hw
        have hw : r = (-2) := hw
        subst hw
        subst hw2
        obtain ⟨hP, -, hD⟩ := hB
        rw [ht] at hP
        generalize H1 = H at hP hS ⊢
        have hP : va_P (dC, dI) clA (mW ct o q (upd g 0 0) a ++ ex) H := hP
        have hD : va_D A (mW ct o q (upd g 0 0) a ++ ex) := hD
        exact W.iret (v := (-2)) hx hb hr (fun t ht hW => ⟨⟨(-2), ((upd g 0 0), a), rfl, ⟨(by simp [seenV, bX, bY, c_3]), (by simp [seenV, bX, bY, c_3])⟩, by rw [ht]; exact hP, va_K.moved hW.alike hK, hD⟩, hS.F ht⟩) hS.2.2 dX2_seenBarred_57
      · skip
        rw [lin_inP _ _ 3 (by decide)] at c_3
        refine lv_iload hx hb dX2_seenBarred_33 (lv_at hl 5 rfl) ?_
        refine lv_i2l (v := (Int32.toInt64 z)) hx hb dX2_seenBarred_35 rfl ?_
        refine lv_lconst (v := 0) hx hb dX2_seenBarred_36 (by decide) ?_
        refine lv_ldc2 (v := 20) hx hb hown (hts _ q1146) dX2_seenBarred_37 ?_
        refine vp_callSi ((va_runS (As := [.long (Int32.toInt64 z), .long 0, .long 20]) (rest := []) ⟨hx, hb, hml, hown, hts⟩ (metX2_in l (Int32.toInt64 z) 0 20 ) (va_cwS 3 hts (lw_S q1083 q1084 q74 q1085) rfl rfl rfl (by decide +kernel) ⟨Nat.le_of_ble_eq_true rfl, Nat.le_of_ble_eq_true rfl⟩) (pcS _) rfl rfl hl.1 rfl (lv_room (Nat.le_of_ble_eq_true rfl)) dX2_seenBarred_40 ⟨Nat.zero_le _, Nat.zero_le _⟩)).run (fun r hw => ?_)
        have hw : r = (b2i (lin (Int32.toInt64 z) 0 20)) := hw
        subst hw
        refine bz_eq (tgt := 51) hx hb dX2_seenBarred_43 (by decide) (fun c_4 => ?_) (fun c_4 => ?_)
        · skip
          rw [lin_inP _ _ 21 (by decide)] at c_4
          refine lv_aload_n hx hb dX2_seenBarred_51 rfl (lv_at hl 0 rfl) ?_
          refine lv_bipush (v := (-2)) hx hb dX2_seenBarred_52 (by decide) ?_
          refine va_calli (va_runV (As := [.int (-2)]) (rest := []) ⟨hx, hb, hml, hown, hts⟩ (metX2_refused l dC dI ct A ex o q g a (-2) ) (cwV 1 hts (lw_V q1086 q1088 qs41 q74 q1089) rfl rfl rfl (by decide +kernel) ⟨Nat.le_of_ble_eq_true rfl, Nat.le_of_ble_eq_true rfl⟩) (mPV hK hP hD _) rfl rfl hl.1 rfl (lv_room (Nat.le_of_ble_eq_true rfl)) dX2_seenBarred_54 ⟨Nat.zero_le _, Nat.zero_le _⟩) hS (fun q _ h => h) (fun q h => h) (fun r u t H1 locs ht hvm hw hB hz1 hk1 hS => ?_)
          obtain ⟨hw, hw2⟩ := hw
          have hw : r = (-2) := hw
          subst hw
          subst hw2
          obtain ⟨hP, -, hD⟩ := hB
          rw [ht] at hP
          generalize H1 = H at hP hS ⊢
          have hP : va_P (dC, dI) clA (mW ct o q (upd g 0 0) a ++ ex) H := hP
          have hD : va_D A (mW ct o q (upd g 0 0) a ++ ex) := hD
          exact W.iret (v := (-2)) hx hb hr (fun t ht hW => ⟨⟨(-2), ((upd g 0 0), a), rfl, ⟨(by simp [seenV, bX, bY, c_3, c_4]), (by simp [seenV, bX, bY, c_3, c_4])⟩, by rw [ht]; exact hP, va_K.moved hW.alike hK, hD⟩, hS.F ht⟩) hS.2.2 dX2_seenBarred_57
        · skip
          rw [lin_inP _ _ 21 (by decide)] at c_4
          obtain ⟨Z, hZ, ekZ⟩ := inP_of (x := z) (n := 21) (by omega) c_4
          subst ekZ
          have eZ : cix (nI Z) = Z := cix_nI (by omega)
          have bZ : inP (nI Z) 21 = true := by rw [inP_nI (by omega)]; exact decide_eq_true hZ
          refine lv_iload hx hb dX2_seenBarred_46 (lv_at hl 6 rfl) ?_
          refine bz_ne (tgt := 58) hx hb dX2_seenBarred_48 (by decide) (fun c_5 => ?_) (fun c_5 => ?_)
          · skip
            refine lv_aload_n hx hb dX2_seenBarred_58 rfl (lv_at hl 0 rfl) ?_
            refine lv_iload_n hx hb dX2_seenBarred_59 rfl (lv_at hl 2 rfl) ?_
            refine lv_iload_n hx hb dX2_seenBarred_60 rfl (lv_at hl 3 rfl) ?_
            refine lv_iload hx hb dX2_seenBarred_61 (lv_at hl 4 rfl) ?_
            refine lv_iload hx hb dX2_seenBarred_63 (lv_at hl 5 rfl) ?_
            refine va_calli (va_runV (As := [.int (nI Y), .int lane, .int i, .int (nI Z)]) (rest := []) ⟨hx, hb, hml, hown, hts⟩ (metX2_pairsBarred l dC dI ct A ex o q g a (nI Y) lane i (nI Z) n Y Z hn6 hn hY4 rfl rfl (by omega) hz) (cwV 4 hts (lw_V q1150 q1152 qs50 q74 q1153) rfl rfl rfl (by decide +kernel) ⟨Nat.le_of_ble_eq_true rfl, Nat.le_of_ble_eq_true rfl⟩) (mPV hK hP hD _) rfl rfl hl.1 rfl (lv_room (Nat.le_of_ble_eq_true rfl)) dX2_seenBarred_65 ⟨Nat.zero_le _, Nat.zero_le _⟩) hS (fun q _ h => h) (fun q h => h) (fun r u t H1 locs ht hvm hw hB hz1 hk1 hS => ?_)
            obtain ⟨hw, hw2⟩ := hw
            have hw : r = (if (barV ((a 25) Y) ((a 26) Y) lane i (lN (2 * Z))) = 0 then (if (allP n (fun t => (a 27) (60 * Y + cix i + t)) (2 * Z)) = true then 0 else (-1)) else (-10) - (barV ((a 25) Y) ((a 26) Y) lane i (lN (2 * Z)))) := hw
            subst hw
            subst hw2
            obtain ⟨hP, -, hD⟩ := hB
            rw [ht] at hP
            generalize H1 = H at hP hS ⊢
            have hP : va_P (dC, dI) clA (mW ct o q (upd g 0 (if (barV ((a 25) Y) ((a 26) Y) lane i (lN (2 * Z))) = 0 then 0 else (barV ((a 25) Y) ((a 26) Y) lane i (lN (2 * Z))))) a ++ ex) H := hP
            have hD : va_D A (mW ct o q (upd g 0 (if (barV ((a 25) Y) ((a 26) Y) lane i (lN (2 * Z))) = 0 then 0 else (barV ((a 25) Y) ((a 26) Y) lane i (lN (2 * Z))))) a ++ ex) := hD
            have eV : seenV n a x (nI Y) lane i (nI Z) b = pairsV n (a 25 Y) (a 26 Y) (fun t => a 27 (60 * Y + cix i + t)) lane i Z := by rw [seenV, if_pos (And.intro bX bY), if_pos (And.intro c_3 (And.intro bZ c_5)), eY, eZ]
            exact W.iret (v := (if (barV ((a 25) Y) ((a 26) Y) lane i (lN (2 * Z))) = 0 then (if (allP n (fun t => (a 27) (60 * Y + cix i + t)) (2 * Z)) = true then 0 else (-1)) else (-10) - (barV ((a 25) Y) ((a 26) Y) lane i (lN (2 * Z))))) hx hb hr (fun t ht hW => ⟨⟨(if (barV ((a 25) Y) ((a 26) Y) lane i (lN (2 * Z))) = 0 then (if (allP n (fun t => (a 27) (60 * Y + cix i + t)) (2 * Z)) = true then 0 else (-1)) else (-10) - (barV ((a 25) Y) ((a 26) Y) lane i (lN (2 * Z)))), ((upd g 0 (if (barV ((a 25) Y) ((a 26) Y) lane i (lN (2 * Z))) = 0 then 0 else (barV ((a 25) Y) ((a 26) Y) lane i (lN (2 * Z))))), a), rfl, ⟨(by rw [eV, pairsV]; by_cases hbv : barV (a 25 Y) (a 26 Y) lane i (lN (2 * Z)) = 0 <;> simp only [hbv, if_true, if_false]), (by rw [eV, pairsV]; by_cases hbv : barV (a 25 Y) (a 26 Y) lane i (lN (2 * Z)) = 0 <;> simp only [hbv, if_true, if_false])⟩, by rw [ht]; exact hP, va_K.moved hW.alike hK, hD⟩, hS.F ht⟩) hS.2.2 dX2_seenBarred_68
          · skip
            refine lv_aload_n hx hb dX2_seenBarred_51 rfl (lv_at hl 0 rfl) ?_
            refine lv_bipush (v := (-2)) hx hb dX2_seenBarred_52 (by decide) ?_
            refine va_calli (va_runV (As := [.int (-2)]) (rest := []) ⟨hx, hb, hml, hown, hts⟩ (metX2_refused l dC dI ct A ex o q g a (-2) ) (cwV 1 hts (lw_V q1086 q1088 qs41 q74 q1089) rfl rfl rfl (by decide +kernel) ⟨Nat.le_of_ble_eq_true rfl, Nat.le_of_ble_eq_true rfl⟩) (mPV hK hP hD _) rfl rfl hl.1 rfl (lv_room (Nat.le_of_ble_eq_true rfl)) dX2_seenBarred_54 ⟨Nat.zero_le _, Nat.zero_le _⟩) hS (fun q _ h => h) (fun q h => h) (fun r u t H1 locs ht hvm hw hB hz1 hk1 hS => ?_)
            obtain ⟨hw, hw2⟩ := hw
            have hw : r = (-2) := hw
            subst hw
            subst hw2
            obtain ⟨hP, -, hD⟩ := hB
            rw [ht] at hP
            generalize H1 = H at hP hS ⊢
            have hP : va_P (dC, dI) clA (mW ct o q (upd g 0 0) a ++ ex) H := hP
            have hD : va_D A (mW ct o q (upd g 0 0) a ++ ex) := hD
            exact W.iret (v := (-2)) hx hb hr (fun t ht hW => ⟨⟨(-2), ((upd g 0 0), a), rfl, ⟨(by simp [seenV, bX, bY, c_3, c_4, c_5]), (by simp [seenV, bX, bY, c_3, c_4, c_5])⟩, by rw [ht]; exact hP, va_K.moved hW.alike hK, hD⟩, hS.F ht⟩) hS.2.2 dX2_seenBarred_57
    · skip
      refine lv_aload_n hx hb dX2_seenBarred_15 rfl (lv_at hl 0 rfl) ?_
      refine lv_iconst (v := (-1)) hx hb dX2_seenBarred_16 (by decide) ?_
      refine va_calli (va_runV (As := [.int (-1)]) (rest := []) ⟨hx, hb, hml, hown, hts⟩ (metX2_refused l dC dI ct A ex o q g a (-1) ) (cwV 1 hts (lw_V q1086 q1088 qs41 q74 q1089) rfl rfl rfl (by decide +kernel) ⟨Nat.le_of_ble_eq_true rfl, Nat.le_of_ble_eq_true rfl⟩) (mPV hK hP hD _) rfl rfl hl.1 rfl (lv_room (Nat.le_of_ble_eq_true rfl)) dX2_seenBarred_17 ⟨Nat.zero_le _, Nat.zero_le _⟩) hS (fun q _ h => h) (fun q h => h) (fun r u t H1 locs ht hvm hw hB hz1 hk1 hS => ?_)
      obtain ⟨hw, hw2⟩ := hw
      have hw : r = (-1) := hw
      subst hw
      subst hw2
      obtain ⟨hP, -, hD⟩ := hB
      rw [ht] at hP
      generalize H1 = H at hP hS ⊢
      have hP : va_P (dC, dI) clA (mW ct o q (upd g 0 0) a ++ ex) H := hP
      have hD : va_D A (mW ct o q (upd g 0 0) a ++ ex) := hD
      exact W.iret (v := (-1)) hx hb hr (fun t ht hW => ⟨⟨(-1), ((upd g 0 0), a), rfl, ⟨(by simp [seenV, show inP y 4 = false by simpa using c_2]), (by simp [seenV, show inP y 4 = false by simpa using c_2])⟩, by rw [ht]; exact hP, va_K.moved hW.alike hK, hD⟩, hS.F ht⟩) hS.2.2 dX2_seenBarred_20
