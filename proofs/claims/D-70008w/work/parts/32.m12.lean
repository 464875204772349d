/-! THE MODEL: the fewest -/
theorem fw_id (g : Nat → Int32) (a : Nat → Nat → Int32) : (g, a) = (upd (upd g 17 (g 17)) 18 (g 18), va_up (va_up (va_up (va_up (va_up (va_up a 12 (a 12)) 13 (a 13)) 14 (a 14)) 15 (a 15)) 16 (a 16)) 19 (a 19)) := by
  have h1 : upd g 17 (g 17) = g := upd_id g 17
  have h2 : upd g 18 (g 18) = g := upd_id g 18
  rw [h1, h2]
  simp only [va_up_id]
set_option maxHeartbeats 4000000 in
set_option maxRecDepth 100000 in
theorem metX2_isRow (l : Launch) (dC : Nat → ClassId) (dI : Nat → Nat → Nat) (ct : Nat → ClassId) (A : Nat → Prop) (ex : va_W) (o : Nat) (q : Nat → Nat) (g : Nat → Int32) (a : Nat → Nat → Int32) (x : Int32) (y : Int32) (set : Int32) (n R M : Nat) (hn6 : n ≤ 6) (hn : g 1 = nI n) (ex0 : x = nI R) (ey : y = nI M) (hM : M ≤ 3) (hR : R < 50000) : Met l yX2_isRow (ws_ yX2_isRow cX2_isRow 9 (some .boolean)) ({ frames := 3, cells := 0, slots := 0, locals := 66 }) (mPre dC dI ct A ex o q g a [.ref o, .int x, .int y, .int set]) (va_Qi (fun (r : Int32) (u : (Nat → Int32) × (Nat → Nat → Int32)) => r = (b2i (rowOk n (a 3) (a 4) (fun c => lastsV ((a 2) c) ((a 5) c)) set M (dg 36 R M))) ∧ ∃ (S : LnS (Nat → Int32)), u = ((upd (upd g 17 (-9)) 18 (-9)), (va_up (va_up (va_up (va_up (va_up (va_up a 12 S.1) 13 S.2.1) 14 S.2.2.1) 15 S.2.2.2.1) 16 S.2.2.2.2) 19 (tdF 36 R M 0 (a 19))))) (mB dC dI ct A ex o q) A) 0 0 A := by
  refine Met.ofW (cc := cX2_isRow) (maxL := 9) (ret := (some .boolean)) (by decide) rfl ?_
  intro p e s m args below meth c s₁ B hml hv
  obtain ⟨rfl, hP, hK, hD⟩ := hv
  have hx := B.exec
  have hb := B.bytes
  have hr := B.returns
  have hts := atoms_spec (ws := ws_ yX2_isRow cX2_isRow 9 (some .boolean)) B.pre
  have hts : ∀ w ∈ lw_all, w.before _ s = true := fun w h => hts w (List.mem_cons_of_mem _ h)
  have hown : s.vm.findClass RX2 = some m.cls := findClass_of_methodNamed B.named
  have hlocks := B.notSynchronized
  have hS : va_S A s.heap s.heap [] := va_S.rf
  have hl := lv_entry ([.ref o, .int x, .int y, .int set]) (n := 9) (Nat.le_of_ble_eq_true rfl)
  rw [lg_entry_eq]
  generalize (lg_sl ([.ref o, .int x, .int y, .int set]) ++ List.replicate (9 - (lg_sl ([.ref o, .int x, .int y, .int set])).length) Slot.unset).toArray = ls at hl ⊢
  have hl : lv_has ls 9 [(0, .ref o), (1, .int x), (2, .int y), (3, .int set)] := hl
  subst ex0
  subst ey
  refine lv_aload_n hx hb dX2_isRow_0 rfl (lv_at hl 0 rfl) ?_
  refine va_callv (va_runV (As := []) (rest := []) ⟨hx, hb, hml, hown, hts⟩ (metX2_begin l dC dI ct A ex o q g a  n hn6 hn) (cwV 0 hts (lw_V q1158 q1160 qs52 q74 q1161) rfl rfl rfl (by decide +kernel) ⟨Nat.le_of_ble_eq_true rfl, Nat.le_of_ble_eq_true rfl⟩) (mPV hK hP hD _) rfl rfl hl.1 rfl (lv_room (Nat.le_of_ble_eq_true rfl)) dX2_isRow_1 ⟨Nat.zero_le _, Nat.zero_le _⟩) hS (fun q _ h => h) (fun q h => h) (fun u t H1 locs ht hvm hw hB hz1 hk1 hS => ?_)
  subst hw
  obtain ⟨hP, -, hD⟩ := hB
  rw [ht] at hP
  generalize H1 = H at hP hS ⊢
  have hP : va_P (dC, dI) clA (mW ct o q (upd (upd g 17 (-9)) 18 (-9)) (va_up (va_up (va_up (va_up (va_up a 12 ((mbeg n (a 3) (a 4) ((a 12), (a 13), (a 14), (a 15), (a 16))).1)) 13 ((mbeg n (a 3) (a 4) ((a 12), (a 13), (a 14), (a 15), (a 16))).2.1)) 14 ((mbeg n (a 3) (a 4) ((a 12), (a 13), (a 14), (a 15), (a 16))).2.2.1)) 15 ((mbeg n (a 3) (a 4) ((a 12), (a 13), (a 14), (a 15), (a 16))).2.2.2.1)) 16 ((mbeg n (a 3) (a 4) ((a 12), (a 13), (a 14), (a 15), (a 16))).2.2.2.2)) ++ ex) H := hP
  have hD : va_D A (mW ct o q (upd (upd g 17 (-9)) 18 (-9)) (va_up (va_up (va_up (va_up (va_up a 12 ((mbeg n (a 3) (a 4) ((a 12), (a 13), (a 14), (a 15), (a 16))).1)) 13 ((mbeg n (a 3) (a 4) ((a 12), (a 13), (a 14), (a 15), (a 16))).2.1)) 14 ((mbeg n (a 3) (a 4) ((a 12), (a 13), (a 14), (a 15), (a 16))).2.2.1)) 15 ((mbeg n (a 3) (a 4) ((a 12), (a 13), (a 14), (a 15), (a 16))).2.2.2.1)) 16 ((mbeg n (a 3) (a 4) ((a 12), (a 13), (a 14), (a 15), (a 16))).2.2.2.2)) ++ ex) := hD
  refine lv_iload_n hx hb dX2_isRow_4 rfl (lv_at hl 1 rfl) ?_
  refine lv_topi (fun z_1 ez_1 => ?_)
  have ez_1 : z_1 = (nI (R / 36 ^ (M - M))) := ez_1.trans (congrArg nI (by rw [Nat.sub_self, Nat.pow_zero, Nat.div_one]))
  subst ez_1
  refine lv_istore (lv' := [(4, .int (nI (R / 36 ^ (M - M)))), (0, .ref o), (1, .int (nI R)), (2, .int (nI M)), (3, .int set)]) hx hb dX2_isRow_5 hl (by decide) rfl (fun ls hl => ?_)
  refine lv_iconst (v := 1) hx hb dX2_isRow_7 (by decide) ?_
  refine lv_istore (lv' := [(5, .int 1), (4, .int (nI (R / 36 ^ (M - M)))), (0, .ref o), (1, .int (nI R)), (2, .int (nI M)), (3, .int set)]) hx hb dX2_isRow_8 hl (by decide) rfl (fun ls hl => ?_)
  refine lv_iload_n hx hb dX2_isRow_10 rfl (lv_at hl 4 rfl) ?_
  refine lv_iconst (v := 1) hx hb dX2_isRow_11 (by decide) ?_
  refine lv_isub hx hb dX2_isRow_12 ?_
  refine lv_istore (lv' := [(6, .int ((nI M) - 1)), (5, .int 1), (4, .int (nI (R / 36 ^ (M - M)))), (0, .ref o), (1, .int (nI R)), (2, .int (nI M)), (3, .int set)]) hx hb dX2_isRow_13 hl (by decide) rfl (fun ls hl => ?_)
  have loop1 : ∀ (f1 : Nat) (tt : Nat), (tt ≤ M) → (tt + 1 ≤ f1) → ∀ (H : Heap) (locs : List Loc), va_P (dC, dI) clA (mW ct o q (upd (upd g 17 (-9)) 18 (-9)) (va_up (va_up (va_up (va_up (va_up (va_up a 12 ((mbeg n (a 3) (a 4) ((a 12), (a 13), (a 14), (a 15), (a 16))).1)) 13 ((mbeg n (a 3) (a 4) ((a 12), (a 13), (a 14), (a 15), (a 16))).2.1)) 14 ((mbeg n (a 3) (a 4) ((a 12), (a 13), (a 14), (a 15), (a 16))).2.2.1)) 15 ((mbeg n (a 3) (a 4) ((a 12), (a 13), (a 14), (a 15), (a 16))).2.2.2.1)) 16 ((mbeg n (a 3) (a 4) ((a 12), (a 13), (a 14), (a 15), (a 16))).2.2.2.2)) 19 (tdF 36 R M tt (a 19))) ++ ex) H → va_D A (mW ct o q (upd (upd g 17 (-9)) 18 (-9)) (va_up (va_up (va_up (va_up (va_up (va_up a 12 ((mbeg n (a 3) (a 4) ((a 12), (a 13), (a 14), (a 15), (a 16))).1)) 13 ((mbeg n (a 3) (a 4) ((a 12), (a 13), (a 14), (a 15), (a 16))).2.1)) 14 ((mbeg n (a 3) (a 4) ((a 12), (a 13), (a 14), (a 15), (a 16))).2.2.1)) 15 ((mbeg n (a 3) (a 4) ((a 12), (a 13), (a 14), (a 15), (a 16))).2.2.2.1)) 16 ((mbeg n (a 3) (a 4) ((a 12), (a 13), (a 14), (a 15), (a 16))).2.2.2.2)) 19 (tdF 36 R M tt (a 19))) ++ ex) → va_S A s.heap H locs → ∀ (ls : Array Slot), lv_has ls 9 [(6, .int ((nI tt) - 1)), (5, .int 1), (4, .int (nI (R / 36 ^ (M - tt)))), (3, .int set), (2, .int (nI M)), (0, .ref o)] → W p l e (headSpec (ws_ yX2_isRow cX2_isRow 9 (some .boolean)) ({ frames := 3, cells := 0, slots := 0, locals := 66 })).room s m ([.ref o, .int (nI R), .int (nI M), .int set] : List Value).toArray below meth c H locs 0 0 (MQ below (va_Qi (fun (r : Int32) (u : (Nat → Int32) × (Nat → Nat → Int32)) => r = (b2i (rowOk n (a 3) (a 4) (fun c => lastsV ((a 2) c) ((a 5) c)) set M (dg 36 R M))) ∧ ∃ (S : LnS (Nat → Int32)), u = ((upd (upd g 17 (-9)) 18 (-9)), (va_up (va_up (va_up (va_up (va_up (va_up a 12 S.1) 13 S.2.1) 14 S.2.2.1) 15 S.2.2.2.1) 16 S.2.2.2.2) 19 (tdF 36 R M 0 (a 19))))) (mB dC dI ct A ex o q) A) ([.ref o, .int (nI R), .int (nI M), .int set] : List Value).toArray s 0 0 A) (F0 m 15 ls []) := by
    intro f1
    induction f1 with
    | zero => intro tt ht hf; exact False.elim (by omega)
    | succ f1 ih1 =>
      intro tt ht hf H locs hP hD hS ls hl
      refine lv_iload hx hb dX2_isRow_15 (lv_at hl 0 rfl) ?_
      refine lv_if_lt (tgt := 45) hx hb dX2_isRow_17 (by decide) (fun c_2 => ?_) (fun c_2 => ?_)
      · skip
        have ht0 : tt = 0 := (pre_neg tt (by omega)).mp c_2
        subst ht0
        refine lv_iconst (v := 0) hx hb dX2_isRow_45 (by decide) ?_
        refine lv_istore (lv' := [(6, .int 0), (5, .int 1), (4, .int (nI (R / 36 ^ (M - 0)))), (3, .int set), (2, .int (nI M)), (0, .ref o)]) hx hb dX2_isRow_46 hl (by decide) rfl (fun ls hl => ?_)
        have loop2 : ∀ (f2 : Nat) (k : Nat), (k ≤ M) → (M + 1 ≤ k + f2) → ∀ (H : Heap) (locs : List Loc), va_P (dC, dI) clA (mW ct o q (upd (upd g 17 (-9)) 18 (-9)) (va_up (va_up (va_up (va_up (va_up (va_up a 12 (((rgo (fuM (a 4)) (fun c => lastsV (a 2 c) (a 5 c)) n (dg 36 R M) (mbeg n (a 3) (a 4) ((a 12), (a 13), (a 14), (a 15), (a 16))) k).1).1)) 13 (((rgo (fuM (a 4)) (fun c => lastsV (a 2 c) (a 5 c)) n (dg 36 R M) (mbeg n (a 3) (a 4) ((a 12), (a 13), (a 14), (a 15), (a 16))) k).1).2.1)) 14 (((rgo (fuM (a 4)) (fun c => lastsV (a 2 c) (a 5 c)) n (dg 36 R M) (mbeg n (a 3) (a 4) ((a 12), (a 13), (a 14), (a 15), (a 16))) k).1).2.2.1)) 15 (((rgo (fuM (a 4)) (fun c => lastsV (a 2 c) (a 5 c)) n (dg 36 R M) (mbeg n (a 3) (a 4) ((a 12), (a 13), (a 14), (a 15), (a 16))) k).1).2.2.2.1)) 16 (((rgo (fuM (a 4)) (fun c => lastsV (a 2 c) (a 5 c)) n (dg 36 R M) (mbeg n (a 3) (a 4) ((a 12), (a 13), (a 14), (a 15), (a 16))) k).1).2.2.2.2)) 19 (tdF 36 R M 0 (a 19))) ++ ex) H → va_D A (mW ct o q (upd (upd g 17 (-9)) 18 (-9)) (va_up (va_up (va_up (va_up (va_up (va_up a 12 (((rgo (fuM (a 4)) (fun c => lastsV (a 2 c) (a 5 c)) n (dg 36 R M) (mbeg n (a 3) (a 4) ((a 12), (a 13), (a 14), (a 15), (a 16))) k).1).1)) 13 (((rgo (fuM (a 4)) (fun c => lastsV (a 2 c) (a 5 c)) n (dg 36 R M) (mbeg n (a 3) (a 4) ((a 12), (a 13), (a 14), (a 15), (a 16))) k).1).2.1)) 14 (((rgo (fuM (a 4)) (fun c => lastsV (a 2 c) (a 5 c)) n (dg 36 R M) (mbeg n (a 3) (a 4) ((a 12), (a 13), (a 14), (a 15), (a 16))) k).1).2.2.1)) 15 (((rgo (fuM (a 4)) (fun c => lastsV (a 2 c) (a 5 c)) n (dg 36 R M) (mbeg n (a 3) (a 4) ((a 12), (a 13), (a 14), (a 15), (a 16))) k).1).2.2.2.1)) 16 (((rgo (fuM (a 4)) (fun c => lastsV (a 2 c) (a 5 c)) n (dg 36 R M) (mbeg n (a 3) (a 4) ((a 12), (a 13), (a 14), (a 15), (a 16))) k).1).2.2.2.2)) 19 (tdF 36 R M 0 (a 19))) ++ ex) → va_S A s.heap H locs → ∀ (ls : Array Slot), lv_has ls 9 [(6, .int (nI k)), (5, .int (b2i (rgo (fuM (a 4)) (fun c => lastsV (a 2 c) (a 5 c)) n (dg 36 R M) (mbeg n (a 3) (a 4) ((a 12), (a 13), (a 14), (a 15), (a 16))) k).2)), (3, .int set), (2, .int (nI M)), (0, .ref o)] → W p l e (headSpec (ws_ yX2_isRow cX2_isRow 9 (some .boolean)) ({ frames := 3, cells := 0, slots := 0, locals := 66 })).room s m ([.ref o, .int (nI R), .int (nI M), .int set] : List Value).toArray below meth c H locs 0 0 (MQ below (va_Qi (fun (r : Int32) (u : (Nat → Int32) × (Nat → Nat → Int32)) => r = (b2i (rowOk n (a 3) (a 4) (fun c => lastsV ((a 2) c) ((a 5) c)) set M (dg 36 R M))) ∧ ∃ (S : LnS (Nat → Int32)), u = ((upd (upd g 17 (-9)) 18 (-9)), (va_up (va_up (va_up (va_up (va_up (va_up a 12 S.1) 13 S.2.1) 14 S.2.2.1) 15 S.2.2.2.1) 16 S.2.2.2.2) 19 (tdF 36 R M 0 (a 19))))) (mB dC dI ct A ex o q) A) ([.ref o, .int (nI R), .int (nI M), .int set] : List Value).toArray s 0 0 A) (F0 m 48 ls []) := by
          intro f2
          induction f2 with
          | zero => intro k hk hf2; exact False.elim (by omega)
          | succ f2 ih2 =>
            intro k hk hf2 H locs hP hD hS ls hl
            refine lv_iload hx hb dX2_isRow_48 (lv_at hl 0 rfl) ?_
            refine lv_iload_n hx hb dX2_isRow_50 rfl (lv_at hl 3 rfl) ?_
            refine lv_icmp_ge (tgt := 136) hx hb dX2_isRow_51 (by decide) (fun c_3 => ?_) (fun c_3 => ?_)
            · skip
              have hge : k = M := by exact Nat.le_antisymm (by omega) ((nI_leI (by omega) (by omega)).mp c_3)
              rw [hge] at hP hD hl
              refine lv_iload hx hb dX2_isRow_136 (lv_at hl 1 rfl) ?_
              refine bz_eq (tgt := 156) hx hb dX2_isRow_138 (by decide) (fun c_4 => ?_) (fun c_4 => ?_)
              · skip
                refine lv_iconst (v := 0) hx hb dX2_isRow_156 (by decide) ?_
                exact W.zret (v := 0) hx hb hr rfl (fun t ht hW => ⟨⟨0, ((upd (upd g 17 (-9)) 18 (-9)), (va_up (va_up (va_up (va_up (va_up (va_up a 12 (((rgo (fuM (a 4)) (fun c => lastsV (a 2 c) (a 5 c)) n (dg 36 R M) (mbeg n (a 3) (a 4) ((a 12), (a 13), (a 14), (a 15), (a 16))) M).1).1)) 13 (((rgo (fuM (a 4)) (fun c => lastsV (a 2 c) (a 5 c)) n (dg 36 R M) (mbeg n (a 3) (a 4) ((a 12), (a 13), (a 14), (a 15), (a 16))) M).1).2.1)) 14 (((rgo (fuM (a 4)) (fun c => lastsV (a 2 c) (a 5 c)) n (dg 36 R M) (mbeg n (a 3) (a 4) ((a 12), (a 13), (a 14), (a 15), (a 16))) M).1).2.2.1)) 15 (((rgo (fuM (a 4)) (fun c => lastsV (a 2 c) (a 5 c)) n (dg 36 R M) (mbeg n (a 3) (a 4) ((a 12), (a 13), (a 14), (a 15), (a 16))) M).1).2.2.2.1)) 16 (((rgo (fuM (a 4)) (fun c => lastsV (a 2 c) (a 5 c)) n (dg 36 R M) (mbeg n (a 3) (a 4) ((a 12), (a 13), (a 14), (a 15), (a 16))) M).1).2.2.2.2)) 19 (tdF 36 R M 0 (a 19)))), rfl, ⟨(by rw [← rowOk_c (by omega) ((a 12), (a 13), (a 14), (a 15), (a 16)), c_4]; rfl), ⟨(rgo (fuM (a 4)) (fun c => lastsV (a 2 c) (a 5 c)) n (dg 36 R M) (mbeg n (a 3) (a 4) ((a 12), (a 13), (a 14), (a 15), (a 16))) M).1, rfl⟩⟩, by rw [ht]; exact hP, va_K.moved hW.alike hK, hD⟩, hS.F ht⟩) hS.2.2 dX2_isRow_157
              · skip
                refine lv_iload_n hx hb dX2_isRow_141 rfl (lv_at hl 2 rfl) ?_
                refine lv_aload_n hx hb dX2_isRow_142 rfl (lv_at hl 4 rfl) ?_
                refine vp_callSi ((va_runV (As := []) (rest := [.int set]) ⟨hx, hb, hml, hown, hts⟩ (metX2_mendedNow l dC dI ct A ex o q (upd (upd g 17 (-9)) 18 (-9)) (va_up (va_up (va_up (va_up (va_up (va_up a 12 (((rgo (fuM (a 4)) (fun c => lastsV (a 2 c) (a 5 c)) n (dg 36 R M) (mbeg n (a 3) (a 4) ((a 12), (a 13), (a 14), (a 15), (a 16))) M).1).1)) 13 (((rgo (fuM (a 4)) (fun c => lastsV (a 2 c) (a 5 c)) n (dg 36 R M) (mbeg n (a 3) (a 4) ((a 12), (a 13), (a 14), (a 15), (a 16))) M).1).2.1)) 14 (((rgo (fuM (a 4)) (fun c => lastsV (a 2 c) (a 5 c)) n (dg 36 R M) (mbeg n (a 3) (a 4) ((a 12), (a 13), (a 14), (a 15), (a 16))) M).1).2.2.1)) 15 (((rgo (fuM (a 4)) (fun c => lastsV (a 2 c) (a 5 c)) n (dg 36 R M) (mbeg n (a 3) (a 4) ((a 12), (a 13), (a 14), (a 15), (a 16))) M).1).2.2.2.1)) 16 (((rgo (fuM (a 4)) (fun c => lastsV (a 2 c) (a 5 c)) n (dg 36 R M) (mbeg n (a 3) (a 4) ((a 12), (a 13), (a 14), (a 15), (a 16))) M).1).2.2.2.2)) 19 (tdF 36 R M 0 (a 19)))  n hn6 hn) (cwV 0 hts (lw_V q1169 q1171 qs54 q74 q1172) rfl rfl rfl (by decide +kernel) ⟨Nat.le_of_ble_eq_true rfl, Nat.le_of_ble_eq_true rfl⟩) (mPV hK hP hD _) rfl rfl hl.1 rfl (lv_room (Nat.le_of_ble_eq_true rfl)) dX2_isRow_143 ⟨Nat.zero_le _, Nat.zero_le _⟩)).run (fun r hw => ?_)
                have hw : r = (mset (fun p => isMend ((a 4) p) (((rgo (fuM (a 4)) (fun c => lastsV (a 2 c) (a 5 c)) n (dg 36 R M) (mbeg n (a 3) (a 4) ((a 12), (a 13), (a 14), (a 15), (a 16))) M).1).2.2.2.1 p)) n) := hw
                subst hw
                refine lv_iconst (v := (-1)) hx hb dX2_isRow_146 (by decide) ?_
                refine lv_ixor hx hb dX2_isRow_147 ?_
                refine lv_iand hx hb dX2_isRow_148 ?_
                refine lv_if_ne (tgt := 156) hx hb dX2_isRow_149 (by decide) (fun c_5 => ?_) (fun c_5 => ?_)
                · skip
                  refine lv_iconst (v := 0) hx hb dX2_isRow_156 (by decide) ?_
                  exact W.zret (v := 0) hx hb hr rfl (fun t ht hW => ⟨⟨0, ((upd (upd g 17 (-9)) 18 (-9)), (va_up (va_up (va_up (va_up (va_up (va_up a 12 (((rgo (fuM (a 4)) (fun c => lastsV (a 2 c) (a 5 c)) n (dg 36 R M) (mbeg n (a 3) (a 4) ((a 12), (a 13), (a 14), (a 15), (a 16))) M).1).1)) 13 (((rgo (fuM (a 4)) (fun c => lastsV (a 2 c) (a 5 c)) n (dg 36 R M) (mbeg n (a 3) (a 4) ((a 12), (a 13), (a 14), (a 15), (a 16))) M).1).2.1)) 14 (((rgo (fuM (a 4)) (fun c => lastsV (a 2 c) (a 5 c)) n (dg 36 R M) (mbeg n (a 3) (a 4) ((a 12), (a 13), (a 14), (a 15), (a 16))) M).1).2.2.1)) 15 (((rgo (fuM (a 4)) (fun c => lastsV (a 2 c) (a 5 c)) n (dg 36 R M) (mbeg n (a 3) (a 4) ((a 12), (a 13), (a 14), (a 15), (a 16))) M).1).2.2.2.1)) 16 (((rgo (fuM (a 4)) (fun c => lastsV (a 2 c) (a 5 c)) n (dg 36 R M) (mbeg n (a 3) (a 4) ((a 12), (a 13), (a 14), (a 15), (a 16))) M).1).2.2.2.2)) 19 (tdF 36 R M 0 (a 19)))), rfl, ⟨(by rw [← rowOk_c (by omega) ((a 12), (a 13), (a 14), (a 15), (a 16)), c_4, Bool.true_and]; exact (congrArg b2i (decide_eq_false c_5)).symm), ⟨(rgo (fuM (a 4)) (fun c => lastsV (a 2 c) (a 5 c)) n (dg 36 R M) (mbeg n (a 3) (a 4) ((a 12), (a 13), (a 14), (a 15), (a 16))) M).1, rfl⟩⟩, by rw [ht]; exact hP, va_K.moved hW.alike hK, hD⟩, hS.F ht⟩) hS.2.2 dX2_isRow_157
                · skip
                  refine lv_iconst (v := 1) hx hb dX2_isRow_152 (by decide) ?_
                  refine lv_goto (tgt := 157) hx hb dX2_isRow_153 (by decide) ?_
                  exact W.zret (v := 1) hx hb hr rfl (fun t ht hW => ⟨⟨1, ((upd (upd g 17 (-9)) 18 (-9)), (va_up (va_up (va_up (va_up (va_up (va_up a 12 (((rgo (fuM (a 4)) (fun c => lastsV (a 2 c) (a 5 c)) n (dg 36 R M) (mbeg n (a 3) (a 4) ((a 12), (a 13), (a 14), (a 15), (a 16))) M).1).1)) 13 (((rgo (fuM (a 4)) (fun c => lastsV (a 2 c) (a 5 c)) n (dg 36 R M) (mbeg n (a 3) (a 4) ((a 12), (a 13), (a 14), (a 15), (a 16))) M).1).2.1)) 14 (((rgo (fuM (a 4)) (fun c => lastsV (a 2 c) (a 5 c)) n (dg 36 R M) (mbeg n (a 3) (a 4) ((a 12), (a 13), (a 14), (a 15), (a 16))) M).1).2.2.1)) 15 (((rgo (fuM (a 4)) (fun c => lastsV (a 2 c) (a 5 c)) n (dg 36 R M) (mbeg n (a 3) (a 4) ((a 12), (a 13), (a 14), (a 15), (a 16))) M).1).2.2.2.1)) 16 (((rgo (fuM (a 4)) (fun c => lastsV (a 2 c) (a 5 c)) n (dg 36 R M) (mbeg n (a 3) (a 4) ((a 12), (a 13), (a 14), (a 15), (a 16))) M).1).2.2.2.2)) 19 (tdF 36 R M 0 (a 19)))), rfl, ⟨(by rw [← rowOk_c (by omega) ((a 12), (a 13), (a 14), (a 15), (a 16)), c_4, Bool.true_and]; exact (congrArg b2i (decide_eq_true c_5)).symm), ⟨(rgo (fuM (a 4)) (fun c => lastsV (a 2 c) (a 5 c)) n (dg 36 R M) (mbeg n (a 3) (a 4) ((a 12), (a 13), (a 14), (a 15), (a 16))) M).1, rfl⟩⟩, by rw [ht]; exact hP, va_K.moved hW.alike hK, hD⟩, hS.F ht⟩) hS.2.2 dX2_isRow_157
            · skip
              have hlt : k < M := by exact Nat.lt_of_not_le (fun z => c_3 ((nI_leI (by omega) (by omega)).mpr z))
              refine lv_iload hx hb dX2_isRow_54 (lv_at hl 1 rfl) ?_
              refine bz_eq (tgt := 136) hx hb dX2_isRow_56 (by decide) (fun c_6 => ?_) (fun c_6 => ?_)
              · skip
                skip
                rw [← rgo_stuck c_6 M hk] at hP hD hl
                refine lv_iload hx hb dX2_isRow_136 (lv_at hl 1 rfl) ?_
                refine bz_eq (tgt := 156) hx hb dX2_isRow_138 (by decide) (fun c_7 => ?_) (fun c_7 => ?_)
                · skip
                  refine lv_iconst (v := 0) hx hb dX2_isRow_156 (by decide) ?_
                  exact W.zret (v := 0) hx hb hr rfl (fun t ht hW => ⟨⟨0, ((upd (upd g 17 (-9)) 18 (-9)), (va_up (va_up (va_up (va_up (va_up (va_up a 12 (((rgo (fuM (a 4)) (fun c => lastsV (a 2 c) (a 5 c)) n (dg 36 R M) (mbeg n (a 3) (a 4) ((a 12), (a 13), (a 14), (a 15), (a 16))) M).1).1)) 13 (((rgo (fuM (a 4)) (fun c => lastsV (a 2 c) (a 5 c)) n (dg 36 R M) (mbeg n (a 3) (a 4) ((a 12), (a 13), (a 14), (a 15), (a 16))) M).1).2.1)) 14 (((rgo (fuM (a 4)) (fun c => lastsV (a 2 c) (a 5 c)) n (dg 36 R M) (mbeg n (a 3) (a 4) ((a 12), (a 13), (a 14), (a 15), (a 16))) M).1).2.2.1)) 15 (((rgo (fuM (a 4)) (fun c => lastsV (a 2 c) (a 5 c)) n (dg 36 R M) (mbeg n (a 3) (a 4) ((a 12), (a 13), (a 14), (a 15), (a 16))) M).1).2.2.2.1)) 16 (((rgo (fuM (a 4)) (fun c => lastsV (a 2 c) (a 5 c)) n (dg 36 R M) (mbeg n (a 3) (a 4) ((a 12), (a 13), (a 14), (a 15), (a 16))) M).1).2.2.2.2)) 19 (tdF 36 R M 0 (a 19)))), rfl, ⟨(by rw [← rowOk_c (by omega) ((a 12), (a 13), (a 14), (a 15), (a 16)), c_7]; rfl), ⟨(rgo (fuM (a 4)) (fun c => lastsV (a 2 c) (a 5 c)) n (dg 36 R M) (mbeg n (a 3) (a 4) ((a 12), (a 13), (a 14), (a 15), (a 16))) M).1, rfl⟩⟩, by rw [ht]; exact hP, va_K.moved hW.alike hK, hD⟩, hS.F ht⟩) hS.2.2 dX2_isRow_157
                · skip
                  refine lv_iload_n hx hb dX2_isRow_141 rfl (lv_at hl 2 rfl) ?_
                  refine lv_aload_n hx hb dX2_isRow_142 rfl (lv_at hl 4 rfl) ?_
                  refine vp_callSi ((va_runV (As := []) (rest := [.int set]) ⟨hx, hb, hml, hown, hts⟩ (metX2_mendedNow l dC dI ct A ex o q (upd (upd g 17 (-9)) 18 (-9)) (va_up (va_up (va_up (va_up (va_up (va_up a 12 (((rgo (fuM (a 4)) (fun c => lastsV (a 2 c) (a 5 c)) n (dg 36 R M) (mbeg n (a 3) (a 4) ((a 12), (a 13), (a 14), (a 15), (a 16))) M).1).1)) 13 (((rgo (fuM (a 4)) (fun c => lastsV (a 2 c) (a 5 c)) n (dg 36 R M) (mbeg n (a 3) (a 4) ((a 12), (a 13), (a 14), (a 15), (a 16))) M).1).2.1)) 14 (((rgo (fuM (a 4)) (fun c => lastsV (a 2 c) (a 5 c)) n (dg 36 R M) (mbeg n (a 3) (a 4) ((a 12), (a 13), (a 14), (a 15), (a 16))) M).1).2.2.1)) 15 (((rgo (fuM (a 4)) (fun c => lastsV (a 2 c) (a 5 c)) n (dg 36 R M) (mbeg n (a 3) (a 4) ((a 12), (a 13), (a 14), (a 15), (a 16))) M).1).2.2.2.1)) 16 (((rgo (fuM (a 4)) (fun c => lastsV (a 2 c) (a 5 c)) n (dg 36 R M) (mbeg n (a 3) (a 4) ((a 12), (a 13), (a 14), (a 15), (a 16))) M).1).2.2.2.2)) 19 (tdF 36 R M 0 (a 19)))  n hn6 hn) (cwV 0 hts (lw_V q1169 q1171 qs54 q74 q1172) rfl rfl rfl (by decide +kernel) ⟨Nat.le_of_ble_eq_true rfl, Nat.le_of_ble_eq_true rfl⟩) (mPV hK hP hD _) rfl rfl hl.1 rfl (lv_room (Nat.le_of_ble_eq_true rfl)) dX2_isRow_143 ⟨Nat.zero_le _, Nat.zero_le _⟩)).run (fun r hw => ?_)
                  have hw : r = (mset (fun p => isMend ((a 4) p) (((rgo (fuM (a 4)) (fun c => lastsV (a 2 c) (a 5 c)) n (dg 36 R M) (mbeg n (a 3) (a 4) ((a 12), (a 13), (a 14), (a 15), (a 16))) M).1).2.2.2.1 p)) n) := hw
                  subst hw
                  refine lv_iconst (v := (-1)) hx hb dX2_isRow_146 (by decide) ?_
                  refine lv_ixor hx hb dX2_isRow_147 ?_
                  refine lv_iand hx hb dX2_isRow_148 ?_
                  refine lv_if_ne (tgt := 156) hx hb dX2_isRow_149 (by decide) (fun c_8 => ?_) (fun c_8 => ?_)
                  · skip
                    refine lv_iconst (v := 0) hx hb dX2_isRow_156 (by decide) ?_
                    exact W.zret (v := 0) hx hb hr rfl (fun t ht hW => ⟨⟨0, ((upd (upd g 17 (-9)) 18 (-9)), (va_up (va_up (va_up (va_up (va_up (va_up a 12 (((rgo (fuM (a 4)) (fun c => lastsV (a 2 c) (a 5 c)) n (dg 36 R M) (mbeg n (a 3) (a 4) ((a 12), (a 13), (a 14), (a 15), (a 16))) M).1).1)) 13 (((rgo (fuM (a 4)) (fun c => lastsV (a 2 c) (a 5 c)) n (dg 36 R M) (mbeg n (a 3) (a 4) ((a 12), (a 13), (a 14), (a 15), (a 16))) M).1).2.1)) 14 (((rgo (fuM (a 4)) (fun c => lastsV (a 2 c) (a 5 c)) n (dg 36 R M) (mbeg n (a 3) (a 4) ((a 12), (a 13), (a 14), (a 15), (a 16))) M).1).2.2.1)) 15 (((rgo (fuM (a 4)) (fun c => lastsV (a 2 c) (a 5 c)) n (dg 36 R M) (mbeg n (a 3) (a 4) ((a 12), (a 13), (a 14), (a 15), (a 16))) M).1).2.2.2.1)) 16 (((rgo (fuM (a 4)) (fun c => lastsV (a 2 c) (a 5 c)) n (dg 36 R M) (mbeg n (a 3) (a 4) ((a 12), (a 13), (a 14), (a 15), (a 16))) M).1).2.2.2.2)) 19 (tdF 36 R M 0 (a 19)))), rfl, ⟨(by rw [← rowOk_c (by omega) ((a 12), (a 13), (a 14), (a 15), (a 16)), c_7, Bool.true_and]; exact (congrArg b2i (decide_eq_false c_8)).symm), ⟨(rgo (fuM (a 4)) (fun c => lastsV (a 2 c) (a 5 c)) n (dg 36 R M) (mbeg n (a 3) (a 4) ((a 12), (a 13), (a 14), (a 15), (a 16))) M).1, rfl⟩⟩, by rw [ht]; exact hP, va_K.moved hW.alike hK, hD⟩, hS.F ht⟩) hS.2.2 dX2_isRow_157
                  · skip
                    refine lv_iconst (v := 1) hx hb dX2_isRow_152 (by decide) ?_
                    refine lv_goto (tgt := 157) hx hb dX2_isRow_153 (by decide) ?_
                    exact W.zret (v := 1) hx hb hr rfl (fun t ht hW => ⟨⟨1, ((upd (upd g 17 (-9)) 18 (-9)), (va_up (va_up (va_up (va_up (va_up (va_up a 12 (((rgo (fuM (a 4)) (fun c => lastsV (a 2 c) (a 5 c)) n (dg 36 R M) (mbeg n (a 3) (a 4) ((a 12), (a 13), (a 14), (a 15), (a 16))) M).1).1)) 13 (((rgo (fuM (a 4)) (fun c => lastsV (a 2 c) (a 5 c)) n (dg 36 R M) (mbeg n (a 3) (a 4) ((a 12), (a 13), (a 14), (a 15), (a 16))) M).1).2.1)) 14 (((rgo (fuM (a 4)) (fun c => lastsV (a 2 c) (a 5 c)) n (dg 36 R M) (mbeg n (a 3) (a 4) ((a 12), (a 13), (a 14), (a 15), (a 16))) M).1).2.2.1)) 15 (((rgo (fuM (a 4)) (fun c => lastsV (a 2 c) (a 5 c)) n (dg 36 R M) (mbeg n (a 3) (a 4) ((a 12), (a 13), (a 14), (a 15), (a 16))) M).1).2.2.2.1)) 16 (((rgo (fuM (a 4)) (fun c => lastsV (a 2 c) (a 5 c)) n (dg 36 R M) (mbeg n (a 3) (a 4) ((a 12), (a 13), (a 14), (a 15), (a 16))) M).1).2.2.2.2)) 19 (tdF 36 R M 0 (a 19)))), rfl, ⟨(by rw [← rowOk_c (by omega) ((a 12), (a 13), (a 14), (a 15), (a 16)), c_7, Bool.true_and]; exact (congrArg b2i (decide_eq_true c_8)).symm), ⟨(rgo (fuM (a 4)) (fun c => lastsV (a 2 c) (a 5 c)) n (dg 36 R M) (mbeg n (a 3) (a 4) ((a 12), (a 13), (a 14), (a 15), (a 16))) M).1, rfl⟩⟩, by rw [ht]; exact hP, va_K.moved hW.alike hK, hD⟩, hS.F ht⟩) hS.2.2 dX2_isRow_157
              · skip
                have hd36 : (dg 36 R M k) < 36 := dg_lt (by decide)
                have hcan := c_6
                have hh : hasOk n (rgo (fuM (a 4)) (fun c => lastsV (a 2 c) (a 5 c)) n (dg 36 R M) (mbeg n (a 3) (a 4) ((a 12), (a 13), (a 14), (a 15), (a 16))) k).1.1 := hasOk_rgo (mbeg_ok _ _ _ (by omega)) k
                refine lv_aload_n hx hb dX2_isRow_59 rfl (lv_at hl 4 rfl) ?_
                refine m_get (v := .ref (q 19)) hx hb hts hown hK hP 19 (by decide) rfl q1003 rfl dX2_isRow_60 ?_
                refine lv_iload hx hb dX2_isRow_63 (lv_at hl 0 rfl) ?_
                refine m_ild hx hb hK hP (mWa19 _ _ _ _ _ _) (tdF 36 R M 0 (a 19)) rfl k rfl (by omega) (by decide) dX2_isRow_65 ?_
                refine lv_topi (fun z_9 ez_9 => ?_)
                have ez_9 : z_9 = (nI (dg 36 R M k)) := ez_9.trans (tdF_in hlt)
                subst ez_9
                refine lv_bipush (v := 6) hx hb dX2_isRow_66 (by decide) ?_
                refine lv_idiv hx hb dX2_isRow_68 (by decide) ?_
                refine lv_topi (fun z_10 ez_10 => ?_)
                have ez_10 : z_10 = (nI ((dg 36 R M k) / 6)) := ez_10.trans (pk_div (d := 6) (by omega) (by decide) (by decide))
                subst ez_10
                refine lv_istore (lv' := [(7, .int (nI ((dg 36 R M k) / 6))), (6, .int (nI k)), (5, .int (b2i (rgo (fuM (a 4)) (fun c => lastsV (a 2 c) (a 5 c)) n (dg 36 R M) (mbeg n (a 3) (a 4) ((a 12), (a 13), (a 14), (a 15), (a 16))) k).2)), (3, .int set), (2, .int (nI M)), (0, .ref o)]) hx hb dX2_isRow_69 hl (by decide) rfl (fun ls hl => ?_)
                refine lv_aload_n hx hb dX2_isRow_71 rfl (lv_at hl 5 rfl) ?_
                refine m_get (v := .ref (q 19)) hx hb hts hown hK hP 19 (by decide) rfl q1003 rfl dX2_isRow_72 ?_
                refine lv_iload hx hb dX2_isRow_75 (lv_at hl 1 rfl) ?_
                refine m_ild hx hb hK hP (mWa19 _ _ _ _ _ _) (tdF 36 R M 0 (a 19)) rfl k rfl (by omega) (by decide) dX2_isRow_77 ?_
                refine lv_topi (fun z_11 ez_11 => ?_)
                have ez_11 : z_11 = (nI (dg 36 R M k)) := ez_11.trans (tdF_in hlt)
                subst ez_11
                refine lv_bipush (v := 6) hx hb dX2_isRow_78 (by decide) ?_
                refine lv_irem hx hb dX2_isRow_80 (by decide) ?_
                refine lv_topi (fun z_12 ez_12 => ?_)
                have ez_12 : z_12 = (nI ((dg 36 R M k) % 6)) := ez_12.trans (nI_rem (d := 6) (by omega) (by decide) (by decide))
                subst ez_12
                refine lv_istore (lv' := [(8, .int (nI ((dg 36 R M k) % 6))), (7, .int (nI ((dg 36 R M k) / 6))), (6, .int (nI k)), (5, .int (b2i (rgo (fuM (a 4)) (fun c => lastsV (a 2 c) (a 5 c)) n (dg 36 R M) (mbeg n (a 3) (a 4) ((a 12), (a 13), (a 14), (a 15), (a 16))) k).2)), (3, .int set), (2, .int (nI M)), (0, .ref o)]) hx hb dX2_isRow_81 hl (by decide) rfl (fun ls hl => ?_)
                refine lv_iload hx hb dX2_isRow_83 (lv_at hl 1 rfl) ?_
                refine lv_iload hx hb dX2_isRow_85 (lv_at hl 0 rfl) ?_
                refine lv_icmp_ge (tgt := 114) hx hb dX2_isRow_87 (by decide) (fun c_13 => ?_) (fun c_13 => ?_)
                · skip
                  have qn : ¬ ((dg 36 R M k) / 6 < (dg 36 R M k) % 6 ∧ (dg 36 R M k) % 6 < n ∧ lcan ((dg 36 R M k) / 6) ((dg 36 R M k) % 6) (rgo (fuM (a 4)) (fun c => lastsV (a 2 c) (a 5 c)) n (dg 36 R M) (mbeg n (a 3) (a 4) ((a 12), (a 13), (a 14), (a 15), (a 16))) k).1 = true) := fun z => absurd z.1 (Nat.not_lt.mpr ((nI_leI (by omega) (by omega)).mp c_13))
                  refine lv_iconst (v := 0) hx hb dX2_isRow_114 (by decide) ?_
                  refine lv_istore (lv' := [(5, .int 0), (8, .int (nI ((dg 36 R M k) % 6))), (7, .int (nI ((dg 36 R M k) / 6))), (6, .int (nI k)), (3, .int set), (2, .int (nI M)), (0, .ref o)]) hx hb dX2_isRow_115 hl (by decide) rfl (fun ls hl => ?_)
                  refine lv_iload hx hb dX2_isRow_117 (lv_at hl 0 rfl) ?_
                  refine lv_if_eq (tgt := 130) hx hb dX2_isRow_119 (by decide) (fun c_14 => ?_) (fun c_14 => ?_)
                  · skip
                    refine lv_iinc (v := (nI (k + 1))) (lv' := [(6, .int (nI (k + 1))), (5, .int 0), (8, .int (nI ((dg 36 R M k) % 6))), (7, .int (nI ((dg 36 R M k) / 6))), (3, .int set), (2, .int (nI M)), (0, .ref o)]) hx hb dX2_isRow_130 hl (k := 3) rfl (nI_1 k) (by decide) rfl (fun ls hl => ?_)
                    refine lv_goto (tgt := 48) hx hb dX2_isRow_133 (by decide) ?_
                    have eR : (rgo (fuM (a 4)) (fun c => lastsV (a 2 c) (a 5 c)) n (dg 36 R M) (mbeg n (a 3) (a 4) ((a 12), (a 13), (a 14), (a 15), (a 16))) (k + 1)) = (((rgo (fuM (a 4)) (fun c => lastsV (a 2 c) (a 5 c)) n (dg 36 R M) (mbeg n (a 3) (a 4) ((a 12), (a 13), (a 14), (a 15), (a 16))) k).1), false) := by show rstep _ _ _ _ k _ = _; rw [rstep, if_neg (by rw [hcan]; decide), if_neg qn]
                    exact ih2 (k + 1) (by omega) (by omega) _ _ (by rw [eR]; exact hP) (by rw [eR]; exact hD) hS _ (by rw [eR]; exact (lv_sub hl [0, 1, 4, 5, 6] rfl))
                  · skip
                    exact absurd c_14 (by decide)
                · skip
                  have q1 : (dg 36 R M k) / 6 < (dg 36 R M k) % 6 := Nat.lt_of_not_le (fun z => c_13 ((nI_leI (by omega) (by omega)).mpr z))
                  refine lv_iload hx hb dX2_isRow_90 (lv_at hl 0 rfl) ?_
                  refine lv_aload_n hx hb dX2_isRow_92 rfl (lv_at hl 6 rfl) ?_
                  refine m_get (v := .int (g 1)) hx hb hts hown hK hP 1 (by decide) rfl q985 rfl dX2_isRow_93 ?_
                  refine lv_icmp_ge (tgt := 114) hx hb dX2_isRow_96 (by decide) (fun c_15 => ?_) (fun c_15 => ?_)
                  · skip
                    rw [hn] at c_15
                    have qn : ¬ ((dg 36 R M k) / 6 < (dg 36 R M k) % 6 ∧ (dg 36 R M k) % 6 < n ∧ lcan ((dg 36 R M k) / 6) ((dg 36 R M k) % 6) (rgo (fuM (a 4)) (fun c => lastsV (a 2 c) (a 5 c)) n (dg 36 R M) (mbeg n (a 3) (a 4) ((a 12), (a 13), (a 14), (a 15), (a 16))) k).1 = true) := fun z => absurd z.2.1 (Nat.not_lt.mpr ((nI_leI (by omega) (by omega)).mp c_15))
                    refine lv_iconst (v := 0) hx hb dX2_isRow_114 (by decide) ?_
                    refine lv_istore (lv' := [(5, .int 0), (8, .int (nI ((dg 36 R M k) % 6))), (7, .int (nI ((dg 36 R M k) / 6))), (6, .int (nI k)), (3, .int set), (2, .int (nI M)), (0, .ref o)]) hx hb dX2_isRow_115 hl (by decide) rfl (fun ls hl => ?_)
                    refine lv_iload hx hb dX2_isRow_117 (lv_at hl 0 rfl) ?_
                    refine lv_if_eq (tgt := 130) hx hb dX2_isRow_119 (by decide) (fun c_16 => ?_) (fun c_16 => ?_)
                    · skip
                      refine lv_iinc (v := (nI (k + 1))) (lv' := [(6, .int (nI (k + 1))), (5, .int 0), (8, .int (nI ((dg 36 R M k) % 6))), (7, .int (nI ((dg 36 R M k) / 6))), (3, .int set), (2, .int (nI M)), (0, .ref o)]) hx hb dX2_isRow_130 hl (k := 3) rfl (nI_1 k) (by decide) rfl (fun ls hl => ?_)
                      refine lv_goto (tgt := 48) hx hb dX2_isRow_133 (by decide) ?_
                      have eR : (rgo (fuM (a 4)) (fun c => lastsV (a 2 c) (a 5 c)) n (dg 36 R M) (mbeg n (a 3) (a 4) ((a 12), (a 13), (a 14), (a 15), (a 16))) (k + 1)) = (((rgo (fuM (a 4)) (fun c => lastsV (a 2 c) (a 5 c)) n (dg 36 R M) (mbeg n (a 3) (a 4) ((a 12), (a 13), (a 14), (a 15), (a 16))) k).1), false) := by show rstep _ _ _ _ k _ = _; rw [rstep, if_neg (by rw [hcan]; decide), if_neg qn]
                      exact ih2 (k + 1) (by omega) (by omega) _ _ (by rw [eR]; exact hP) (by rw [eR]; exact hD) hS _ (by rw [eR]; exact (lv_sub hl [0, 1, 4, 5, 6] rfl))
                    · skip
                      exact absurd c_16 (by decide)
                  · skip
                    rw [hn] at c_15
                    have q2 : (dg 36 R M k) % 6 < n := Nat.lt_of_not_le (fun z => c_15 ((nI_leI (by omega) (by omega)).mpr z))
                    refine lv_aload_n hx hb dX2_isRow_99 rfl (lv_at hl 6 rfl) ?_
                    refine lv_iload hx hb dX2_isRow_100 (lv_at hl 1 rfl) ?_
                    refine lv_iload hx hb dX2_isRow_102 (lv_at hl 0 rfl) ?_
                    refine vp_callSi ((va_runV (As := [.int (nI ((dg 36 R M k) / 6)), .int (nI ((dg 36 R M k) % 6))]) (rest := []) ⟨hx, hb, hml, hown, hts⟩ (metX2_canLend l dC dI ct A ex o q (upd (upd g 17 (-9)) 18 (-9)) (va_up (va_up (va_up (va_up (va_up (va_up a 12 (((rgo (fuM (a 4)) (fun c => lastsV (a 2 c) (a 5 c)) n (dg 36 R M) (mbeg n (a 3) (a 4) ((a 12), (a 13), (a 14), (a 15), (a 16))) k).1).1)) 13 (((rgo (fuM (a 4)) (fun c => lastsV (a 2 c) (a 5 c)) n (dg 36 R M) (mbeg n (a 3) (a 4) ((a 12), (a 13), (a 14), (a 15), (a 16))) k).1).2.1)) 14 (((rgo (fuM (a 4)) (fun c => lastsV (a 2 c) (a 5 c)) n (dg 36 R M) (mbeg n (a 3) (a 4) ((a 12), (a 13), (a 14), (a 15), (a 16))) k).1).2.2.1)) 15 (((rgo (fuM (a 4)) (fun c => lastsV (a 2 c) (a 5 c)) n (dg 36 R M) (mbeg n (a 3) (a 4) ((a 12), (a 13), (a 14), (a 15), (a 16))) k).1).2.2.2.1)) 16 (((rgo (fuM (a 4)) (fun c => lastsV (a 2 c) (a 5 c)) n (dg 36 R M) (mbeg n (a 3) (a 4) ((a 12), (a 13), (a 14), (a 15), (a 16))) k).1).2.2.2.2)) 19 (tdF 36 R M 0 (a 19))) (nI ((dg 36 R M k) / 6)) (nI ((dg 36 R M k) % 6)) n ((dg 36 R M k) / 6) ((dg 36 R M k) % 6) hn6 (by omega) q2 rfl rfl hh) (cwV 2 hts (lw_V q1181 q1183 qs57 q74 q1184) rfl rfl rfl (by decide +kernel) ⟨Nat.le_of_ble_eq_true rfl, Nat.le_of_ble_eq_true rfl⟩) (mPV hK hP hD _) rfl rfl hl.1 rfl (lv_room (Nat.le_of_ble_eq_true rfl)) dX2_isRow_104 ⟨Nat.zero_le _, Nat.zero_le _⟩)).run (fun r hw => ?_)
                    have hw : r = (b2i (lcan ((dg 36 R M k) / 6) ((dg 36 R M k) % 6) ((rgo (fuM (a 4)) (fun c => lastsV (a 2 c) (a 5 c)) n (dg 36 R M) (mbeg n (a 3) (a 4) ((a 12), (a 13), (a 14), (a 15), (a 16))) k).1))) := hw
                    subst hw
                    refine bz_eq (tgt := 114) hx hb dX2_isRow_107 (by decide) (fun c_17 => ?_) (fun c_17 => ?_)
                    · skip
                      have qn : ¬ ((dg 36 R M k) / 6 < (dg 36 R M k) % 6 ∧ (dg 36 R M k) % 6 < n ∧ lcan ((dg 36 R M k) / 6) ((dg 36 R M k) % 6) (rgo (fuM (a 4)) (fun c => lastsV (a 2 c) (a 5 c)) n (dg 36 R M) (mbeg n (a 3) (a 4) ((a 12), (a 13), (a 14), (a 15), (a 16))) k).1 = true) := fun z => by rw [c_17] at z; exact absurd z.2.2 (by decide)
                      refine lv_iconst (v := 0) hx hb dX2_isRow_114 (by decide) ?_
                      refine lv_istore (lv' := [(5, .int 0), (8, .int (nI ((dg 36 R M k) % 6))), (7, .int (nI ((dg 36 R M k) / 6))), (6, .int (nI k)), (3, .int set), (2, .int (nI M)), (0, .ref o)]) hx hb dX2_isRow_115 hl (by decide) rfl (fun ls hl => ?_)
                      refine lv_iload hx hb dX2_isRow_117 (lv_at hl 0 rfl) ?_
                      refine lv_if_eq (tgt := 130) hx hb dX2_isRow_119 (by decide) (fun c_18 => ?_) (fun c_18 => ?_)
                      · skip
                        refine lv_iinc (v := (nI (k + 1))) (lv' := [(6, .int (nI (k + 1))), (5, .int 0), (8, .int (nI ((dg 36 R M k) % 6))), (7, .int (nI ((dg 36 R M k) / 6))), (3, .int set), (2, .int (nI M)), (0, .ref o)]) hx hb dX2_isRow_130 hl (k := 3) rfl (nI_1 k) (by decide) rfl (fun ls hl => ?_)
                        refine lv_goto (tgt := 48) hx hb dX2_isRow_133 (by decide) ?_
                        have eR : (rgo (fuM (a 4)) (fun c => lastsV (a 2 c) (a 5 c)) n (dg 36 R M) (mbeg n (a 3) (a 4) ((a 12), (a 13), (a 14), (a 15), (a 16))) (k + 1)) = (((rgo (fuM (a 4)) (fun c => lastsV (a 2 c) (a 5 c)) n (dg 36 R M) (mbeg n (a 3) (a 4) ((a 12), (a 13), (a 14), (a 15), (a 16))) k).1), false) := by show rstep _ _ _ _ k _ = _; rw [rstep, if_neg (by rw [hcan]; decide), if_neg qn]
                        exact ih2 (k + 1) (by omega) (by omega) _ _ (by rw [eR]; exact hP) (by rw [eR]; exact hD) hS _ (by rw [eR]; exact (lv_sub hl [0, 1, 4, 5, 6] rfl))
                      · skip
                        exact absurd c_18 (by decide)
                    · skip
                      have q3 := c_17
                      refine lv_iconst (v := 1) hx hb dX2_isRow_110 (by decide) ?_
                      refine lv_goto (tgt := 115) hx hb dX2_isRow_111 (by decide) ?_
                      refine lv_istore (lv' := [(5, .int 1), (8, .int (nI ((dg 36 R M k) % 6))), (7, .int (nI ((dg 36 R M k) / 6))), (6, .int (nI k)), (3, .int set), (2, .int (nI M)), (0, .ref o)]) hx hb dX2_isRow_115 hl (by decide) rfl (fun ls hl => ?_)
                      refine lv_iload hx hb dX2_isRow_117 (lv_at hl 0 rfl) ?_
                      refine lv_if_eq (tgt := 130) hx hb dX2_isRow_119 (by decide) (fun c_19 => ?_) (fun c_19 => ?_)
                      · skip
                        exact absurd c_19 (by decide)
                      · skip
                        refine lv_aload_n hx hb dX2_isRow_122 rfl (lv_at hl 6 rfl) ?_
                        refine lv_iload hx hb dX2_isRow_123 (lv_at hl 2 rfl) ?_
                        refine lv_iload hx hb dX2_isRow_125 (lv_at hl 1 rfl) ?_
                        refine va_callv (va_runV (As := [.int (nI ((dg 36 R M k) / 6)), .int (nI ((dg 36 R M k) % 6))]) (rest := []) ⟨hx, hb, hml, hown, hts⟩ (metX2_lend l dC dI ct A ex o q (upd (upd g 17 (-9)) 18 (-9)) (va_up (va_up (va_up (va_up (va_up (va_up a 12 (((rgo (fuM (a 4)) (fun c => lastsV (a 2 c) (a 5 c)) n (dg 36 R M) (mbeg n (a 3) (a 4) ((a 12), (a 13), (a 14), (a 15), (a 16))) k).1).1)) 13 (((rgo (fuM (a 4)) (fun c => lastsV (a 2 c) (a 5 c)) n (dg 36 R M) (mbeg n (a 3) (a 4) ((a 12), (a 13), (a 14), (a 15), (a 16))) k).1).2.1)) 14 (((rgo (fuM (a 4)) (fun c => lastsV (a 2 c) (a 5 c)) n (dg 36 R M) (mbeg n (a 3) (a 4) ((a 12), (a 13), (a 14), (a 15), (a 16))) k).1).2.2.1)) 15 (((rgo (fuM (a 4)) (fun c => lastsV (a 2 c) (a 5 c)) n (dg 36 R M) (mbeg n (a 3) (a 4) ((a 12), (a 13), (a 14), (a 15), (a 16))) k).1).2.2.2.1)) 16 (((rgo (fuM (a 4)) (fun c => lastsV (a 2 c) (a 5 c)) n (dg 36 R M) (mbeg n (a 3) (a 4) ((a 12), (a 13), (a 14), (a 15), (a 16))) k).1).2.2.2.2)) 19 (tdF 36 R M 0 (a 19))) (nI ((dg 36 R M k) / 6)) (nI ((dg 36 R M k) % 6)) n ((dg 36 R M k) / 6) ((dg 36 R M k) % 6) hn6 (by omega) q2 rfl rfl hh) (cwV 2 hts (lw_V q1185 q1187 qs58 q74 q1188) rfl rfl rfl (by decide +kernel) ⟨Nat.le_of_ble_eq_true rfl, Nat.le_of_ble_eq_true rfl⟩) (mPV hK hP hD _) rfl rfl hl.1 rfl (lv_room (Nat.le_of_ble_eq_true rfl)) dX2_isRow_127 ⟨Nat.zero_le _, Nat.zero_le _⟩) hS (fun q _ h => h) (fun q h => h) (fun u t H1 locs ht hvm hw hB hz1 hk1 hS => ?_)
                        subst hw
                        obtain ⟨hP, -, hD⟩ := hB
                        rw [ht] at hP
                        generalize H1 = H at hP hS ⊢
                        have hP : va_P (dC, dI) clA (mW ct o q (upd (upd g 17 (-9)) 18 (-9)) (va_up (va_up (va_up (va_up (va_up (va_up a 12 ((llend (fuM (a 4)) (fun c => lastsV ((a 2) c) ((a 5) c)) ((dg 36 R M k) / 6) ((dg 36 R M k) % 6) ((rgo (fuM (a 4)) (fun c => lastsV (a 2 c) (a 5 c)) n (dg 36 R M) (mbeg n (a 3) (a 4) ((a 12), (a 13), (a 14), (a 15), (a 16))) k).1)).1)) 13 ((llend (fuM (a 4)) (fun c => lastsV ((a 2) c) ((a 5) c)) ((dg 36 R M k) / 6) ((dg 36 R M k) % 6) ((rgo (fuM (a 4)) (fun c => lastsV (a 2 c) (a 5 c)) n (dg 36 R M) (mbeg n (a 3) (a 4) ((a 12), (a 13), (a 14), (a 15), (a 16))) k).1)).2.1)) 14 ((llend (fuM (a 4)) (fun c => lastsV ((a 2) c) ((a 5) c)) ((dg 36 R M k) / 6) ((dg 36 R M k) % 6) ((rgo (fuM (a 4)) (fun c => lastsV (a 2 c) (a 5 c)) n (dg 36 R M) (mbeg n (a 3) (a 4) ((a 12), (a 13), (a 14), (a 15), (a 16))) k).1)).2.2.1)) 15 ((llend (fuM (a 4)) (fun c => lastsV ((a 2) c) ((a 5) c)) ((dg 36 R M k) / 6) ((dg 36 R M k) % 6) ((rgo (fuM (a 4)) (fun c => lastsV (a 2 c) (a 5 c)) n (dg 36 R M) (mbeg n (a 3) (a 4) ((a 12), (a 13), (a 14), (a 15), (a 16))) k).1)).2.2.2.1)) 16 ((llend (fuM (a 4)) (fun c => lastsV ((a 2) c) ((a 5) c)) ((dg 36 R M k) / 6) ((dg 36 R M k) % 6) ((rgo (fuM (a 4)) (fun c => lastsV (a 2 c) (a 5 c)) n (dg 36 R M) (mbeg n (a 3) (a 4) ((a 12), (a 13), (a 14), (a 15), (a 16))) k).1)).2.2.2.2)) 19 (tdF 36 R M 0 (a 19))) ++ ex) H := hP
                        have hD : va_D A (mW ct o q (upd (upd g 17 (-9)) 18 (-9)) (va_up (va_up (va_up (va_up (va_up (va_up a 12 ((llend (fuM (a 4)) (fun c => lastsV ((a 2) c) ((a 5) c)) ((dg 36 R M k) / 6) ((dg 36 R M k) % 6) ((rgo (fuM (a 4)) (fun c => lastsV (a 2 c) (a 5 c)) n (dg 36 R M) (mbeg n (a 3) (a 4) ((a 12), (a 13), (a 14), (a 15), (a 16))) k).1)).1)) 13 ((llend (fuM (a 4)) (fun c => lastsV ((a 2) c) ((a 5) c)) ((dg 36 R M k) / 6) ((dg 36 R M k) % 6) ((rgo (fuM (a 4)) (fun c => lastsV (a 2 c) (a 5 c)) n (dg 36 R M) (mbeg n (a 3) (a 4) ((a 12), (a 13), (a 14), (a 15), (a 16))) k).1)).2.1)) 14 ((llend (fuM (a 4)) (fun c => lastsV ((a 2) c) ((a 5) c)) ((dg 36 R M k) / 6) ((dg 36 R M k) % 6) ((rgo (fuM (a 4)) (fun c => lastsV (a 2 c) (a 5 c)) n (dg 36 R M) (mbeg n (a 3) (a 4) ((a 12), (a 13), (a 14), (a 15), (a 16))) k).1)).2.2.1)) 15 ((llend (fuM (a 4)) (fun c => lastsV ((a 2) c) ((a 5) c)) ((dg 36 R M k) / 6) ((dg 36 R M k) % 6) ((rgo (fuM (a 4)) (fun c => lastsV (a 2 c) (a 5 c)) n (dg 36 R M) (mbeg n (a 3) (a 4) ((a 12), (a 13), (a 14), (a 15), (a 16))) k).1)).2.2.2.1)) 16 ((llend (fuM (a 4)) (fun c => lastsV ((a 2) c) ((a 5) c)) ((dg 36 R M k) / 6) ((dg 36 R M k) % 6) ((rgo (fuM (a 4)) (fun c => lastsV (a 2 c) (a 5 c)) n (dg 36 R M) (mbeg n (a 3) (a 4) ((a 12), (a 13), (a 14), (a 15), (a 16))) k).1)).2.2.2.2)) 19 (tdF 36 R M 0 (a 19))) ++ ex) := hD
                        refine lv_iinc (v := (nI (k + 1))) (lv' := [(6, .int (nI (k + 1))), (5, .int 1), (8, .int (nI ((dg 36 R M k) % 6))), (7, .int (nI ((dg 36 R M k) / 6))), (3, .int set), (2, .int (nI M)), (0, .ref o)]) hx hb dX2_isRow_130 hl (k := 3) rfl (nI_1 k) (by decide) rfl (fun ls hl => ?_)
                        refine lv_goto (tgt := 48) hx hb dX2_isRow_133 (by decide) ?_
                        have eR : (rgo (fuM (a 4)) (fun c => lastsV (a 2 c) (a 5 c)) n (dg 36 R M) (mbeg n (a 3) (a 4) ((a 12), (a 13), (a 14), (a 15), (a 16))) (k + 1)) = ((llend (fuM (a 4)) (fun c => lastsV ((a 2) c) ((a 5) c)) ((dg 36 R M k) / 6) ((dg 36 R M k) % 6) ((rgo (fuM (a 4)) (fun c => lastsV (a 2 c) (a 5 c)) n (dg 36 R M) (mbeg n (a 3) (a 4) ((a 12), (a 13), (a 14), (a 15), (a 16))) k).1)), true) := by show rstep _ _ _ _ k _ = _; rw [rstep, if_neg (by rw [hcan]; decide), if_pos ⟨q1, q2, q3⟩]
                        exact ih2 (k + 1) (by omega) (by omega) _ _ (by rw [eR]; exact hP) (by rw [eR]; exact hD) hS _ (by rw [eR]; exact (lv_sub hl [0, 1, 4, 5, 6] rfl))
        exact loop2 (M + 1) 0 (by omega) (by omega) _ _ hP hD hS _ (lv_sub hl [0, 1, 3, 4, 5] rfl)
      · skip
        obtain ⟨t1, ht1⟩ : ∃ z, tt = z + 1 := ⟨tt - 1, by have z := mt (pre_neg tt (by omega)).mpr c_2; omega⟩
        subst ht1
        have hq : (R / 36 ^ (M - (t1 + 1))) < 2 ^ 31 := Nat.lt_of_le_of_lt (Nat.div_le_self _ _) (by omega)
        refine lv_aload_n hx hb dX2_isRow_20 rfl (lv_at hl 5 rfl) ?_
        refine m_get (v := .ref (q 19)) hx hb hts hown hK hP 19 (by decide) rfl q1003 rfl dX2_isRow_21 ?_
        refine lv_iload hx hb dX2_isRow_24 (lv_at hl 0 rfl) ?_
        refine lv_iload hx hb dX2_isRow_26 (lv_at hl 2 rfl) ?_
        refine lv_bipush (v := 36) hx hb dX2_isRow_28 (by decide) ?_
        refine lv_irem hx hb dX2_isRow_30 (by decide) ?_
        refine m_ist (x := ((nI (R / 36 ^ (M - (t1 + 1)))) - (nI (R / 36 ^ (M - (t1 + 1)))) / 36 * 36)) hx hb hK hP hD hS (mWa19 _ _ _ _ _ _) (mWs19 _ _ _ _ _ _) (tdF 36 R M (t1 + 1) (a 19)) rfl t1 (nI_pred t1) (by omega) (by decide) dX2_isRow_31 (fun H locs hP hD hS => ?_)
        have eW_20 : ∀ (zg17 : Int32) (zg18 : Int32) (za12 : Nat → Int32) (za13 : Nat → Int32) (za14 : Nat → Int32) (za15 : Nat → Int32) (za16 : Nat → Int32) (za19 : Nat → Int32) (zn : Nat → Int32), mW ct o q (upd (upd g 17 zg17) 18 zg18) (va_up (va_up (va_up (va_up (va_up (va_up (va_up a 12 za12) 13 za13) 14 za14) 15 za15) 16 za16) 19 za19) 19 zn) ++ ex = mW ct o q (upd (upd g 17 zg17) 18 zg18) (va_up (va_up (va_up (va_up (va_up (va_up a 12 za12) 13 za13) 14 za14) 15 za15) 16 za16) 19 zn) ++ ex := fun _ _ _ _ _ _ _ _ _ => rfl
        have hP : va_P (dC, dI) clA (mW ct o q (upd (upd g 17 (-9)) 18 (-9)) (va_up (va_up (va_up (va_up (va_up (va_up a 12 ((mbeg n (a 3) (a 4) ((a 12), (a 13), (a 14), (a 15), (a 16))).1)) 13 ((mbeg n (a 3) (a 4) ((a 12), (a 13), (a 14), (a 15), (a 16))).2.1)) 14 ((mbeg n (a 3) (a 4) ((a 12), (a 13), (a 14), (a 15), (a 16))).2.2.1)) 15 ((mbeg n (a 3) (a 4) ((a 12), (a 13), (a 14), (a 15), (a 16))).2.2.2.1)) 16 ((mbeg n (a 3) (a 4) ((a 12), (a 13), (a 14), (a 15), (a 16))).2.2.2.2)) 19 (upd (tdF 36 R M (t1 + 1) (a 19)) t1 ((nI (R / 36 ^ (M - (t1 + 1)))) - (nI (R / 36 ^ (M - (t1 + 1)))) / 36 * 36))) ++ ex) H := Eq.mp (congrArg (fun w => va_P (dC, dI) clA w H) (eW_20 (-9) (-9) ((mbeg n (a 3) (a 4) ((a 12), (a 13), (a 14), (a 15), (a 16))).1) ((mbeg n (a 3) (a 4) ((a 12), (a 13), (a 14), (a 15), (a 16))).2.1) ((mbeg n (a 3) (a 4) ((a 12), (a 13), (a 14), (a 15), (a 16))).2.2.1) ((mbeg n (a 3) (a 4) ((a 12), (a 13), (a 14), (a 15), (a 16))).2.2.2.1) ((mbeg n (a 3) (a 4) ((a 12), (a 13), (a 14), (a 15), (a 16))).2.2.2.2) (tdF 36 R M (t1 + 1) (a 19)) (upd (tdF 36 R M (t1 + 1) (a 19)) t1 ((nI (R / 36 ^ (M - (t1 + 1)))) - (nI (R / 36 ^ (M - (t1 + 1)))) / 36 * 36)))) hP
        have hD : va_D A (mW ct o q (upd (upd g 17 (-9)) 18 (-9)) (va_up (va_up (va_up (va_up (va_up (va_up a 12 ((mbeg n (a 3) (a 4) ((a 12), (a 13), (a 14), (a 15), (a 16))).1)) 13 ((mbeg n (a 3) (a 4) ((a 12), (a 13), (a 14), (a 15), (a 16))).2.1)) 14 ((mbeg n (a 3) (a 4) ((a 12), (a 13), (a 14), (a 15), (a 16))).2.2.1)) 15 ((mbeg n (a 3) (a 4) ((a 12), (a 13), (a 14), (a 15), (a 16))).2.2.2.1)) 16 ((mbeg n (a 3) (a 4) ((a 12), (a 13), (a 14), (a 15), (a 16))).2.2.2.2)) 19 (upd (tdF 36 R M (t1 + 1) (a 19)) t1 ((nI (R / 36 ^ (M - (t1 + 1)))) - (nI (R / 36 ^ (M - (t1 + 1)))) / 36 * 36))) ++ ex) := Eq.mp (congrArg (fun w => va_D A w) (eW_20 (-9) (-9) ((mbeg n (a 3) (a 4) ((a 12), (a 13), (a 14), (a 15), (a 16))).1) ((mbeg n (a 3) (a 4) ((a 12), (a 13), (a 14), (a 15), (a 16))).2.1) ((mbeg n (a 3) (a 4) ((a 12), (a 13), (a 14), (a 15), (a 16))).2.2.1) ((mbeg n (a 3) (a 4) ((a 12), (a 13), (a 14), (a 15), (a 16))).2.2.2.1) ((mbeg n (a 3) (a 4) ((a 12), (a 13), (a 14), (a 15), (a 16))).2.2.2.2) (tdF 36 R M (t1 + 1) (a 19)) (upd (tdF 36 R M (t1 + 1) (a 19)) t1 ((nI (R / 36 ^ (M - (t1 + 1)))) - (nI (R / 36 ^ (M - (t1 + 1)))) / 36 * 36)))) hD
        have e_21 : (upd (tdF 36 R M (t1 + 1) (a 19)) t1 ((nI (R / 36 ^ (M - (t1 + 1)))) - (nI (R / 36 ^ (M - (t1 + 1)))) / 36 * 36)) = (tdF 36 R M t1 (a 19)) := tdF_s (by omega) (nI_rem (d := 36) hq (by decide) (by decide))
        rw [e_21] at hP hD
        refine lv_iload hx hb dX2_isRow_32 (lv_at hl 2 rfl) ?_
        refine lv_bipush (v := 36) hx hb dX2_isRow_34 (by decide) ?_
        refine lv_idiv hx hb dX2_isRow_36 (by decide) ?_
        refine lv_topi (fun z_22 ez_22 => ?_)
        have ez_22 : z_22 = (nI (R / 36 ^ (M - t1))) := ez_22.trans ((pk_div (d := 36) hq (by decide) (by decide)).trans (congrArg nI (dg_div (by omega))))
        subst ez_22
        refine lv_istore (lv' := [(4, .int (nI (R / 36 ^ (M - t1)))), (6, .int ((nI (t1 + 1)) - 1)), (5, .int 1), (3, .int set), (2, .int (nI M)), (0, .ref o)]) hx hb dX2_isRow_37 hl (by decide) rfl (fun ls hl => ?_)
        refine lv_iinc (v := ((nI t1) - 1)) (lv' := [(6, .int ((nI t1) - 1)), (4, .int (nI (R / 36 ^ (M - t1)))), (5, .int 1), (3, .int set), (2, .int (nI M)), (0, .ref o)]) hx hb dX2_isRow_39 hl (k := 1) rfl (dec_one t1) (by decide) rfl (fun ls hl => ?_)
        refine lv_goto (tgt := 15) hx hb dX2_isRow_42 (by decide) ?_
        exact ih1 t1 (by omega) (by omega) _ _ hP hD hS _ (lv_sub hl [0, 2, 1, 3, 4, 5] rfl)
  exact loop1 (M + 1) M (by omega) (by omega) _ _ (by rw [tdF_M]; exact hP) (by rw [tdF_M]; exact hD) hS _ (lv_sub hl [0, 1, 2, 6, 5, 3] rfl)
set_option maxHeartbeats 4000000 in
set_option maxRecDepth 100000 in
theorem metX2_fewest (l : Launch) (dC : Nat → ClassId) (dI : Nat → Nat → Nat) (ct : Nat → ClassId) (A : Nat → Prop) (ex : va_W) (o : Nat) (q : Nat → Nat) (g : Nat → Int32) (a : Nat → Nat → Int32) (set : Int32) (k : Int32) (n : Nat) (hn6 : n ≤ 6) (hn : g 1 = nI n) : Met l yX2_fewest (ws_ yX2_fewest cX2_fewest 6 (some .int)) ({ frames := 4, cells := 0, slots := 0, locals := 94 }) (mPre dC dI ct A ex o q g a [.ref o, .int set, .int k]) (va_Qi (fun (r : Int32) (u : (Nat → Int32) × (Nat → Nat → Int32)) => r = (M_fewest n a set k) ∧ ∃ (S : LnS (Nat → Int32)), ∃ (V : Int32 × Int32), ∃ (D : Nat → Int32), u = ((upd (upd g 17 V.1) 18 V.2), (va_up (va_up (va_up (va_up (va_up (va_up a 12 S.1) 13 S.2.1) 14 S.2.2.1) 15 S.2.2.2.1) 16 S.2.2.2.2) 19 D))) (mB dC dI ct A ex o q) A) 0 0 A := by
  refine Met.ofW (cc := cX2_fewest) (maxL := 6) (ret := (some .int)) (by decide) rfl ?_
  intro p e s m args below meth c s₁ B hml hv
  obtain ⟨rfl, hP, hK, hD⟩ := hv
  have hx := B.exec
  have hb := B.bytes
  have hr := B.returns
  have hts := atoms_spec (ws := ws_ yX2_fewest cX2_fewest 6 (some .int)) B.pre
  have hts : ∀ w ∈ lw_all, w.before _ s = true := fun w h => hts w (List.mem_cons_of_mem _ h)
  have hown : s.vm.findClass RX2 = some m.cls := findClass_of_methodNamed B.named
  have hlocks := B.notSynchronized
  have hS : va_S A s.heap s.heap [] := va_S.rf
  have hl := lv_entry ([.ref o, .int set, .int k]) (n := 6) (Nat.le_of_ble_eq_true rfl)
  rw [lg_entry_eq]
  generalize (lg_sl ([.ref o, .int set, .int k]) ++ List.replicate (6 - (lg_sl ([.ref o, .int set, .int k])).length) Slot.unset).toArray = ls at hl ⊢
  have hl : lv_has ls 6 [(0, .ref o), (1, .int set), (2, .int k)] := hl
  refine lv_aload_n hx hb dX2_fewest_0 rfl (lv_at hl 0 rfl) ?_
  refine m_get (v := .int (g 1)) hx hb hts hown hK hP 1 (by decide) rfl q985 rfl dX2_fewest_1 ?_
  refine lv_if_ne (tgt := 10) hx hb dX2_fewest_4 (by decide) (fun c_1 => ?_) (fun c_1 => ?_)
  · skip
    have hn0 : ¬ n = 0 := fun z => c_1 (by rw [hn, z]; rfl)
    refine lv_iload_n hx hb dX2_fewest_10 rfl (lv_at hl 1 rfl) ?_
    refine lv_i2l (v := (Int32.toInt64 set)) hx hb dX2_fewest_11 rfl ?_
    refine lv_lconst (v := 0) hx hb dX2_fewest_12 (by decide) ?_
    refine lv_aload_n hx hb dX2_fewest_13 rfl (lv_at hl 0 rfl) ?_
    refine vp_callSi ((va_runV (As := []) (rest := [.long 0, .long (Int32.toInt64 set)]) ⟨hx, hb, hml, hown, hts⟩ (metX2_everybody l dC dI ct A ex o q g a  n hn) (cwV 0 hts (lw_V q1177 q1179 qs56 q74 q1180) rfl rfl rfl (by decide +kernel) ⟨Nat.le_of_ble_eq_true rfl, Nat.le_of_ble_eq_true rfl⟩) (mPV hK hP hD _) rfl rfl hl.1 rfl (lv_room (Nat.le_of_ble_eq_true rfl)) dX2_fewest_14 ⟨Nat.zero_le _, Nat.zero_le _⟩)).run (fun r hw => ?_)
    have hw : r = (evb n) := hw
    subst hw
    refine lv_i2l (v := (Int32.toInt64 (evb n))) hx hb dX2_fewest_17 rfl ?_
    refine vp_callSi ((va_runS (As := [.long (Int32.toInt64 set), .long 0, .long (Int32.toInt64 (evb n))]) (rest := []) ⟨hx, hb, hml, hown, hts⟩ (metX2_in l (Int32.toInt64 set) 0 (Int32.toInt64 (evb n)) ) (va_cwS 3 hts (lw_S q1083 q1084 q74 q1085) rfl rfl rfl (by decide +kernel) ⟨Nat.le_of_ble_eq_true rfl, Nat.le_of_ble_eq_true rfl⟩) (pcS _) rfl rfl hl.1 rfl (lv_room (Nat.le_of_ble_eq_true rfl)) dX2_fewest_18 ⟨Nat.zero_le _, Nat.zero_le _⟩)).run (fun r hw => ?_)
    have hw : r = (b2i (lin (Int32.toInt64 set) 0 (Int32.toInt64 (evb n)))) := hw
    subst hw
    refine bz_eq (tgt := 38) hx hb dX2_fewest_21 (by decide) (fun c_2 => ?_) (fun c_2 => ?_)
    · skip
      refine lv_bipush (v := (-2)) hx hb dX2_fewest_38 (by decide) ?_
      exact W.iret (v := (-2)) hx hb hr (fun t ht hW => ⟨⟨(-2), (g, a), rfl, ⟨(by rw [M_fewest, if_neg hn0, if_neg]; rintro ⟨z1, z2⟩; first | exact absurd (z1.symm.trans c_2) (by decide) | exact absurd (z2.symm.trans c_2) (by decide)), ⟨((a 12), (a 13), (a 14), (a 15), (a 16)), (g 17, g 18), a 19, fw_id g a⟩⟩, by rw [ht]; exact hP, va_K.moved hW.alike hK, hD⟩, hS.F ht⟩) hS.2.2 dX2_fewest_40
    · skip
      have hA := c_2
      refine lv_iload_n hx hb dX2_fewest_24 rfl (lv_at hl 2 rfl) ?_
      refine lv_i2l (v := (Int32.toInt64 k)) hx hb dX2_fewest_25 rfl ?_
      refine lv_ldc2 (v := (-1)) hx hb hown (hts _ q1201) dX2_fewest_26 ?_
      refine lv_ldc2 (v := 2) hx hb hown (hts _ q1090) dX2_fewest_29 ?_
      refine vp_callSi ((va_runS (As := [.long (Int32.toInt64 k), .long (-1), .long 2]) (rest := []) ⟨hx, hb, hml, hown, hts⟩ (metX2_in l (Int32.toInt64 k) (-1) 2 ) (va_cwS 3 hts (lw_S q1083 q1084 q74 q1085) rfl rfl rfl (by decide +kernel) ⟨Nat.le_of_ble_eq_true rfl, Nat.le_of_ble_eq_true rfl⟩) (pcS _) rfl rfl hl.1 rfl (lv_room (Nat.le_of_ble_eq_true rfl)) dX2_fewest_32 ⟨Nat.zero_le _, Nat.zero_le _⟩)).run (fun r hw => ?_)
      have hw : r = (b2i (lin (Int32.toInt64 k) (-1) 2)) := hw
      subst hw
      refine bz_ne (tgt := 41) hx hb dX2_fewest_35 (by decide) (fun c_3 => ?_) (fun c_3 => ?_)
      · skip
        have hB := c_3
        refine lv_iconst (v := 1) hx hb dX2_fewest_41 (by decide) ?_
        refine lv_istore_n (lv' := [(3, .int 1), (0, .ref o), (1, .int set), (2, .int k)]) hx hb dX2_fewest_42 rfl hl (by decide) rfl (fun ls hl => ?_)
        refine lv_iconst (v := 0) hx hb dX2_fewest_43 (by decide) ?_
        refine lv_istore (lv' := [(4, .int 0), (3, .int 1), (0, .ref o), (1, .int set), (2, .int k)]) hx hb dX2_fewest_44 hl (by decide) rfl (fun ls hl => ?_)
        have loop1 : ∀ (f1 : Nat) (mm : Nat) (S : LnS (Nat → Int32)) (V : Int32 × Int32) (D : Nat → Int32), (mm ≤ 4) → (4 + 1 ≤ mm + f1) → (∀ m, m < mm → ∀ r, r < 36 ^ m → rowOk n (a 3) (a 4) (fun c => lastsV (a 2 c) (a 5 c)) set m (dg 36 r m) = false) → ∀ (H : Heap) (locs : List Loc), va_P (dC, dI) clA (mW ct o q (upd (upd g 17 V.1) 18 V.2) (va_up (va_up (va_up (va_up (va_up (va_up a 12 S.1) 13 S.2.1) 14 S.2.2.1) 15 S.2.2.2.1) 16 S.2.2.2.2) 19 D) ++ ex) H → va_D A (mW ct o q (upd (upd g 17 V.1) 18 V.2) (va_up (va_up (va_up (va_up (va_up (va_up a 12 S.1) 13 S.2.1) 14 S.2.2.1) 15 S.2.2.2.1) 16 S.2.2.2.2) 19 D) ++ ex) → va_S A s.heap H locs → ∀ (ls : Array Slot), lv_has ls 6 [(4, .int (nI mm)), (3, .int (nI (36 ^ mm))), (2, .int k), (1, .int set), (0, .ref o)] → W p l e (headSpec (ws_ yX2_fewest cX2_fewest 6 (some .int)) ({ frames := 4, cells := 0, slots := 0, locals := 94 })).room s m ([.ref o, .int set, .int k] : List Value).toArray below meth c H locs 0 0 (MQ below (va_Qi (fun (r : Int32) (u : (Nat → Int32) × (Nat → Nat → Int32)) => r = (M_fewest n a set k) ∧ ∃ (S : LnS (Nat → Int32)), ∃ (V : Int32 × Int32), ∃ (D : Nat → Int32), u = ((upd (upd g 17 V.1) 18 V.2), (va_up (va_up (va_up (va_up (va_up (va_up a 12 S.1) 13 S.2.1) 14 S.2.2.1) 15 S.2.2.2.1) 16 S.2.2.2.2) 19 D))) (mB dC dI ct A ex o q) A) ([.ref o, .int set, .int k] : List Value).toArray s 0 0 A) (F0 m 46 ls []) := by
          intro f1
          induction f1 with
          | zero => intro mm S V D hm4 hf hmb; exact False.elim (by omega)
          | succ f1 ih1 =>
            intro mm S V D hm4 hf hmb H locs hP hD hS ls hl
            refine lv_iload hx hb dX2_fewest_46 (lv_at hl 0 rfl) ?_
            refine lv_iconst (v := 4) hx hb dX2_fewest_48 (by decide) ?_
            refine lv_icmp_ge (tgt := 133) hx hb dX2_fewest_49 (by decide) (fun c_4 => ?_) (fun c_4 => ?_)
            · skip
              have hge : mm = 4 := Nat.le_antisymm hm4 ((nI_leI (a := 4) (by omega) (by omega)).mp c_4)
              subst hge
              refine lv_bipush (v := (-9)) hx hb dX2_fewest_133 (by decide) ?_
              exact W.iret (v := (-9)) hx hb hr (fun t ht hW => ⟨⟨(-9), ((upd (upd g 17 V.1) 18 V.2), (va_up (va_up (va_up (va_up (va_up (va_up a 12 S.1) 13 S.2.1) 14 S.2.2.1) 15 S.2.2.2.1) 16 S.2.2.2.2) 19 D)), rfl, ⟨(by rw [M_fewest, if_neg hn0, if_pos (And.intro hA hB), few_none hmb]; rfl), ⟨S, V, D, rfl⟩⟩, by rw [ht]; exact hP, va_K.moved hW.alike hK, hD⟩, hS.F ht⟩) hS.2.2 dX2_fewest_135
            · skip
              have hlt : mm < 4 := Nat.lt_of_not_le (fun z => c_4 ((nI_leI (a := 4) (by omega) (by omega)).mpr z))
              have hp : 36 ^ mm ≤ 46656 := pow36_le mm hlt
              refine lv_iconst (v := 0) hx hb dX2_fewest_52 (by decide) ?_
              refine lv_istore (lv' := [(5, .int 0), (4, .int (nI mm)), (3, .int (nI (36 ^ mm))), (2, .int k), (1, .int set), (0, .ref o)]) hx hb dX2_fewest_53 hl (by decide) rfl (fun ls hl => ?_)
              have loop2 : ∀ (f2 : Nat) (rr : Nat) (S : LnS (Nat → Int32)) (V : Int32 × Int32) (D : Nat → Int32), (rr ≤ 36 ^ mm) → (36 ^ mm + 1 ≤ rr + f2) → (∀ r, r < rr → rowOk n (a 3) (a 4) (fun c => lastsV (a 2 c) (a 5 c)) set mm (dg 36 r mm) = false) → ∀ (H : Heap) (locs : List Loc), va_P (dC, dI) clA (mW ct o q (upd (upd g 17 V.1) 18 V.2) (va_up (va_up (va_up (va_up (va_up (va_up a 12 S.1) 13 S.2.1) 14 S.2.2.1) 15 S.2.2.2.1) 16 S.2.2.2.2) 19 D) ++ ex) H → va_D A (mW ct o q (upd (upd g 17 V.1) 18 V.2) (va_up (va_up (va_up (va_up (va_up (va_up a 12 S.1) 13 S.2.1) 14 S.2.2.1) 15 S.2.2.2.1) 16 S.2.2.2.2) 19 D) ++ ex) → va_S A s.heap H locs → ∀ (ls : Array Slot), lv_has ls 6 [(5, .int (nI rr)), (4, .int (nI mm)), (3, .int (nI (36 ^ mm))), (2, .int k), (1, .int set), (0, .ref o)] → W p l e (headSpec (ws_ yX2_fewest cX2_fewest 6 (some .int)) ({ frames := 4, cells := 0, slots := 0, locals := 94 })).room s m ([.ref o, .int set, .int k] : List Value).toArray below meth c H locs 0 0 (MQ below (va_Qi (fun (r : Int32) (u : (Nat → Int32) × (Nat → Nat → Int32)) => r = (M_fewest n a set k) ∧ ∃ (S : LnS (Nat → Int32)), ∃ (V : Int32 × Int32), ∃ (D : Nat → Int32), u = ((upd (upd g 17 V.1) 18 V.2), (va_up (va_up (va_up (va_up (va_up (va_up a 12 S.1) 13 S.2.1) 14 S.2.2.1) 15 S.2.2.2.1) 16 S.2.2.2.2) 19 D))) (mB dC dI ct A ex o q) A) ([.ref o, .int set, .int k] : List Value).toArray s 0 0 A) (F0 m 55 ls []) := by
                intro f2
                induction f2 with
                | zero => intro rr S V D hrr hf2 hrb; exact False.elim (by omega)
                | succ f2 ih2 =>
                  intro rr S V D hrr hf2 hrb H locs hP hD hS ls hl
                  refine lv_iload hx hb dX2_fewest_55 (lv_at hl 0 rfl) ?_
                  refine lv_iload_n hx hb dX2_fewest_57 rfl (lv_at hl 2 rfl) ?_
                  refine lv_icmp_ge (tgt := 122) hx hb dX2_fewest_58 (by decide) (fun c_5 => ?_) (fun c_5 => ?_)
                  · skip
                    have hge2 : rr = 36 ^ mm := Nat.le_antisymm hrr ((nI_leI (by omega) (by omega)).mp c_5)
                    rw [hge2] at hrb
                    refine lv_iload_n hx hb dX2_fewest_122 rfl (lv_at hl 2 rfl) ?_
                    refine lv_bipush (v := 36) hx hb dX2_fewest_123 (by decide) ?_
                    refine lv_imul hx hb dX2_fewest_125 ?_
                    refine lv_topi (fun z_6 ez_6 => ?_)
                    have ez_6 : z_6 = (nI (36 ^ (mm + 1))) := ez_6.trans ((pk_mul (36 ^ mm) 36).trans (congrArg nI (Nat.pow_succ ..).symm))
                    subst ez_6
                    refine lv_istore_n (lv' := [(3, .int (nI (36 ^ (mm + 1)))), (5, .int (nI rr)), (4, .int (nI mm)), (2, .int k), (1, .int set), (0, .ref o)]) hx hb dX2_fewest_126 rfl hl (by decide) rfl (fun ls hl => ?_)
                    refine lv_iinc (v := (nI (mm + 1))) (lv' := [(4, .int (nI (mm + 1))), (3, .int (nI (36 ^ (mm + 1)))), (5, .int (nI rr)), (2, .int k), (1, .int set), (0, .ref o)]) hx hb dX2_fewest_127 hl (k := 2) rfl (nI_1 mm) (by decide) rfl (fun ls hl => ?_)
                    refine lv_goto (tgt := 46) hx hb dX2_fewest_130 (by decide) ?_
                    exact ih1 (mm + 1) S V D (by omega) (by omega) (fun m hm r hr9 => (Nat.lt_or_eq_of_le (Nat.le_of_lt_succ hm)).elim (fun z => hmb m z r hr9) (fun z => by rw [z] at hr9 ⊢; exact hrb r hr9)) _ _ hP hD hS _ (lv_sub hl [0, 1, 3, 4, 5] rfl)
                  · skip
                    have hlt2 : rr < 36 ^ mm := Nat.lt_of_not_le (fun z => c_5 ((nI_leI (by omega) (by omega)).mpr z))
                    refine lv_aload_n hx hb dX2_fewest_61 rfl (lv_at hl 5 rfl) ?_
                    refine lv_iload hx hb dX2_fewest_62 (lv_at hl 0 rfl) ?_
                    refine lv_iload hx hb dX2_fewest_64 (lv_at hl 1 rfl) ?_
                    refine lv_iload_n hx hb dX2_fewest_66 rfl (lv_at hl 4 rfl) ?_
                    refine va_calli (va_runV (As := [.int (nI rr), .int (nI mm), .int set]) (rest := []) ⟨hx, hb, hml, hown, hts⟩ (metX2_isRow l dC dI ct A ex o q (upd (upd g 17 V.1) 18 V.2) (va_up (va_up (va_up (va_up (va_up (va_up a 12 S.1) 13 S.2.1) 14 S.2.2.1) 15 S.2.2.2.1) 16 S.2.2.2.2) 19 D) (nI rr) (nI mm) set n rr mm hn6 hn rfl rfl (by omega) (by omega)) (cwV 3 hts (lw_V q1202 q1204 qs61 q74 q1205) rfl rfl rfl (by decide +kernel) ⟨Nat.le_of_ble_eq_true rfl, Nat.le_of_ble_eq_true rfl⟩) (mPV hK hP hD _) rfl rfl hl.1 rfl (lv_room (Nat.le_of_ble_eq_true rfl)) dX2_fewest_67 ⟨Nat.zero_le _, Nat.zero_le _⟩) hS (fun q _ h => h) (fun q h => h) (fun r u t H1 locs ht hvm hw hB hz1 hk1 hS => ?_)
                    obtain ⟨hw, S_7, hw2⟩ := hw
                    have hw : r = (b2i (rowOk n (a 3) (a 4) (fun c => lastsV ((a 2) c) ((a 5) c)) set mm (dg 36 rr mm))) := hw
                    subst hw
                    subst hw2
                    obtain ⟨hP, -, hD⟩ := hB
                    rw [ht] at hP
                    generalize H1 = H at hP hS ⊢
                    have hP : va_P (dC, dI) clA (mW ct o q (upd (upd g 17 (-9)) 18 (-9)) (va_up (va_up (va_up (va_up (va_up (va_up a 12 S_7.1) 13 S_7.2.1) 14 S_7.2.2.1) 15 S_7.2.2.2.1) 16 S_7.2.2.2.2) 19 (tdF 36 rr mm 0 D)) ++ ex) H := hP
                    have hD : va_D A (mW ct o q (upd (upd g 17 (-9)) 18 (-9)) (va_up (va_up (va_up (va_up (va_up (va_up a 12 S_7.1) 13 S_7.2.1) 14 S_7.2.2.1) 15 S_7.2.2.2.1) 16 S_7.2.2.2.2) 19 (tdF 36 rr mm 0 D)) ++ ex) := hD
                    refine bz_eq (tgt := 116) hx hb dX2_fewest_70 (by decide) (fun c_8 => ?_) (fun c_8 => ?_)
                    · skip
                      have hno := c_8
                      refine lv_iinc (v := (nI (rr + 1))) (lv' := [(5, .int (nI (rr + 1))), (4, .int (nI mm)), (3, .int (nI (36 ^ mm))), (2, .int k), (1, .int set), (0, .ref o)]) hx hb dX2_fewest_116 hl (k := 0) rfl (nI_1 rr) (by decide) rfl (fun ls hl => ?_)
                      refine lv_goto (tgt := 55) hx hb dX2_fewest_119 (by decide) ?_
                      exact ih2 (rr + 1) S_7 ((-9), (-9)) (tdF 36 rr mm 0 D) (by omega) (by omega) (fun r hr9 => (Nat.lt_or_eq_of_le (Nat.le_of_lt_succ hr9)).elim (fun z => hrb r z) (fun z => by rw [z]; exact hno)) _ _ hP hD hS _ (lv_sub hl [0, 1, 2, 3, 4, 5] rfl)
                    · skip
                      have hyes := c_8
                      refine lv_iload_n hx hb dX2_fewest_73 rfl (lv_at hl 3 rfl) ?_
                      refine lv_if_ge (tgt := 82) hx hb dX2_fewest_74 (by decide) (fun c_9 => ?_) (fun c_9 => ?_)
                      · skip
                        obtain ⟨ek, hk31⟩ := nI_of0 c_9
                        refine lv_iload_n hx hb dX2_fewest_82 rfl (lv_at hl 3 rfl) ?_
                        refine lv_iload hx hb dX2_fewest_83 (lv_at hl 1 rfl) ?_
                        refine lv_icmp_ge (tgt := 113) hx hb dX2_fewest_85 (by decide) (fun c_10 => ?_) (fun c_10 => ?_)
                        · skip
                          refine lv_bipush (v := (-9)) hx hb dX2_fewest_113 (by decide) ?_
                          have eF : (few (fun m r => rowOk n (a 3) (a 4) (fun c => lastsV (a 2 c) (a 5 c)) set m (dg 36 r m)) 4) = some (mm, rr) := few_some hyes hlt2 hrb hmb (by omega)
                          exact W.iret (v := (-9)) hx hb hr (fun t ht hW => ⟨⟨(-9), ((upd (upd g 17 (-9)) 18 (-9)), (va_up (va_up (va_up (va_up (va_up (va_up a 12 S_7.1) 13 S_7.2.1) 14 S_7.2.2.1) 15 S_7.2.2.2.1) 16 S_7.2.2.2.2) 19 (tdF 36 rr mm 0 D))), rfl, ⟨(by rw [M_fewest, if_neg hn0, if_pos (And.intro hA hB), eF]; show _ = (if 0 ≤ k then _ else _); rw [if_pos c_9, if_pos c_10]), ⟨S_7, ((-9), (-9)), (tdF 36 rr mm 0 D), rfl⟩⟩, by rw [ht]; exact hP, va_K.moved hW.alike hK, hD⟩, hS.F ht⟩) hS.2.2 dX2_fewest_115
                        · skip
                          have hkm : cix k < mm := Nat.lt_of_not_le (fun z => c_10 (by rw [ek]; exact nI_le z (by omega)))
                          have hd36 : (dg 36 rr mm (cix k)) < 36 := dg_lt (by decide)
                          refine lv_bipush (v := 10) hx hb dX2_fewest_88 (by decide) ?_
                          refine lv_aload_n hx hb dX2_fewest_90 rfl (lv_at hl 5 rfl) ?_
                          refine m_get (v := .ref (q 19)) hx hb hts hown hK hP 19 (by decide) rfl q1003 rfl dX2_fewest_91 ?_
                          refine lv_iload_n hx hb dX2_fewest_94 rfl (lv_at hl 3 rfl) ?_
                          refine m_ild hx hb hK hP (mWa19 _ _ _ _ _ _) (tdF 36 rr mm 0 D) rfl (cix k) ek (by omega) (by decide) dX2_fewest_95 ?_
                          refine lv_topi (fun z_11 ez_11 => ?_)
                          have ez_11 : z_11 = (nI (dg 36 rr mm (cix k))) := ez_11.trans (tdF_in hkm)
                          subst ez_11
                          refine lv_bipush (v := 6) hx hb dX2_fewest_96 (by decide) ?_
                          refine lv_idiv hx hb dX2_fewest_98 (by decide) ?_
                          refine lv_topi (fun z_12 ez_12 => ?_)
                          have ez_12 : z_12 = (nI ((dg 36 rr mm (cix k)) / 6)) := ez_12.trans (pk_div (d := 6) (by omega) (by decide) (by decide))
                          subst ez_12
                          refine lv_imul hx hb dX2_fewest_99 ?_
                          refine lv_aload_n hx hb dX2_fewest_100 rfl (lv_at hl 5 rfl) ?_
                          refine m_get (v := .ref (q 19)) hx hb hts hown hK hP 19 (by decide) rfl q1003 rfl dX2_fewest_101 ?_
                          refine lv_iload_n hx hb dX2_fewest_104 rfl (lv_at hl 3 rfl) ?_
                          refine m_ild hx hb hK hP (mWa19 _ _ _ _ _ _) (tdF 36 rr mm 0 D) rfl (cix k) ek (by omega) (by decide) dX2_fewest_105 ?_
                          refine lv_topi (fun z_13 ez_13 => ?_)
                          have ez_13 : z_13 = (nI (dg 36 rr mm (cix k))) := ez_13.trans (tdF_in hkm)
                          subst ez_13
                          refine lv_bipush (v := 6) hx hb dX2_fewest_106 (by decide) ?_
                          refine lv_irem hx hb dX2_fewest_108 (by decide) ?_
                          refine lv_topi (fun z_14 ez_14 => ?_)
                          have ez_14 : z_14 = (nI ((dg 36 rr mm (cix k)) % 6)) := ez_14.trans (nI_rem (d := 6) (by omega) (by decide) (by decide))
                          subst ez_14
                          refine lv_iadd hx hb dX2_fewest_109 ?_
                          refine lv_goto (tgt := 115) hx hb dX2_fewest_110 (by decide) ?_
                          have eF : (few (fun m r => rowOk n (a 3) (a 4) (fun c => lastsV (a 2 c) (a 5 c)) set m (dg 36 r m)) 4) = some (mm, rr) := few_some hyes hlt2 hrb hmb (by omega)
                          exact W.iret (v := ((10 * (nI ((dg 36 rr mm (cix k)) / 6))) + (nI ((dg 36 rr mm (cix k)) % 6)))) hx hb hr (fun t ht hW => ⟨⟨((10 * (nI ((dg 36 rr mm (cix k)) / 6))) + (nI ((dg 36 rr mm (cix k)) % 6))), ((upd (upd g 17 (-9)) 18 (-9)), (va_up (va_up (va_up (va_up (va_up (va_up a 12 S_7.1) 13 S_7.2.1) 14 S_7.2.2.1) 15 S_7.2.2.2.1) 16 S_7.2.2.2.2) 19 (tdF 36 rr mm 0 D))), rfl, ⟨(by rw [M_fewest, if_neg hn0, if_pos (And.intro hA hB), eF]; show _ = (if 0 ≤ k then _ else _); rw [if_pos c_9, if_neg c_10]), ⟨S_7, ((-9), (-9)), (tdF 36 rr mm 0 D), rfl⟩⟩, by rw [ht]; exact hP, va_K.moved hW.alike hK, hD⟩, hS.F ht⟩) hS.2.2 dX2_fewest_115
                      · skip
                        refine lv_iload hx hb dX2_fewest_77 (lv_at hl 1 rfl) ?_
                        refine lv_goto (tgt := 115) hx hb dX2_fewest_79 (by decide) ?_
                        have eF : (few (fun m r => rowOk n (a 3) (a 4) (fun c => lastsV (a 2 c) (a 5 c)) set m (dg 36 r m)) 4) = some (mm, rr) := few_some hyes hlt2 hrb hmb (by omega)
                        exact W.iret (v := (nI mm)) hx hb hr (fun t ht hW => ⟨⟨(nI mm), ((upd (upd g 17 (-9)) 18 (-9)), (va_up (va_up (va_up (va_up (va_up (va_up a 12 S_7.1) 13 S_7.2.1) 14 S_7.2.2.1) 15 S_7.2.2.2.1) 16 S_7.2.2.2.2) 19 (tdF 36 rr mm 0 D))), rfl, ⟨(by rw [M_fewest, if_neg hn0, if_pos (And.intro hA hB), eF]; show _ = (if 0 ≤ k then _ else _); rw [if_neg c_9]), ⟨S_7, ((-9), (-9)), (tdF 36 rr mm 0 D), rfl⟩⟩, by rw [ht]; exact hP, va_K.moved hW.alike hK, hD⟩, hS.F ht⟩) hS.2.2 dX2_fewest_115
              exact loop2 (36 ^ mm + 1) 0 S V D (Nat.zero_le _) (Nat.le_of_eq (Nat.zero_add _).symm) (fun r hr => absurd hr (Nat.not_lt_zero r)) _ _ hP hD hS _ (lv_sub hl [0, 1, 2, 3, 4, 5] rfl)
        exact loop1 5 0 ((a 12), (a 13), (a 14), (a 15), (a 16)) (g 17, g 18) (a 19) (by omega) (by omega) (fun m hm => absurd hm (Nat.not_lt_zero m)) _ _ hP hD hS _ (lv_sub hl [0, 1, 4, 3, 2] rfl)
      · skip
        refine lv_bipush (v := (-2)) hx hb dX2_fewest_38 (by decide) ?_
        exact W.iret (v := (-2)) hx hb hr (fun t ht hW => ⟨⟨(-2), (g, a), rfl, ⟨(by rw [M_fewest, if_neg hn0, if_neg]; rintro ⟨z1, z2⟩; first | exact absurd (z1.symm.trans c_3) (by decide) | exact absurd (z2.symm.trans c_3) (by decide)), ⟨((a 12), (a 13), (a 14), (a 15), (a 16)), (g 17, g 18), a 19, fw_id g a⟩⟩, by rw [ht]; exact hP, va_K.moved hW.alike hK, hD⟩, hS.F ht⟩) hS.2.2 dX2_fewest_40
  · skip
    have hn0 : n = 0 := by rw [hn] at c_1; exact (nI_eq (a := n) (b := 0) (by omega) (by omega)).mp c_1
    refine lv_bipush (v := (-3)) hx hb dX2_fewest_7 (by decide) ?_
    exact W.iret (v := (-3)) hx hb hr (fun t ht hW => ⟨⟨(-3), (g, a), rfl, ⟨(by rw [M_fewest, if_pos hn0]), ⟨((a 12), (a 13), (a 14), (a 15), (a 16)), (g 17, g 18), a 19, fw_id g a⟩⟩, by rw [ht]; exact hP, va_K.moved hW.alike hK, hD⟩, hS.F ht⟩) hS.2.2 dX2_fewest_9
