/-! LENT YOUTHS: odds of a row, help, the fewest -/
theorem few_id {g : Nat → Int32} {a : Nat → Nat → Int32} {fq : Bool} (h : g 31 = b2i fq) : (g, a) = (upd (upd (upd g 16 (g 16)) 18 (g 18)) 31 (b2i fq), va_up (va_up (va_up (va_up (va_up (va_up a 12 (a 12)) 13 (a 13)) 14 (a 14)) 15 (a 15)) 16 (a 16)) 19 (a 19)) := by
  rw [← h]
  have h1 : upd g 16 (g 16) = g := upd_id g 16
  have h2 : upd g 18 (g 18) = g := upd_id g 18
  have h3 : upd g 31 (g 31) = g := upd_id g 31
  rw [h1, h2, h3]
  simp only [va_up_id]
set_option maxHeartbeats 4000000 in
set_option maxRecDepth 100000 in
theorem metX0_oddsOf (l : Launch) (dC : Nat → ClassId) (dI : Nat → Nat → Nat) (ct : Nat → ClassId) (A : Nat → Prop) (ex : va_W) (o : Nat) (q : Nat → Nat) (ql qs : Nat) (md : Int32) (qe n : Nat) (y : Nat → Nat) (g : Nat → Int32) (a : Nat → Nat → Int32) (xp : Int32) (w : Int32) (K : Nat) (hKn : K < n) (rp rq N : Nat) (rf : Nat → Int32) (hrp : ex[rp]? = some (rq, .inl (ct 0, 2 * N, .inl rf))) (hN : N ≤ 30) (hn6 : n ≤ 6) : Met l yX0_oddsOf (ws_ yX0_oddsOf cX0_oddsOf 7 (some .long)) ({ frames := 7, cells := 0, slots := 0, locals := 146 }) (gPre dC dI ct A ex o q (ql, qs, md, qe, n) y g a [.ref o, .int (nI K), .ref rq, .int w]) (va_Ql (fun (r : Int64) (u : (Nat → Int32) × (Nat → Nat → Int32)) => r = (if allP n rf (2 * N) = true ∧ (cgo n (a 3) (a 4) (laX (g 3) (g 4) (a 2) (a 5)) (fun t => cix (rf t)) N).2.1 < 0 then (if (a 4) K = 6 then 1 else oddL w (cntB (fun j => bq ((cgo n (a 3) (a 4) (laX (g 3) (g 4) (a 2) (a 5)) (fun t => cix (rf t)) N).1.2.2.2.2 K) (nI j)) n)) else (-9223372036854775808)) ∧ ∃ (T : LnS (Nat → Int32) × Int32 × Int32), u = ((upd g 18 T.2.2), (va_up (va_up (va_up (va_up (va_up a 12 ((T.1).1)) 13 ((T.1).2.1)) 14 ((T.1).2.2.1)) 15 ((T.1).2.2.2.1)) 16 ((T.1).2.2.2.2)))) (gB dC dI ct A ex o q (ql, qs, md, qe, n) y) A) 0 0 A := by
  refine Met.ofW (cc := cX0_oddsOf) (maxL := 7) (ret := (some .long)) (by decide) rfl ?_
  intro p e s m args below meth c s₁ B hml hv
  obtain ⟨rfl, hP, hK, hD, hE⟩ := hv
  have hx := B.exec
  have hb := B.bytes
  have hr := B.returns
  have hts := atoms_spec (ws := ws_ yX0_oddsOf cX0_oddsOf 7 (some .long)) B.pre
  have hts : ∀ w ∈ lw_all, w.before _ s = true := fun w h => hts w (List.mem_cons_of_mem _ h)
  have hown : s.vm.findClass RX0 = some m.cls := findClass_of_methodNamed B.named
  have hlocks := B.notSynchronized
  have hS : va_S A s.heap s.heap [] := va_S.rf
  have hl := lv_entry ([.ref o, .int (nI K), .ref rq, .int w]) (n := 7) (Nat.le_of_ble_eq_true rfl)
  rw [lg_entry_eq]
  generalize (lg_sl ([.ref o, .int (nI K), .ref rq, .int w]) ++ List.replicate (7 - (lg_sl ([.ref o, .int (nI K), .ref rq, .int w])).length) Slot.unset).toArray = ls at hl ⊢
  have hl : lv_has ls 7 [(0, .ref o), (1, .int (nI K)), (2, .ref rq), (3, .int w)] := hl
  refine lv_aload_n hx hb dX0_oddsOf_0 rfl (lv_at hl 0 rfl) ?_
  refine lv_aload_n hx hb dX0_oddsOf_1 rfl (lv_at hl 2 rfl) ?_
  refine vp_callSi ((va_runV (As := [.ref rq]) (rest := []) ⟨hx, hb, hml, hown, hts⟩ (metX0_areOthers l dC dI ct A ex o q ql qs md qe n y g a  rp rq N rf hrp hN hn6) (cwV 1 hts (lw_V q689 q691 qs17 q69 q692) rfl rfl rfl (by decide +kernel) ⟨Nat.le_of_ble_eq_true rfl, Nat.le_of_ble_eq_true rfl⟩) (gPV hK hP hD hE _) rfl rfl hl.1 rfl (lv_room (Nat.le_of_ble_eq_true rfl)) dX0_oddsOf_2 ⟨Nat.zero_le _, Nat.zero_le _⟩)).run (fun r hw => ?_)
  have hw : r = (b2i (!(allP n rf (2 * N)))) := hw
  subst hw
  refine bz_ne (tgt := 18) hx hb dX0_oddsOf_5 (by decide) (fun c_1 => ?_) (fun c_1 => ?_)
  · skip
    refine lv_ldc2 (v := (-9223372036854775808)) hx hb hown (hts _ q846) dX0_oddsOf_18 ?_
    exact W.lret (v := (-9223372036854775808)) hx hb hr (fun t ht hW => ⟨⟨(-9223372036854775808), (g, a), rfl, ⟨(by rw [if_neg (by rw [show allP n rf (2 * N) = false by simpa using c_1]; exact fun z => absurd z.1 (by decide))]), ⟨((a 12, a 13, a 14, a 15, a 16), 0, g 18), (tr_idX g a).symm⟩⟩, by rw [ht]; exact hP, va_K.moved hW.alike hK, hD⟩, hS.F ht⟩) hS.2.2 dX0_oddsOf_21
  · skip
    refine lv_aload_n hx hb dX0_oddsOf_8 rfl (lv_at hl 0 rfl) ?_
    refine lv_aload_n hx hb dX0_oddsOf_9 rfl (lv_at hl 2 rfl) ?_
    have hall : allP n rf (2 * N) = true := by simpa using c_1
    have hpr : ∀ t, t < 2 * N → rf t = nI (cix (rf t)) ∧ cix (rf t) < n := fun t ht => inP_e (by omega) (allP_at hall t ht)
    obtain ⟨x1, x2, x3⟩ := xgo_of hn6 (sc := a 3) (wa := a 4) (la := laX (g 3) (g 4) (a 2) (a 5)) (la' := laX (g 3) (g 4) (a 2) (a 5)) (fun _ _ => rfl) (a 12, a 13, a 14, a 15, a 16) (pr := fun t => cix (rf t)) (pr' := fun t => cix (rf t)) (N := N) (fun t ht => (hpr t ht).2) (fun _ _ => rfl)
    refine va_calli (va_runV (As := [.ref rq]) (rest := []) ⟨hx, hb, hml, hown, hts⟩ (metX0_goAll l dC dI ct A ex o q ql qs md qe n y g a  rp rq N rf hrp hN hn6 hpr) (cwV 1 hts (lw_V q693 q695 qs18 q69 q696) rfl rfl rfl (by decide +kernel) ⟨Nat.le_of_ble_eq_true rfl, Nat.le_of_ble_eq_true rfl⟩) (gPV hK hP hD hE _) rfl rfl hl.1 rfl (lv_room (Nat.le_of_ble_eq_true rfl)) dX0_oddsOf_10 ⟨Nat.zero_le _, Nat.zero_le _⟩) hS (fun q _ h => h) (fun q h => h) (fun r u t H1 locs ht hvm hw hB hz1 hk1 hS => ?_)
    obtain ⟨hw, hw2⟩ := hw
    have hw : r = (lgo fuX (laX (g 3) (g 4) (a 2) (a 5)) (a 4) n (fun t => cix (rf t)) (xbeg n (a 3) ((a 12), (a 13), (a 14), (a 15), (a 16))) N).2.1 := hw
    subst hw
    subst hw2
    obtain ⟨hP, -, hD⟩ := hB
    rw [ht] at hP
    generalize H1 = H at hP hS ⊢
    have hP : va_P (dC, dI) clA (xG ct o q (ql, qs, md, qe, n) y (upd g 18 ((lgo fuX (laX (g 3) (g 4) (a 2) (a 5)) (a 4) n (fun t => cix (rf t)) (xbeg n (a 3) ((a 12), (a 13), (a 14), (a 15), (a 16))) N).2.2)) (va_up (va_up (va_up (va_up (va_up a 12 (((lgo fuX (laX (g 3) (g 4) (a 2) (a 5)) (a 4) n (fun t => cix (rf t)) (xbeg n (a 3) ((a 12), (a 13), (a 14), (a 15), (a 16))) N).1).1)) 13 (((lgo fuX (laX (g 3) (g 4) (a 2) (a 5)) (a 4) n (fun t => cix (rf t)) (xbeg n (a 3) ((a 12), (a 13), (a 14), (a 15), (a 16))) N).1).2.1)) 14 (((lgo fuX (laX (g 3) (g 4) (a 2) (a 5)) (a 4) n (fun t => cix (rf t)) (xbeg n (a 3) ((a 12), (a 13), (a 14), (a 15), (a 16))) N).1).2.2.1)) 15 (((lgo fuX (laX (g 3) (g 4) (a 2) (a 5)) (a 4) n (fun t => cix (rf t)) (xbeg n (a 3) ((a 12), (a 13), (a 14), (a 15), (a 16))) N).1).2.2.2.1)) 16 (((lgo fuX (laX (g 3) (g 4) (a 2) (a 5)) (a 4) n (fun t => cix (rf t)) (xbeg n (a 3) ((a 12), (a 13), (a 14), (a 15), (a 16))) N).1).2.2.2.2)) ex) H := hP
    have hD : va_D A (xG ct o q (ql, qs, md, qe, n) y (upd g 18 ((lgo fuX (laX (g 3) (g 4) (a 2) (a 5)) (a 4) n (fun t => cix (rf t)) (xbeg n (a 3) ((a 12), (a 13), (a 14), (a 15), (a 16))) N).2.2)) (va_up (va_up (va_up (va_up (va_up a 12 (((lgo fuX (laX (g 3) (g 4) (a 2) (a 5)) (a 4) n (fun t => cix (rf t)) (xbeg n (a 3) ((a 12), (a 13), (a 14), (a 15), (a 16))) N).1).1)) 13 (((lgo fuX (laX (g 3) (g 4) (a 2) (a 5)) (a 4) n (fun t => cix (rf t)) (xbeg n (a 3) ((a 12), (a 13), (a 14), (a 15), (a 16))) N).1).2.1)) 14 (((lgo fuX (laX (g 3) (g 4) (a 2) (a 5)) (a 4) n (fun t => cix (rf t)) (xbeg n (a 3) ((a 12), (a 13), (a 14), (a 15), (a 16))) N).1).2.2.1)) 15 (((lgo fuX (laX (g 3) (g 4) (a 2) (a 5)) (a 4) n (fun t => cix (rf t)) (xbeg n (a 3) ((a 12), (a 13), (a 14), (a 15), (a 16))) N).1).2.2.2.1)) 16 (((lgo fuX (laX (g 3) (g 4) (a 2) (a 5)) (a 4) n (fun t => cix (rf t)) (xbeg n (a 3) ((a 12), (a 13), (a 14), (a 15), (a 16))) N).1).2.2.2.2)) ex) := hD
    refine lv_bipush (v := (-9)) hx hb dX0_oddsOf_13 (by decide) ?_
    refine lv_icmp_eq (tgt := 22) hx hb dX0_oddsOf_15 (by decide) (fun c_2 => ?_) (fun c_2 => ?_)
    · skip
      refine lv_aload_n hx hb dX0_oddsOf_22 rfl (lv_at hl 0 rfl) ?_
      refine g_get (v := .ref ql) hx hb hts hown hK hP 2 (by decide) rfl q146 rfl dX0_oddsOf_23 ?_
      refine lv_iload_n hx hb dX0_oddsOf_26 rfl (lv_at hl 1 rfl) ?_
      refine va_csFr (va_runF (As := [.int (nI K)]) (rest := []) (jAt hK) ⟨hx, hb, hml, hown, hts⟩ (metJ2_get l dC dI ct (xG ct o q (ql, qs, md, qe, n) y (upd g 18 ((lgo fuX (laX (g 3) (g 4) (a 2) (a 5)) (a 4) n (fun t => cix (rf t)) (xbeg n (a 3) ((a 12), (a 13), (a 14), (a 15), (a 16))) N).2.2)) (va_up (va_up (va_up (va_up (va_up a 12 (((lgo fuX (laX (g 3) (g 4) (a 2) (a 5)) (a 4) n (fun t => cix (rf t)) (xbeg n (a 3) ((a 12), (a 13), (a 14), (a 15), (a 16))) N).1).1)) 13 (((lgo fuX (laX (g 3) (g 4) (a 2) (a 5)) (a 4) n (fun t => cix (rf t)) (xbeg n (a 3) ((a 12), (a 13), (a 14), (a 15), (a 16))) N).1).2.1)) 14 (((lgo fuX (laX (g 3) (g 4) (a 2) (a 5)) (a 4) n (fun t => cix (rf t)) (xbeg n (a 3) ((a 12), (a 13), (a 14), (a 15), (a 16))) N).1).2.2.1)) 15 (((lgo fuX (laX (g 3) (g 4) (a 2) (a 5)) (a 4) n (fun t => cix (rf t)) (xbeg n (a 3) ((a 12), (a 13), (a 14), (a 15), (a 16))) N).1).2.2.2.1)) 16 (((lgo fuX (laX (g 3) (g 4) (a 2) (a 5)) (a 4) n (fun t => cix (rf t)) (xbeg n (a 3) ((a 12), (a 13), (a 14), (a 15), (a 16))) N).1).2.2.2.2)) ex) ql md qe n 14 rfl K 15 10 (y K) (edF y n) (xG_ed (Nat.lt_of_le_of_lt (Nat.zero_le _) hKn)) (Nat.lt_of_lt_of_le hKn (by omega)) (by omega) (if_pos hKn) hKn (by omega)) (va_cwF 1 hts (lw_F q607 q610 q612 q72 q614) rfl rfl rfl (xE_fw_get hE) (by decide +kernel) ⟨Nat.le_of_ble_eq_true rfl, Nat.le_of_ble_eq_true rfl⟩) (jPV (k := 14) (md := md) (qe := qe) (n := n) hK hP rfl _) rfl rfl hl.1 rfl (lv_room (Nat.le_of_ble_eq_true rfl)) dX0_oddsOf_27 ⟨Nat.zero_le _, Nat.zero_le _⟩) (fun r hw => ?_)
      have hw : (y K) = r := Eq.symm hw
      subst hw
      refine c_cast hx hb hts hown hK hP hE hKn q451 dX0_oddsOf_32 ?_
      refine c_getN (v := .int ((a 4) K)) hx hb hts hown hK hP hKn 2 (by decide) rfl (xE_q462 hE) dX0_oddsOf_35 ?_
      refine lv_istore (lv' := [(4, .int ((a 4) K)), (0, .ref o), (1, .int (nI K)), (2, .ref rq), (3, .int w)]) hx hb dX0_oddsOf_38 hl (by decide) rfl (fun ls hl => ?_)
      refine lv_iload hx hb dX0_oddsOf_40 (lv_at hl 0 rfl) ?_
      refine lv_bipush (v := 6) hx hb dX0_oddsOf_42 (by decide) ?_
      refine lv_icmp_ne (tgt := 49) hx hb dX0_oddsOf_44 (by decide) (fun c_3 => ?_) (fun c_3 => ?_)
      · skip
        refine lv_iconst (v := 0) hx hb dX0_oddsOf_49 (by decide) ?_
        refine lv_istore (lv' := [(5, .int 0), (4, .int ((a 4) K)), (0, .ref o), (1, .int (nI K)), (2, .ref rq), (3, .int w)]) hx hb dX0_oddsOf_50 hl (by decide) rfl (fun ls hl => ?_)
        refine lv_iconst (v := 0) hx hb dX0_oddsOf_52 (by decide) ?_
        refine lv_istore (lv' := [(6, .int 0), (5, .int 0), (4, .int ((a 4) K)), (0, .ref o), (1, .int (nI K)), (2, .ref rq), (3, .int w)]) hx hb dX0_oddsOf_53 hl (by decide) rfl (fun ls hl => ?_)
        have loop1 : ∀ (f1 : Nat) (i : Nat), (i ≤ n) → (n + 1 ≤ i + f1) → ∀ (H : Heap) (locs : List Loc), va_P (dC, dI) clA (xG ct o q (ql, qs, md, qe, n) y (upd g 18 ((lgo fuX (laX (g 3) (g 4) (a 2) (a 5)) (a 4) n (fun t => cix (rf t)) (xbeg n (a 3) ((a 12), (a 13), (a 14), (a 15), (a 16))) N).2.2)) (va_up (va_up (va_up (va_up (va_up a 12 (((lgo fuX (laX (g 3) (g 4) (a 2) (a 5)) (a 4) n (fun t => cix (rf t)) (xbeg n (a 3) ((a 12), (a 13), (a 14), (a 15), (a 16))) N).1).1)) 13 (((lgo fuX (laX (g 3) (g 4) (a 2) (a 5)) (a 4) n (fun t => cix (rf t)) (xbeg n (a 3) ((a 12), (a 13), (a 14), (a 15), (a 16))) N).1).2.1)) 14 (((lgo fuX (laX (g 3) (g 4) (a 2) (a 5)) (a 4) n (fun t => cix (rf t)) (xbeg n (a 3) ((a 12), (a 13), (a 14), (a 15), (a 16))) N).1).2.2.1)) 15 (((lgo fuX (laX (g 3) (g 4) (a 2) (a 5)) (a 4) n (fun t => cix (rf t)) (xbeg n (a 3) ((a 12), (a 13), (a 14), (a 15), (a 16))) N).1).2.2.2.1)) 16 (((lgo fuX (laX (g 3) (g 4) (a 2) (a 5)) (a 4) n (fun t => cix (rf t)) (xbeg n (a 3) ((a 12), (a 13), (a 14), (a 15), (a 16))) N).1).2.2.2.2)) ex) H → va_D A (xG ct o q (ql, qs, md, qe, n) y (upd g 18 ((lgo fuX (laX (g 3) (g 4) (a 2) (a 5)) (a 4) n (fun t => cix (rf t)) (xbeg n (a 3) ((a 12), (a 13), (a 14), (a 15), (a 16))) N).2.2)) (va_up (va_up (va_up (va_up (va_up a 12 (((lgo fuX (laX (g 3) (g 4) (a 2) (a 5)) (a 4) n (fun t => cix (rf t)) (xbeg n (a 3) ((a 12), (a 13), (a 14), (a 15), (a 16))) N).1).1)) 13 (((lgo fuX (laX (g 3) (g 4) (a 2) (a 5)) (a 4) n (fun t => cix (rf t)) (xbeg n (a 3) ((a 12), (a 13), (a 14), (a 15), (a 16))) N).1).2.1)) 14 (((lgo fuX (laX (g 3) (g 4) (a 2) (a 5)) (a 4) n (fun t => cix (rf t)) (xbeg n (a 3) ((a 12), (a 13), (a 14), (a 15), (a 16))) N).1).2.2.1)) 15 (((lgo fuX (laX (g 3) (g 4) (a 2) (a 5)) (a 4) n (fun t => cix (rf t)) (xbeg n (a 3) ((a 12), (a 13), (a 14), (a 15), (a 16))) N).1).2.2.2.1)) 16 (((lgo fuX (laX (g 3) (g 4) (a 2) (a 5)) (a 4) n (fun t => cix (rf t)) (xbeg n (a 3) ((a 12), (a 13), (a 14), (a 15), (a 16))) N).1).2.2.2.2)) ex) → va_S A s.heap H locs → ∀ (ls : Array Slot), lv_has ls 7 [(6, .int (nI i)), (5, .int (cntB (fun z => bq ((lgo fuX (laX (g 3) (g 4) (a 2) (a 5)) (a 4) n (fun t => cix (rf t)) (xbeg n (a 3) ((a 12), (a 13), (a 14), (a 15), (a 16))) N).1.2.2.2.2 (6 * K + z)) (a 4 K)) i)), (4, .int ((a 4) K)), (3, .int w), (1, .int (nI K)), (0, .ref o)] → W p l e (headSpec (ws_ yX0_oddsOf cX0_oddsOf 7 (some .long)) ({ frames := 7, cells := 0, slots := 0, locals := 146 })).room s m ([.ref o, .int (nI K), .ref rq, .int w] : List Value).toArray below meth c H locs 0 0 (MQ below (va_Ql (fun (r : Int64) (u : (Nat → Int32) × (Nat → Nat → Int32)) => r = (if allP n rf (2 * N) = true ∧ (cgo n (a 3) (a 4) (laX (g 3) (g 4) (a 2) (a 5)) (fun t => cix (rf t)) N).2.1 < 0 then (if (a 4) K = 6 then 1 else oddL w (cntB (fun j => bq ((cgo n (a 3) (a 4) (laX (g 3) (g 4) (a 2) (a 5)) (fun t => cix (rf t)) N).1.2.2.2.2 K) (nI j)) n)) else (-9223372036854775808)) ∧ ∃ (T : LnS (Nat → Int32) × Int32 × Int32), u = ((upd g 18 T.2.2), (va_up (va_up (va_up (va_up (va_up a 12 ((T.1).1)) 13 ((T.1).2.1)) 14 ((T.1).2.2.1)) 15 ((T.1).2.2.2.1)) 16 ((T.1).2.2.2.2)))) (gB dC dI ct A ex o q (ql, qs, md, qe, n) y) A) ([.ref o, .int (nI K), .ref rq, .int w] : List Value).toArray s 0 0 A) (F0 m 55 ls []) := by
          intro f1
          induction f1 with
          | zero => intro i hi hf; exact False.elim (by omega)
          | succ f1 ih1 =>
            intro i hi hf H locs hP hD hS ls hl
            refine lv_iload hx hb dX0_oddsOf_55 (lv_at hl 0 rfl) ?_
            refine lv_aload_n hx hb dX0_oddsOf_57 rfl (lv_at hl 5 rfl) ?_
            refine vp_callSi ((va_runV (As := []) (rest := [.int (nI i)]) ⟨hx, hb, hml, hown, hts⟩ (metX0_people l dC dI ct A (peW ct o qe n y (va_up (va_up (va_up (va_up (va_up a 12 (((lgo fuX (laX (g 3) (g 4) (a 2) (a 5)) (a 4) n (fun t => cix (rf t)) (xbeg n (a 3) ((a 12), (a 13), (a 14), (a 15), (a 16))) N).1).1)) 13 (((lgo fuX (laX (g 3) (g 4) (a 2) (a 5)) (a 4) n (fun t => cix (rf t)) (xbeg n (a 3) ((a 12), (a 13), (a 14), (a 15), (a 16))) N).1).2.1)) 14 (((lgo fuX (laX (g 3) (g 4) (a 2) (a 5)) (a 4) n (fun t => cix (rf t)) (xbeg n (a 3) ((a 12), (a 13), (a 14), (a 15), (a 16))) N).1).2.2.1)) 15 (((lgo fuX (laX (g 3) (g 4) (a 2) (a 5)) (a 4) n (fun t => cix (rf t)) (xbeg n (a 3) ((a 12), (a 13), (a 14), (a 15), (a 16))) N).1).2.2.2.1)) 16 (((lgo fuX (laX (g 3) (g 4) (a 2) (a 5)) (a 4) n (fun t => cix (rf t)) (xbeg n (a 3) ((a 12), (a 13), (a 14), (a 15), (a 16))) N).1).2.2.2.2)) ++ ex) o q ql qs md qe n (upd g 18 ((lgo fuX (laX (g 3) (g 4) (a 2) (a 5)) (a 4) n (fun t => cix (rf t)) (xbeg n (a 3) ((a 12), (a 13), (a 14), (a 15), (a 16))) N).2.2)) (va_up (va_up (va_up (va_up (va_up a 12 (((lgo fuX (laX (g 3) (g 4) (a 2) (a 5)) (a 4) n (fun t => cix (rf t)) (xbeg n (a 3) ((a 12), (a 13), (a 14), (a 15), (a 16))) N).1).1)) 13 (((lgo fuX (laX (g 3) (g 4) (a 2) (a 5)) (a 4) n (fun t => cix (rf t)) (xbeg n (a 3) ((a 12), (a 13), (a 14), (a 15), (a 16))) N).1).2.1)) 14 (((lgo fuX (laX (g 3) (g 4) (a 2) (a 5)) (a 4) n (fun t => cix (rf t)) (xbeg n (a 3) ((a 12), (a 13), (a 14), (a 15), (a 16))) N).1).2.2.1)) 15 (((lgo fuX (laX (g 3) (g 4) (a 2) (a 5)) (a 4) n (fun t => cix (rf t)) (xbeg n (a 3) ((a 12), (a 13), (a 14), (a 15), (a 16))) N).1).2.2.2.1)) 16 (((lgo fuX (laX (g 3) (g 4) (a 2) (a 5)) (a 4) n (fun t => cix (rf t)) (xbeg n (a 3) ((a 12), (a 13), (a 14), (a 15), (a 16))) N).1).2.2.2.2))  ) (cwV 0 hts (lw_V q593 q595 qs14 q69 q596) rfl rfl rfl (by decide +kernel) ⟨Nat.le_of_ble_eq_true rfl, Nat.le_of_ble_eq_true rfl⟩) (xPV hK hP hD hE _) rfl rfl hl.1 rfl (lv_room (Nat.le_of_ble_eq_true rfl)) dX0_oddsOf_58 ⟨Nat.zero_le _, Nat.zero_le _⟩)).run (fun r hw => ?_)
            have hw : r = (nI n) := hw
            subst hw
            refine lv_icmp_ge (tgt := 92) hx hb dX0_oddsOf_61 (by decide) (fun c_4 => ?_) (fun c_4 => ?_)
            · skip
              have hge : i = n := by exact Nat.le_antisymm (by omega) ((nI_leI (by omega) (by omega)).mp c_4)
              refine lv_iload_n hx hb dX0_oddsOf_92 rfl (lv_at hl 3 rfl) ?_
              refine lv_if_ne (tgt := 105) hx hb dX0_oddsOf_93 (by decide) (fun c_5 => ?_) (fun c_5 => ?_)
              · skip
                refine lv_lconst (v := 1) hx hb dX0_oddsOf_105 (by decide) ?_
                refine lv_iload hx hb dX0_oddsOf_106 (lv_at hl 1 rfl) ?_
                refine lv_lshl hx hb dX0_oddsOf_108 rfl ?_
                exact W.lret (v := (1 <<< (((cntB (fun z => bq ((lgo fuX (laX (g 3) (g 4) (a 2) (a 5)) (a 4) n (fun t => cix (rf t)) (xbeg n (a 3) ((a 12), (a 13), (a 14), (a 15), (a 16))) N).1.2.2.2.2 (6 * K + z)) (a 4 K)) i)).toInt64 &&& 63))) hx hb hr (fun t ht hW => ⟨⟨(1 <<< (((cntB (fun z => bq ((lgo fuX (laX (g 3) (g 4) (a 2) (a 5)) (a 4) n (fun t => cix (rf t)) (xbeg n (a 3) ((a 12), (a 13), (a 14), (a 15), (a 16))) N).1.2.2.2.2 (6 * K + z)) (a 4 K)) i)).toInt64 &&& 63)), ((upd g 18 ((lgo fuX (laX (g 3) (g 4) (a 2) (a 5)) (a 4) n (fun t => cix (rf t)) (xbeg n (a 3) ((a 12), (a 13), (a 14), (a 15), (a 16))) N).2.2)), (va_up (va_up (va_up (va_up (va_up a 12 (((lgo fuX (laX (g 3) (g 4) (a 2) (a 5)) (a 4) n (fun t => cix (rf t)) (xbeg n (a 3) ((a 12), (a 13), (a 14), (a 15), (a 16))) N).1).1)) 13 (((lgo fuX (laX (g 3) (g 4) (a 2) (a 5)) (a 4) n (fun t => cix (rf t)) (xbeg n (a 3) ((a 12), (a 13), (a 14), (a 15), (a 16))) N).1).2.1)) 14 (((lgo fuX (laX (g 3) (g 4) (a 2) (a 5)) (a 4) n (fun t => cix (rf t)) (xbeg n (a 3) ((a 12), (a 13), (a 14), (a 15), (a 16))) N).1).2.2.1)) 15 (((lgo fuX (laX (g 3) (g 4) (a 2) (a 5)) (a 4) n (fun t => cix (rf t)) (xbeg n (a 3) ((a 12), (a 13), (a 14), (a 15), (a 16))) N).1).2.2.2.1)) 16 (((lgo fuX (laX (g 3) (g 4) (a 2) (a 5)) (a 4) n (fun t => cix (rf t)) (xbeg n (a 3) ((a 12), (a 13), (a 14), (a 15), (a 16))) N).1).2.2.2.2))), rfl, ⟨(by rw [if_pos ⟨hall, show (cgo n (a 3) (a 4) (laX (g 3) (g 4) (a 2) (a 5)) (fun t => cix (rf t)) N).2.1 < 0 by rw [← x3, c_2]; decide⟩, if_neg c_3, cntB_congr (fun j hj => (x2 K hKn j hj).symm), ← hge, oddL, if_neg c_5]), ⟨(lgo fuX (laX (g 3) (g 4) (a 2) (a 5)) (a 4) n (fun t => cix (rf t)) (xbeg n (a 3) ((a 12), (a 13), (a 14), (a 15), (a 16))) N), rfl⟩⟩, by rw [ht]; exact hP, va_K.moved hW.alike hK, hD⟩, hS.F ht⟩) hS.2.2 dX0_oddsOf_109
              · skip
                refine lv_lconst (v := 1) hx hb dX0_oddsOf_96 (by decide) ?_
                refine lv_iload hx hb dX0_oddsOf_97 (lv_at hl 1 rfl) ?_
                refine lv_lshl hx hb dX0_oddsOf_99 rfl ?_
                refine lv_lconst (v := 1) hx hb dX0_oddsOf_100 (by decide) ?_
                refine lv_lsub hx hb dX0_oddsOf_101 ?_
                refine lv_goto (tgt := 109) hx hb dX0_oddsOf_102 (by decide) ?_
                exact W.lret (v := ((1 <<< (((cntB (fun z => bq ((lgo fuX (laX (g 3) (g 4) (a 2) (a 5)) (a 4) n (fun t => cix (rf t)) (xbeg n (a 3) ((a 12), (a 13), (a 14), (a 15), (a 16))) N).1.2.2.2.2 (6 * K + z)) (a 4 K)) i)).toInt64 &&& 63)) - 1)) hx hb hr (fun t ht hW => ⟨⟨((1 <<< (((cntB (fun z => bq ((lgo fuX (laX (g 3) (g 4) (a 2) (a 5)) (a 4) n (fun t => cix (rf t)) (xbeg n (a 3) ((a 12), (a 13), (a 14), (a 15), (a 16))) N).1.2.2.2.2 (6 * K + z)) (a 4 K)) i)).toInt64 &&& 63)) - 1), ((upd g 18 ((lgo fuX (laX (g 3) (g 4) (a 2) (a 5)) (a 4) n (fun t => cix (rf t)) (xbeg n (a 3) ((a 12), (a 13), (a 14), (a 15), (a 16))) N).2.2)), (va_up (va_up (va_up (va_up (va_up a 12 (((lgo fuX (laX (g 3) (g 4) (a 2) (a 5)) (a 4) n (fun t => cix (rf t)) (xbeg n (a 3) ((a 12), (a 13), (a 14), (a 15), (a 16))) N).1).1)) 13 (((lgo fuX (laX (g 3) (g 4) (a 2) (a 5)) (a 4) n (fun t => cix (rf t)) (xbeg n (a 3) ((a 12), (a 13), (a 14), (a 15), (a 16))) N).1).2.1)) 14 (((lgo fuX (laX (g 3) (g 4) (a 2) (a 5)) (a 4) n (fun t => cix (rf t)) (xbeg n (a 3) ((a 12), (a 13), (a 14), (a 15), (a 16))) N).1).2.2.1)) 15 (((lgo fuX (laX (g 3) (g 4) (a 2) (a 5)) (a 4) n (fun t => cix (rf t)) (xbeg n (a 3) ((a 12), (a 13), (a 14), (a 15), (a 16))) N).1).2.2.2.1)) 16 (((lgo fuX (laX (g 3) (g 4) (a 2) (a 5)) (a 4) n (fun t => cix (rf t)) (xbeg n (a 3) ((a 12), (a 13), (a 14), (a 15), (a 16))) N).1).2.2.2.2))), rfl, ⟨(by rw [if_pos ⟨hall, show (cgo n (a 3) (a 4) (laX (g 3) (g 4) (a 2) (a 5)) (fun t => cix (rf t)) N).2.1 < 0 by rw [← x3, c_2]; decide⟩, if_neg c_3, cntB_congr (fun j hj => (x2 K hKn j hj).symm), ← hge, oddL, if_pos c_5]), ⟨(lgo fuX (laX (g 3) (g 4) (a 2) (a 5)) (a 4) n (fun t => cix (rf t)) (xbeg n (a 3) ((a 12), (a 13), (a 14), (a 15), (a 16))) N), rfl⟩⟩, by rw [ht]; exact hP, va_K.moved hW.alike hK, hD⟩, hS.F ht⟩) hS.2.2 dX0_oddsOf_109
            · skip
              have hlt : i < n := by exact Nat.lt_of_not_le (fun z => c_4 ((nI_leI (by omega) (by omega)).mpr z))
              refine lv_iload hx hb dX0_oddsOf_64 (lv_at hl 1 rfl) ?_
              refine lv_aload_n hx hb dX0_oddsOf_66 rfl (lv_at hl 5 rfl) ?_
              refine g_get (v := .ref (q 16)) hx hb hts hown hK hP 13 (by decide) rfl q162 rfl dX0_oddsOf_67 ?_
              refine lv_iload_n hx hb dX0_oddsOf_70 rfl (lv_at hl 4 rfl) ?_
              refine lv_bipush (v := 6) hx hb dX0_oddsOf_71 (by decide) ?_
              refine lv_imul hx hb dX0_oddsOf_73 ?_
              refine lv_iload hx hb dX0_oddsOf_74 (lv_at hl 0 rfl) ?_
              refine lv_iadd hx hb dX0_oddsOf_76 ?_
              refine g_ild hx hb hK hP (gWa16 _ _ _ _ _ _ _ _ _ _ _ _) (((lgo fuX (laX (g 3) (g 4) (a 2) (a 5)) (a 4) n (fun t => cix (rf t)) (xbeg n (a 3) ((a 12), (a 13), (a 14), (a 15), (a 16))) N).1).2.2.2.2) rfl (6 * K + i) (kb_ix rfl) (by omega) (by decide) dX0_oddsOf_77 ?_
              refine lv_iload hx hb dX0_oddsOf_78 (lv_at hl 2 rfl) ?_
              refine lv_ishr hx hb dX0_oddsOf_80 ?_
              refine lv_iconst (v := 1) hx hb dX0_oddsOf_81 (by decide) ?_
              refine lv_iand hx hb dX0_oddsOf_82 ?_
              refine lv_iadd hx hb dX0_oddsOf_83 ?_
              refine lv_topi (fun z_6 ez_6 => ?_)
              have ez_6 : z_6 = (cntB (fun z => bq ((lgo fuX (laX (g 3) (g 4) (a 2) (a 5)) (a 4) n (fun t => cix (rf t)) (xbeg n (a 3) ((a 12), (a 13), (a 14), (a 15), (a 16))) N).1.2.2.2.2 (6 * K + z)) (a 4 K)) (i + 1)) := ez_6.trans (congrArg (fun z => cntB (fun z => bq ((lgo fuX (laX (g 3) (g 4) (a 2) (a 5)) (a 4) n (fun t => cix (rf t)) (xbeg n (a 3) ((a 12), (a 13), (a 14), (a 15), (a 16))) N).1.2.2.2.2 (6 * K + z)) (a 4 K)) i + z) (bq_b2i _ _))
              subst ez_6
              refine lv_istore (lv' := [(5, .int (cntB (fun z => bq ((lgo fuX (laX (g 3) (g 4) (a 2) (a 5)) (a 4) n (fun t => cix (rf t)) (xbeg n (a 3) ((a 12), (a 13), (a 14), (a 15), (a 16))) N).1.2.2.2.2 (6 * K + z)) (a 4 K)) (i + 1))), (6, .int (nI i)), (4, .int ((a 4) K)), (3, .int w), (1, .int (nI K)), (0, .ref o)]) hx hb dX0_oddsOf_84 hl (by decide) rfl (fun ls hl => ?_)
              refine lv_iinc (v := (nI (i + 1))) (lv' := [(6, .int (nI (i + 1))), (5, .int (cntB (fun z => bq ((lgo fuX (laX (g 3) (g 4) (a 2) (a 5)) (a 4) n (fun t => cix (rf t)) (xbeg n (a 3) ((a 12), (a 13), (a 14), (a 15), (a 16))) N).1.2.2.2.2 (6 * K + z)) (a 4 K)) (i + 1))), (4, .int ((a 4) K)), (3, .int w), (1, .int (nI K)), (0, .ref o)]) hx hb dX0_oddsOf_86 hl (k := 1) rfl (nI_1 i) (by decide) rfl (fun ls hl => ?_)
              refine lv_goto (tgt := 55) hx hb dX0_oddsOf_89 (by decide) ?_
              exact ih1 (i + 1) (by omega) (by omega) _ _ hP hD hS _ (lv_sub hl [0, 1, 2, 3, 4, 5] rfl)
        exact loop1 (n + 1) 0 (by omega) (by omega) _ _ hP hD hS _ (lv_sub hl [0, 1, 2, 6, 4, 3] rfl)
      · skip
        refine lv_lconst (v := 1) hx hb dX0_oddsOf_47 (by decide) ?_
        exact W.lret (v := 1) hx hb hr (fun t ht hW => ⟨⟨1, ((upd g 18 ((lgo fuX (laX (g 3) (g 4) (a 2) (a 5)) (a 4) n (fun t => cix (rf t)) (xbeg n (a 3) ((a 12), (a 13), (a 14), (a 15), (a 16))) N).2.2)), (va_up (va_up (va_up (va_up (va_up a 12 (((lgo fuX (laX (g 3) (g 4) (a 2) (a 5)) (a 4) n (fun t => cix (rf t)) (xbeg n (a 3) ((a 12), (a 13), (a 14), (a 15), (a 16))) N).1).1)) 13 (((lgo fuX (laX (g 3) (g 4) (a 2) (a 5)) (a 4) n (fun t => cix (rf t)) (xbeg n (a 3) ((a 12), (a 13), (a 14), (a 15), (a 16))) N).1).2.1)) 14 (((lgo fuX (laX (g 3) (g 4) (a 2) (a 5)) (a 4) n (fun t => cix (rf t)) (xbeg n (a 3) ((a 12), (a 13), (a 14), (a 15), (a 16))) N).1).2.2.1)) 15 (((lgo fuX (laX (g 3) (g 4) (a 2) (a 5)) (a 4) n (fun t => cix (rf t)) (xbeg n (a 3) ((a 12), (a 13), (a 14), (a 15), (a 16))) N).1).2.2.2.1)) 16 (((lgo fuX (laX (g 3) (g 4) (a 2) (a 5)) (a 4) n (fun t => cix (rf t)) (xbeg n (a 3) ((a 12), (a 13), (a 14), (a 15), (a 16))) N).1).2.2.2.2))), rfl, ⟨(by rw [if_pos ⟨hall, show (cgo n (a 3) (a 4) (laX (g 3) (g 4) (a 2) (a 5)) (fun t => cix (rf t)) N).2.1 < 0 by rw [← x3, c_2]; decide⟩, if_pos c_3]), ⟨(lgo fuX (laX (g 3) (g 4) (a 2) (a 5)) (a 4) n (fun t => cix (rf t)) (xbeg n (a 3) ((a 12), (a 13), (a 14), (a 15), (a 16))) N), rfl⟩⟩, by rw [ht]; exact hP, va_K.moved hW.alike hK, hD⟩, hS.F ht⟩) hS.2.2 dX0_oddsOf_48
    · skip
      refine lv_ldc2 (v := (-9223372036854775808)) hx hb hown (hts _ q846) dX0_oddsOf_18 ?_
      exact W.lret (v := (-9223372036854775808)) hx hb hr (fun t ht hW => ⟨⟨(-9223372036854775808), ((upd g 18 ((lgo fuX (laX (g 3) (g 4) (a 2) (a 5)) (a 4) n (fun t => cix (rf t)) (xbeg n (a 3) ((a 12), (a 13), (a 14), (a 15), (a 16))) N).2.2)), (va_up (va_up (va_up (va_up (va_up a 12 (((lgo fuX (laX (g 3) (g 4) (a 2) (a 5)) (a 4) n (fun t => cix (rf t)) (xbeg n (a 3) ((a 12), (a 13), (a 14), (a 15), (a 16))) N).1).1)) 13 (((lgo fuX (laX (g 3) (g 4) (a 2) (a 5)) (a 4) n (fun t => cix (rf t)) (xbeg n (a 3) ((a 12), (a 13), (a 14), (a 15), (a 16))) N).1).2.1)) 14 (((lgo fuX (laX (g 3) (g 4) (a 2) (a 5)) (a 4) n (fun t => cix (rf t)) (xbeg n (a 3) ((a 12), (a 13), (a 14), (a 15), (a 16))) N).1).2.2.1)) 15 (((lgo fuX (laX (g 3) (g 4) (a 2) (a 5)) (a 4) n (fun t => cix (rf t)) (xbeg n (a 3) ((a 12), (a 13), (a 14), (a 15), (a 16))) N).1).2.2.2.1)) 16 (((lgo fuX (laX (g 3) (g 4) (a 2) (a 5)) (a 4) n (fun t => cix (rf t)) (xbeg n (a 3) ((a 12), (a 13), (a 14), (a 15), (a 16))) N).1).2.2.2.2))), rfl, ⟨(by rw [if_neg (by rw [← x3]; exact fun z => nn_nlt ((lgo_21 (by omega)).resolve_left c_2) z.2)]), ⟨(lgo fuX (laX (g 3) (g 4) (a 2) (a 5)) (a 4) n (fun t => cix (rf t)) (xbeg n (a 3) ((a 12), (a 13), (a 14), (a 15), (a 16))) N), rfl⟩⟩, by rw [ht]; exact hP, va_K.moved hW.alike hK, hD⟩, hS.F ht⟩) hS.2.2 dX0_oddsOf_21
set_option maxHeartbeats 4000000 in
set_option maxRecDepth 100000 in
theorem metX0_help (l : Launch) (dC : Nat → ClassId) (dI : Nat → Nat → Nat) (ct : Nat → ClassId) (A : Nat → Prop) (ex : va_W) (o : Nat) (q : Nat → Nat) (ql qs : Nat) (md : Int32) (qe n : Nat) (y : Nat → Nat) (g : Nat → Int32) (a : Nat → Nat → Int32) (x : Int32) (hn6 : n ≤ 6) (hwa : ∀ j, j < n → inP (a 4 j) 7 = true) : Met l yX0_help (ws_ yX0_help cX0_help 5 (some .int)) ({ frames := 3, cells := 0, slots := 0, locals := 64 }) (gPre dC dI ct A ex o q (ql, qs, md, qe, n) y g a [.ref o, .int x]) (vp_Si (fun r => r = (M_help n a x))) 0 0 (fun _ => False) := by
  refine Met.ofW (cc := cX0_help) (maxL := 5) (ret := (some .int)) (by decide) rfl ?_
  intro p e s m args below meth c s₁ B hml hv
  obtain ⟨rfl, hP, hK, hD, hE⟩ := hv
  have hx := B.exec
  have hb := B.bytes
  have hr := B.returns
  have hts := atoms_spec (ws := ws_ yX0_help cX0_help 5 (some .int)) B.pre
  have hts : ∀ w ∈ lw_all, w.before _ s = true := fun w h => hts w (List.mem_cons_of_mem _ h)
  have hown : s.vm.findClass RX0 = some m.cls := findClass_of_methodNamed B.named
  have hlocks := B.notSynchronized
  have hS : va_S A s.heap s.heap [] := va_S.rf
  have hl := lv_entry ([.ref o, .int x]) (n := 5) (Nat.le_of_ble_eq_true rfl)
  rw [lg_entry_eq]
  generalize (lg_sl ([.ref o, .int x]) ++ List.replicate (5 - (lg_sl ([.ref o, .int x])).length) Slot.unset).toArray = ls at hl ⊢
  have hl : lv_has ls 5 [(0, .ref o), (1, .int x)] := hl
  refine lv_aload_n hx hb dX0_help_0 rfl (lv_at hl 0 rfl) ?_
  refine lv_iload_n hx hb dX0_help_1 rfl (lv_at hl 1 rfl) ?_
  refine vp_callSi ((va_runV (As := [.int x]) (rest := []) ⟨hx, hb, hml, hown, hts⟩ (metX0_isPerson l dC dI ct A (peW ct o qe n y a ++ ex) o q ql qs md qe n g a x hn6) (cwV 1 hts (lw_V q589 q591 qs13 q69 q592) rfl rfl rfl (by decide +kernel) ⟨Nat.le_of_ble_eq_true rfl, Nat.le_of_ble_eq_true rfl⟩) (xPV hK hP hD hE _) rfl rfl hl.1 rfl (lv_room (Nat.le_of_ble_eq_true rfl)) dX0_help_2 ⟨Nat.zero_le _, Nat.zero_le _⟩)).run (fun r hw => ?_)
  have hw : r = (b2i (inP x n)) := hw
  subst hw
  refine bz_ne (tgt := 10) hx hb dX0_help_5 (by decide) (fun c_1 => ?_) (fun c_1 => ?_)
  · skip
    have hp9 : inP x n = true := c_1
    obtain ⟨eP, hKn⟩ := inP_e (by omega) hp9
    refine lv_iconst (v := 0) hx hb dX0_help_10 (by decide) ?_
    refine lv_istore_n (lv' := [(2, .int 0), (0, .ref o), (1, .int x)]) hx hb dX0_help_11 rfl hl (by decide) rfl (fun ls hl => ?_)
    refine lv_iconst (v := 0) hx hb dX0_help_12 (by decide) ?_
    refine lv_istore_n (lv' := [(3, .int 0), (2, .int 0), (0, .ref o), (1, .int x)]) hx hb dX0_help_13 rfl hl (by decide) rfl (fun ls hl => ?_)
    have loop1 : ∀ (f1 : Nat) (i : Nat), (i ≤ n) → (n + 1 ≤ i + f1) → ∀ (ls : Array Slot), lv_has ls 5 [(3, .int (nI i)), (2, .int (hcnt (a 3) (a 4) (cix x) i)), (1, .int x), (0, .ref o)] → W p l e (headSpec (ws_ yX0_help cX0_help 5 (some .int)) ({ frames := 3, cells := 0, slots := 0, locals := 64 })).room s m ([.ref o, .int x] : List Value).toArray below meth c s.heap [] 0 0 (MQ below (vp_Si (fun r => r = (M_help n a x))) ([.ref o, .int x] : List Value).toArray s 0 0 (fun _ => False)) (F0 m 14 ls []) := by
      intro f1
      induction f1 with
      | zero => intro i hi hf; exact False.elim (by omega)
      | succ f1 ih1 =>
        intro i hi hf ls hl
        refine lv_iload_n hx hb dX0_help_14 rfl (lv_at hl 0 rfl) ?_
        refine lv_aload_n hx hb dX0_help_15 rfl (lv_at hl 3 rfl) ?_
        refine vp_callSi ((va_runV (As := []) (rest := [.int (nI i)]) ⟨hx, hb, hml, hown, hts⟩ (metX0_people l dC dI ct A (peW ct o qe n y a ++ ex) o q ql qs md qe n g a  ) (cwV 0 hts (lw_V q593 q595 qs14 q69 q596) rfl rfl rfl (by decide +kernel) ⟨Nat.le_of_ble_eq_true rfl, Nat.le_of_ble_eq_true rfl⟩) (xPV hK hP hD hE _) rfl rfl hl.1 rfl (lv_room (Nat.le_of_ble_eq_true rfl)) dX0_help_16 ⟨Nat.zero_le _, Nat.zero_le _⟩)).run (fun r hw => ?_)
        have hw : r = (nI n) := hw
        subst hw
        refine lv_icmp_ge (tgt := 96) hx hb dX0_help_19 (by decide) (fun c_2 => ?_) (fun c_2 => ?_)
        · skip
          have hge : i = n := by exact Nat.le_antisymm (by omega) ((nI_leI (by omega) (by omega)).mp c_2)
          refine lv_iload_n hx hb dX0_help_96 rfl (lv_at hl 1 rfl) ?_
          exact W.iret (v := (hcnt (a 3) (a 4) (cix x) i)) hx hb hr (fun t ht hW => ⟨(hcnt (a 3) (a 4) (cix x) i), rfl, (by rw [M_help, if_pos hp9, hge]), ht⟩) (fun q h => by cases h) dX0_help_97
        · skip
          have hlt : i < n := by exact Nat.lt_of_not_le (fun z => c_2 ((nI_leI (by omega) (by omega)).mpr z))
          refine lv_aload_n hx hb dX0_help_22 rfl (lv_at hl 3 rfl) ?_
          refine g_get (v := .ref ql) hx hb hts hown hK hP 2 (by decide) rfl q146 rfl dX0_help_23 ?_
          refine lv_iload_n hx hb dX0_help_26 rfl (lv_at hl 0 rfl) ?_
          refine va_csFr (va_runF (As := [.int (nI i)]) (rest := []) (jAt hK) ⟨hx, hb, hml, hown, hts⟩ (metJ2_get l dC dI ct (xG ct o q (ql, qs, md, qe, n) y g a ex) ql md qe n 14 rfl i 15 10 (y i) (edF y n) (xG_ed (Nat.lt_of_le_of_lt (Nat.zero_le _) hlt)) (Nat.lt_of_lt_of_le hlt (by omega)) (by omega) (if_pos hlt) hlt (by omega)) (va_cwF 1 hts (lw_F q607 q610 q612 q72 q614) rfl rfl rfl (xE_fw_get hE) (by decide +kernel) ⟨Nat.le_of_ble_eq_true rfl, Nat.le_of_ble_eq_true rfl⟩) (jPV (k := 14) (md := md) (qe := qe) (n := n) hK hP rfl _) rfl rfl hl.1 rfl (lv_room (Nat.le_of_ble_eq_true rfl)) dX0_help_27 ⟨Nat.zero_le _, Nat.zero_le _⟩) (fun r hw => ?_)
          have hw : (y i) = r := Eq.symm hw
          subst hw
          refine c_cast hx hb hts hown hK hP hE hlt q451 dX0_help_32 ?_
          refine lv_astore (lv' := [(4, .ref (y i)), (3, .int (nI i)), (2, .int (hcnt (a 3) (a 4) (cix x) i)), (1, .int x), (0, .ref o)]) hx hb dX0_help_35 hl (by decide) rfl (fun ls hl => ?_)
          refine lv_iload_n hx hb dX0_help_37 rfl (lv_at hl 2 rfl) ?_
          refine lv_aload hx hb dX0_help_38 (lv_at hl 0 rfl) ?_
          refine c_getN (v := .int ((a 4) i)) hx hb hts hown hK hP hlt 2 (by decide) rfl (xE_q462 hE) dX0_help_40 ?_
          refine lv_bipush (v := 6) hx hb dX0_help_43 (by decide) ?_
          refine lv_icmp_eq (tgt := 87) hx hb dX0_help_45 (by decide) (fun c_3 => ?_) (fun c_3 => ?_)
          · skip
            refine lv_iconst (v := 0) hx hb dX0_help_87 (by decide) ?_
            refine lv_iadd hx hb dX0_help_88 ?_
            refine lv_topi (fun z_4 ez_4 => ?_)
            have ez_4 : z_4 = (hcnt (a 3) (a 4) (cix x) (i + 1)) := ez_4.trans (hcnt_0 (fun z => z.1 (by rw [c_3]; decide)))
            subst ez_4
            refine lv_istore_n (lv' := [(2, .int (hcnt (a 3) (a 4) (cix x) (i + 1))), (4, .ref (y i)), (3, .int (nI i)), (1, .int x), (0, .ref o)]) hx hb dX0_help_89 rfl hl (by decide) rfl (fun ls hl => ?_)
            refine lv_iinc (v := (nI (i + 1))) (lv' := [(3, .int (nI (i + 1))), (2, .int (hcnt (a 3) (a 4) (cix x) (i + 1))), (4, .ref (y i)), (1, .int x), (0, .ref o)]) hx hb dX0_help_90 hl (k := 2) rfl (nI_1 i) (by decide) rfl (fun ls hl => ?_)
            refine lv_goto (tgt := 14) hx hb dX0_help_93 (by decide) ?_
            exact ih1 (i + 1) (by omega) (by omega) _ (lv_sub hl [0, 1, 3, 4] rfl)
          · skip
            refine lv_aload_n hx hb dX0_help_48 rfl (lv_at hl 4 rfl) ?_
            refine g_get (v := .ref ql) hx hb hts hown hK hP 2 (by decide) rfl q146 rfl dX0_help_49 ?_
            refine lv_iload_n hx hb dX0_help_52 rfl (lv_at hl 3 rfl) ?_
            refine lv_topi (fun z_5 ez_5 => ?_)
            have ez_5 : z_5 = (nI (cix x)) := ez_5.trans eP
            subst ez_5
            refine va_csFr (va_runF (As := [.int (nI (cix x))]) (rest := [.int (hcnt (a 3) (a 4) (cix x) i)]) (jAt hK) ⟨hx, hb, hml, hown, hts⟩ (metJ2_get l dC dI ct (xG ct o q (ql, qs, md, qe, n) y g a ex) ql md qe n 14 rfl (cix x) 15 10 (y (cix x)) (edF y n) (xG_ed (Nat.lt_of_le_of_lt (Nat.zero_le _) hKn)) (Nat.lt_of_lt_of_le hKn (by omega)) (by omega) (if_pos hKn) hKn (by omega)) (va_cwF 1 hts (lw_F q607 q610 q612 q72 q614) rfl rfl rfl (xE_fw_get hE) (by decide +kernel) ⟨Nat.le_of_ble_eq_true rfl, Nat.le_of_ble_eq_true rfl⟩) (jPV (k := 14) (md := md) (qe := qe) (n := n) hK hP rfl _) rfl rfl hl.1 rfl (lv_room (Nat.le_of_ble_eq_true rfl)) dX0_help_53 ⟨Nat.zero_le _, Nat.zero_le _⟩) (fun r hw => ?_)
            have hw : (y (cix x)) = r := Eq.symm hw
            subst hw
            refine c_cast hx hb hts hown hK hP hE hKn q451 dX0_help_58 ?_
            refine c_getN (v := .int ((a 3) (cix x))) hx hb hts hown hK hP hKn 1 (by decide) rfl (xE_q460 hE) dX0_help_61 ?_
            refine lv_aload hx hb dX0_help_64 (lv_at hl 0 rfl) ?_
            refine c_getN (v := .int ((a 3) i)) hx hb hts hown hK hP hlt 1 (by decide) rfl (xE_q460 hE) dX0_help_66 ?_
            refine lv_iconst (v := (-1)) hx hb dX0_help_69 (by decide) ?_
            refine lv_ixor hx hb dX0_help_70 ?_
            refine lv_iand hx hb dX0_help_71 ?_
            refine lv_aload hx hb dX0_help_72 (lv_at hl 0 rfl) ?_
            refine c_getN (v := .int ((a 4) i)) hx hb hts hown hK hP hlt 2 (by decide) rfl (xE_q462 hE) dX0_help_74 ?_
            refine vp_callSi ((va_runS (As := [.int (((a 3) (cix x)) &&& (((a 3) i) ^^^ (-1))), .int ((a 4) i)]) (rest := [.int (hcnt (a 3) (a 4) (cix x) i)]) ⟨hx, hb, hml, hown, hts⟩ (metX0_isOf l (((a 3) (cix x)) &&& (((a 3) i) ^^^ (-1))) ((a 4) i) ) (va_cwS 2 hts (lw_S q723 q724 q69 q725) rfl rfl rfl (by decide +kernel) ⟨Nat.le_of_ble_eq_true rfl, Nat.le_of_ble_eq_true rfl⟩) (pcS _) rfl rfl hl.1 rfl (lv_room (Nat.le_of_ble_eq_true rfl)) dX0_help_77 ⟨Nat.zero_le _, Nat.zero_le _⟩)).run (fun r hw => ?_)
            have hw : r = (b2i (bq (((a 3) (cix x)) &&& (((a 3) i) ^^^ (-1))) ((a 4) i))) := hw
            subst hw
            refine bz_eq (tgt := 87) hx hb dX0_help_80 (by decide) (fun c_6 => ?_) (fun c_6 => ?_)
            · skip
              refine lv_iconst (v := 0) hx hb dX0_help_87 (by decide) ?_
              refine lv_iadd hx hb dX0_help_88 ?_
              refine lv_topi (fun z_7 ez_7 => ?_)
              have ez_7 : z_7 = (hcnt (a 3) (a 4) (cix x) (i + 1)) := ez_7.trans (hcnt_0 (fun z => by rw [bq_not, z.2.1, z.2.2] at c_6; exact absurd c_6 (by decide)))
              subst ez_7
              refine lv_istore_n (lv' := [(2, .int (hcnt (a 3) (a 4) (cix x) (i + 1))), (4, .ref (y i)), (3, .int (nI i)), (1, .int x), (0, .ref o)]) hx hb dX0_help_89 rfl hl (by decide) rfl (fun ls hl => ?_)
              refine lv_iinc (v := (nI (i + 1))) (lv' := [(3, .int (nI (i + 1))), (2, .int (hcnt (a 3) (a 4) (cix x) (i + 1))), (4, .ref (y i)), (1, .int x), (0, .ref o)]) hx hb dX0_help_90 hl (k := 2) rfl (nI_1 i) (by decide) rfl (fun ls hl => ?_)
              refine lv_goto (tgt := 14) hx hb dX0_help_93 (by decide) ?_
              exact ih1 (i + 1) (by omega) (by omega) _ (lv_sub hl [0, 1, 3, 4] rfl)
            · skip
              refine lv_iconst (v := 1) hx hb dX0_help_83 (by decide) ?_
              refine lv_goto (tgt := 88) hx hb dX0_help_84 (by decide) ?_
              refine lv_iadd hx hb dX0_help_88 ?_
              refine lv_topi (fun z_8 ez_8 => ?_)
              have ez_8 : z_8 = (hcnt (a 3) (a 4) (cix x) (i + 1)) := ez_8.trans (by rw [bq_not, Bool.and_eq_true] at c_6; exact hcnt_1 (wa_lt6 (hwa i hlt) c_3) c_6.1 (by simpa using c_6.2))
              subst ez_8
              refine lv_istore_n (lv' := [(2, .int (hcnt (a 3) (a 4) (cix x) (i + 1))), (4, .ref (y i)), (3, .int (nI i)), (1, .int x), (0, .ref o)]) hx hb dX0_help_89 rfl hl (by decide) rfl (fun ls hl => ?_)
              refine lv_iinc (v := (nI (i + 1))) (lv' := [(3, .int (nI (i + 1))), (2, .int (hcnt (a 3) (a 4) (cix x) (i + 1))), (4, .ref (y i)), (1, .int x), (0, .ref o)]) hx hb dX0_help_90 hl (k := 2) rfl (nI_1 i) (by decide) rfl (fun ls hl => ?_)
              refine lv_goto (tgt := 14) hx hb dX0_help_93 (by decide) ?_
              exact ih1 (i + 1) (by omega) (by omega) _ (lv_sub hl [0, 1, 3, 4] rfl)
    exact loop1 (n + 1) 0 (by omega) (by omega) _ (lv_sub hl [0, 1, 3, 2] rfl)
  · skip
    refine lv_iconst (v := (-1)) hx hb dX0_help_8 (by decide) ?_
    exact W.iret (v := (-1)) hx hb hr (fun t ht hW => ⟨(-1), rfl, (by rw [M_help, if_neg (by rw [c_1]; decide)]), ht⟩) (fun q h => by cases h) dX0_help_9
set_option maxHeartbeats 4000000 in
set_option maxRecDepth 100000 in
theorem metX0_goRow (l : Launch) (dC : Nat → ClassId) (dI : Nat → Nat → Nat) (ct : Nat → ClassId) (A : Nat → Prop) (ex : va_W) (o : Nat) (q : Nat → Nat) (ql qs : Nat) (md : Int32) (qe n : Nat) (y : Nat → Nat) (g : Nat → Int32) (a : Nat → Nat → Int32) (x : Int32) (M : Nat) (d : Nat → Nat) (hn6 : n ≤ 6) (ex0 : x = nI M) (hM : M ≤ 3) (hd : ∀ j, j < M → a 19 j = rw2 (d j) ∧ d j / 6 < d j % 6 ∧ d j % 6 < n) : Met l yX0_goRow (ws_ yX0_goRow cX0_goRow 3 (some .boolean)) ({ frames := 6, cells := 0, slots := 0, locals := 123 }) (gPre dC dI ct A ex o q (ql, qs, md, qe, n) y g a [.ref o, .int x]) (va_Qi (fun (r : Int32) (u : (Nat → Int32) × (Nat → Nat → Int32)) => r = (b2i (rgo fuX (laX (g 3) (g 4) (a 2) (a 5)) n d (xbeg n (a 3) ((a 12), (a 13), (a 14), (a 15), (a 16))) M).2) ∧ u = ((upd g 18 (-9)), (va_up (va_up (va_up (va_up (va_up a 12 (((rgo fuX (laX (g 3) (g 4) (a 2) (a 5)) n d (xbeg n (a 3) ((a 12), (a 13), (a 14), (a 15), (a 16))) M).1).1)) 13 (((rgo fuX (laX (g 3) (g 4) (a 2) (a 5)) n d (xbeg n (a 3) ((a 12), (a 13), (a 14), (a 15), (a 16))) M).1).2.1)) 14 (((rgo fuX (laX (g 3) (g 4) (a 2) (a 5)) n d (xbeg n (a 3) ((a 12), (a 13), (a 14), (a 15), (a 16))) M).1).2.2.1)) 15 (((rgo fuX (laX (g 3) (g 4) (a 2) (a 5)) n d (xbeg n (a 3) ((a 12), (a 13), (a 14), (a 15), (a 16))) M).1).2.2.2.1)) 16 (((rgo fuX (laX (g 3) (g 4) (a 2) (a 5)) n d (xbeg n (a 3) ((a 12), (a 13), (a 14), (a 15), (a 16))) M).1).2.2.2.2)))) (gB dC dI ct A ex o q (ql, qs, md, qe, n) y) A) 0 0 A := by
  refine Met.ofW (cc := cX0_goRow) (maxL := 3) (ret := (some .boolean)) (by decide) rfl ?_
  intro p e s m args below meth c s₁ B hml hv
  obtain ⟨rfl, hP, hK, hD, hE⟩ := hv
  have hx := B.exec
  have hb := B.bytes
  have hr := B.returns
  have hts := atoms_spec (ws := ws_ yX0_goRow cX0_goRow 3 (some .boolean)) B.pre
  have hts : ∀ w ∈ lw_all, w.before _ s = true := fun w h => hts w (List.mem_cons_of_mem _ h)
  have hown : s.vm.findClass RX0 = some m.cls := findClass_of_methodNamed B.named
  have hlocks := B.notSynchronized
  have hS : va_S A s.heap s.heap [] := va_S.rf
  have hl := lv_entry ([.ref o, .int x]) (n := 3) (Nat.le_of_ble_eq_true rfl)
  rw [lg_entry_eq]
  generalize (lg_sl ([.ref o, .int x]) ++ List.replicate (3 - (lg_sl ([.ref o, .int x])).length) Slot.unset).toArray = ls at hl ⊢
  have hl : lv_has ls 3 [(0, .ref o), (1, .int x)] := hl
  subst ex0
  refine lv_aload_n hx hb dX0_goRow_0 rfl (lv_at hl 0 rfl) ?_
  refine va_callv (va_runV (As := []) (rest := []) ⟨hx, hb, hml, hown, hts⟩ (metX0_begin l dC dI ct A ex o q ql qs md qe n y g a  hn6) (cwV 0 hts (lw_V q697 q699 qs19 q69 q700) rfl rfl rfl (by decide +kernel) ⟨Nat.le_of_ble_eq_true rfl, Nat.le_of_ble_eq_true rfl⟩) (gPV hK hP hD hE _) rfl rfl hl.1 rfl (lv_room (Nat.le_of_ble_eq_true rfl)) dX0_goRow_1 ⟨Nat.zero_le _, Nat.zero_le _⟩) hS (fun q _ h => h) (fun q h => h) (fun u t H1 locs ht hvm hw hB hz1 hk1 hS => ?_)
  subst hw
  obtain ⟨hP, -, hD⟩ := hB
  rw [ht] at hP
  generalize H1 = H at hP hS ⊢
  have hP : va_P (dC, dI) clA (xG ct o q (ql, qs, md, qe, n) y (upd g 18 (-9)) (va_up (va_up (va_up (va_up (va_up a 12 ((xbeg n (a 3) ((a 12), (a 13), (a 14), (a 15), (a 16))).1)) 13 ((xbeg n (a 3) ((a 12), (a 13), (a 14), (a 15), (a 16))).2.1)) 14 ((xbeg n (a 3) ((a 12), (a 13), (a 14), (a 15), (a 16))).2.2.1)) 15 ((xbeg n (a 3) ((a 12), (a 13), (a 14), (a 15), (a 16))).2.2.2.1)) 16 ((xbeg n (a 3) ((a 12), (a 13), (a 14), (a 15), (a 16))).2.2.2.2)) ex) H := hP
  have hD : va_D A (xG ct o q (ql, qs, md, qe, n) y (upd g 18 (-9)) (va_up (va_up (va_up (va_up (va_up a 12 ((xbeg n (a 3) ((a 12), (a 13), (a 14), (a 15), (a 16))).1)) 13 ((xbeg n (a 3) ((a 12), (a 13), (a 14), (a 15), (a 16))).2.1)) 14 ((xbeg n (a 3) ((a 12), (a 13), (a 14), (a 15), (a 16))).2.2.1)) 15 ((xbeg n (a 3) ((a 12), (a 13), (a 14), (a 15), (a 16))).2.2.2.1)) 16 ((xbeg n (a 3) ((a 12), (a 13), (a 14), (a 15), (a 16))).2.2.2.2)) ex) := hD
  refine lv_iconst (v := 0) hx hb dX0_goRow_4 (by decide) ?_
  refine lv_istore_n (lv' := [(2, .int 0), (0, .ref o), (1, .int (nI M))]) hx hb dX0_goRow_5 rfl hl (by decide) rfl (fun ls hl => ?_)
  have loop1 : ∀ (f1 : Nat) (i : Nat), (i ≤ M) → (M + 1 ≤ i + f1) → ((rgo fuX (laX (g 3) (g 4) (a 2) (a 5)) n d (xbeg n (a 3) (a 12, a 13, a 14, a 15, a 16)) i).2 = true) → ∀ (H : Heap) (locs : List Loc), va_P (dC, dI) clA (xG ct o q (ql, qs, md, qe, n) y (upd g 18 (-9)) (va_up (va_up (va_up (va_up (va_up a 12 (((rgo fuX (laX (g 3) (g 4) (a 2) (a 5)) n d (xbeg n (a 3) (a 12, a 13, a 14, a 15, a 16)) i).1).1)) 13 (((rgo fuX (laX (g 3) (g 4) (a 2) (a 5)) n d (xbeg n (a 3) (a 12, a 13, a 14, a 15, a 16)) i).1).2.1)) 14 (((rgo fuX (laX (g 3) (g 4) (a 2) (a 5)) n d (xbeg n (a 3) (a 12, a 13, a 14, a 15, a 16)) i).1).2.2.1)) 15 (((rgo fuX (laX (g 3) (g 4) (a 2) (a 5)) n d (xbeg n (a 3) (a 12, a 13, a 14, a 15, a 16)) i).1).2.2.2.1)) 16 (((rgo fuX (laX (g 3) (g 4) (a 2) (a 5)) n d (xbeg n (a 3) (a 12, a 13, a 14, a 15, a 16)) i).1).2.2.2.2)) ex) H → va_D A (xG ct o q (ql, qs, md, qe, n) y (upd g 18 (-9)) (va_up (va_up (va_up (va_up (va_up a 12 (((rgo fuX (laX (g 3) (g 4) (a 2) (a 5)) n d (xbeg n (a 3) (a 12, a 13, a 14, a 15, a 16)) i).1).1)) 13 (((rgo fuX (laX (g 3) (g 4) (a 2) (a 5)) n d (xbeg n (a 3) (a 12, a 13, a 14, a 15, a 16)) i).1).2.1)) 14 (((rgo fuX (laX (g 3) (g 4) (a 2) (a 5)) n d (xbeg n (a 3) (a 12, a 13, a 14, a 15, a 16)) i).1).2.2.1)) 15 (((rgo fuX (laX (g 3) (g 4) (a 2) (a 5)) n d (xbeg n (a 3) (a 12, a 13, a 14, a 15, a 16)) i).1).2.2.2.1)) 16 (((rgo fuX (laX (g 3) (g 4) (a 2) (a 5)) n d (xbeg n (a 3) (a 12, a 13, a 14, a 15, a 16)) i).1).2.2.2.2)) ex) → va_S A s.heap H locs → ∀ (ls : Array Slot), lv_has ls 3 [(2, .int (nI i)), (1, .int (nI M)), (0, .ref o)] → W p l e (headSpec (ws_ yX0_goRow cX0_goRow 3 (some .boolean)) ({ frames := 6, cells := 0, slots := 0, locals := 123 })).room s m ([.ref o, .int (nI M)] : List Value).toArray below meth c H locs 0 0 (MQ below (va_Qi (fun (r : Int32) (u : (Nat → Int32) × (Nat → Nat → Int32)) => r = (b2i (rgo fuX (laX (g 3) (g 4) (a 2) (a 5)) n d (xbeg n (a 3) ((a 12), (a 13), (a 14), (a 15), (a 16))) M).2) ∧ u = ((upd g 18 (-9)), (va_up (va_up (va_up (va_up (va_up a 12 (((rgo fuX (laX (g 3) (g 4) (a 2) (a 5)) n d (xbeg n (a 3) ((a 12), (a 13), (a 14), (a 15), (a 16))) M).1).1)) 13 (((rgo fuX (laX (g 3) (g 4) (a 2) (a 5)) n d (xbeg n (a 3) ((a 12), (a 13), (a 14), (a 15), (a 16))) M).1).2.1)) 14 (((rgo fuX (laX (g 3) (g 4) (a 2) (a 5)) n d (xbeg n (a 3) ((a 12), (a 13), (a 14), (a 15), (a 16))) M).1).2.2.1)) 15 (((rgo fuX (laX (g 3) (g 4) (a 2) (a 5)) n d (xbeg n (a 3) ((a 12), (a 13), (a 14), (a 15), (a 16))) M).1).2.2.2.1)) 16 (((rgo fuX (laX (g 3) (g 4) (a 2) (a 5)) n d (xbeg n (a 3) ((a 12), (a 13), (a 14), (a 15), (a 16))) M).1).2.2.2.2)))) (gB dC dI ct A ex o q (ql, qs, md, qe, n) y) A) ([.ref o, .int (nI M)] : List Value).toArray s 0 0 A) (F0 m 6 ls []) := by
    intro f1
    induction f1 with
    | zero => intro i hi hf hc; exact False.elim (by omega)
    | succ f1 ih1 =>
      intro i hi hf hc H locs hP hD hS ls hl
      refine lv_iload_n hx hb dX0_goRow_6 rfl (lv_at hl 0 rfl) ?_
      refine lv_iload_n hx hb dX0_goRow_7 rfl (lv_at hl 1 rfl) ?_
      refine lv_icmp_ge (tgt := 66) hx hb dX0_goRow_8 (by decide) (fun c_1 => ?_) (fun c_1 => ?_)
      · skip
        have hge : i = M := by exact Nat.le_antisymm (by omega) ((nI_leI (by omega) (by omega)).mp c_1)
        refine lv_iconst (v := 1) hx hb dX0_goRow_66 (by decide) ?_
        exact W.zret (v := 1) hx hb hr rfl (fun t ht hW => ⟨⟨1, ((upd g 18 (-9)), (va_up (va_up (va_up (va_up (va_up a 12 (((rgo fuX (laX (g 3) (g 4) (a 2) (a 5)) n d (xbeg n (a 3) (a 12, a 13, a 14, a 15, a 16)) i).1).1)) 13 (((rgo fuX (laX (g 3) (g 4) (a 2) (a 5)) n d (xbeg n (a 3) (a 12, a 13, a 14, a 15, a 16)) i).1).2.1)) 14 (((rgo fuX (laX (g 3) (g 4) (a 2) (a 5)) n d (xbeg n (a 3) (a 12, a 13, a 14, a 15, a 16)) i).1).2.2.1)) 15 (((rgo fuX (laX (g 3) (g 4) (a 2) (a 5)) n d (xbeg n (a 3) (a 12, a 13, a 14, a 15, a 16)) i).1).2.2.2.1)) 16 (((rgo fuX (laX (g 3) (g 4) (a 2) (a 5)) n d (xbeg n (a 3) (a 12, a 13, a 14, a 15, a 16)) i).1).2.2.2.2))), rfl, ⟨(by rw [← hge, hc]; rfl), (by rw [← hge])⟩, by rw [ht]; exact hP, va_K.moved hW.alike hK, hD⟩, hS.F ht⟩) hS.2.2 dX0_goRow_67
      · skip
        have hlt : i < M := by exact Nat.lt_of_not_le (fun z => c_1 ((nI_leI (by omega) (by omega)).mpr z))
        refine lv_aload_n hx hb dX0_goRow_11 rfl (lv_at hl 2 rfl) ?_
        refine lv_aload_n hx hb dX0_goRow_12 rfl (lv_at hl 2 rfl) ?_
        refine g_get (v := .ref (q 19)) hx hb hts hown hK hP 15 (by decide) rfl q164 rfl dX0_goRow_13 ?_
        refine lv_iload_n hx hb dX0_goRow_16 rfl (lv_at hl 0 rfl) ?_
        refine g_ild hx hb hK hP (gWa19 _ _ _ _ _ _ _ _ _ _ _ _) (a 19) rfl i rfl (by omega) (by decide) dX0_goRow_17 ?_
        refine lv_bipush (v := 10) hx hb dX0_goRow_18 (by decide) ?_
        refine lv_idiv hx hb dX0_goRow_20 (by decide) ?_
        refine lv_aload_n hx hb dX0_goRow_21 rfl (lv_at hl 2 rfl) ?_
        refine g_get (v := .ref (q 19)) hx hb hts hown hK hP 15 (by decide) rfl q164 rfl dX0_goRow_22 ?_
        refine lv_iload_n hx hb dX0_goRow_25 rfl (lv_at hl 0 rfl) ?_
        refine g_ild hx hb hK hP (gWa19 _ _ _ _ _ _ _ _ _ _ _ _) (a 19) rfl i rfl (by omega) (by decide) dX0_goRow_26 ?_
        refine lv_bipush (v := 10) hx hb dX0_goRow_27 (by decide) ?_
        refine lv_irem hx hb dX0_goRow_29 (by decide) ?_
        have h9 := hd i hlt
        have h36 : d i < 36 := by omega
        have e1 : a 19 i / 10 = nI (d i / 6) := by rw [h9.1]; exact rw2_div h36
        have e2 : a 19 i - a 19 i / 10 * 10 = nI (d i % 6) := by rw [h9.1]; exact rw2_rem h36
        have hh : hasOk n (rgo fuX (laX (g 3) (g 4) (a 2) (a 5)) n d (xbeg n (a 3) (a 12, a 13, a 14, a 15, a 16)) i).1.1 := hasOk_rgo (xbeg_ok _ _ (by omega)) i
        refine vp_callSi ((va_runV (As := [.int (((a 19) i) / 10), .int (((a 19) i) - ((a 19) i) / 10 * 10)]) (rest := []) ⟨hx, hb, hml, hown, hts⟩ (metX0_mayLend l dC dI ct A ex o q ql qs md qe n y (upd g 18 (-9)) (va_up (va_up (va_up (va_up (va_up a 12 (((rgo fuX (laX (g 3) (g 4) (a 2) (a 5)) n d (xbeg n (a 3) (a 12, a 13, a 14, a 15, a 16)) i).1).1)) 13 (((rgo fuX (laX (g 3) (g 4) (a 2) (a 5)) n d (xbeg n (a 3) (a 12, a 13, a 14, a 15, a 16)) i).1).2.1)) 14 (((rgo fuX (laX (g 3) (g 4) (a 2) (a 5)) n d (xbeg n (a 3) (a 12, a 13, a 14, a 15, a 16)) i).1).2.2.1)) 15 (((rgo fuX (laX (g 3) (g 4) (a 2) (a 5)) n d (xbeg n (a 3) (a 12, a 13, a 14, a 15, a 16)) i).1).2.2.2.1)) 16 (((rgo fuX (laX (g 3) (g 4) (a 2) (a 5)) n d (xbeg n (a 3) (a 12, a 13, a 14, a 15, a 16)) i).1).2.2.2.2)) (((a 19) i) / 10) (((a 19) i) - ((a 19) i) / 10 * 10) (d i / 6) (d i % 6) hn6 (by omega) h9.2.2 e1 e2 hh) (cwV 2 hts (lw_V q730 q732 qs24 q69 q733) rfl rfl rfl (by decide +kernel) ⟨Nat.le_of_ble_eq_true rfl, Nat.le_of_ble_eq_true rfl⟩) (gPV hK hP hD hE _) rfl rfl hl.1 rfl (lv_room (Nat.le_of_ble_eq_true rfl)) dX0_goRow_30 ⟨Nat.zero_le _, Nat.zero_le _⟩)).run (fun r hw => ?_)
        have hw : r = (b2i (lcan (d i / 6) (d i % 6) ((rgo fuX (laX (g 3) (g 4) (a 2) (a 5)) n d (xbeg n (a 3) (a 12, a 13, a 14, a 15, a 16)) i).1))) := hw
        subst hw
        refine bz_ne (tgt := 38) hx hb dX0_goRow_33 (by decide) (fun c_2 => ?_) (fun c_2 => ?_)
        · skip
          refine lv_aload_n hx hb dX0_goRow_38 rfl (lv_at hl 2 rfl) ?_
          refine lv_aload_n hx hb dX0_goRow_39 rfl (lv_at hl 2 rfl) ?_
          refine g_get (v := .ref (q 19)) hx hb hts hown hK hP 15 (by decide) rfl q164 rfl dX0_goRow_40 ?_
          refine lv_iload_n hx hb dX0_goRow_43 rfl (lv_at hl 0 rfl) ?_
          refine g_ild hx hb hK hP (gWa19 _ _ _ _ _ _ _ _ _ _ _ _) (a 19) rfl i rfl (by omega) (by decide) dX0_goRow_44 ?_
          refine lv_bipush (v := 10) hx hb dX0_goRow_45 (by decide) ?_
          refine lv_idiv hx hb dX0_goRow_47 (by decide) ?_
          refine lv_aload_n hx hb dX0_goRow_48 rfl (lv_at hl 2 rfl) ?_
          refine g_get (v := .ref (q 19)) hx hb hts hown hK hP 15 (by decide) rfl q164 rfl dX0_goRow_49 ?_
          refine lv_iload_n hx hb dX0_goRow_52 rfl (lv_at hl 0 rfl) ?_
          refine g_ild hx hb hK hP (gWa19 _ _ _ _ _ _ _ _ _ _ _ _) (a 19) rfl i rfl (by omega) (by decide) dX0_goRow_53 ?_
          refine lv_bipush (v := 10) hx hb dX0_goRow_54 (by decide) ?_
          refine lv_irem hx hb dX0_goRow_56 (by decide) ?_
          refine va_callv (va_runV (As := [.int (((a 19) i) / 10), .int (((a 19) i) - ((a 19) i) / 10 * 10)]) (rest := []) ⟨hx, hb, hml, hown, hts⟩ (metX0_lend l dC dI ct A ex o q ql qs md qe n y (upd g 18 (-9)) (va_up (va_up (va_up (va_up (va_up a 12 (((rgo fuX (laX (g 3) (g 4) (a 2) (a 5)) n d (xbeg n (a 3) (a 12, a 13, a 14, a 15, a 16)) i).1).1)) 13 (((rgo fuX (laX (g 3) (g 4) (a 2) (a 5)) n d (xbeg n (a 3) (a 12, a 13, a 14, a 15, a 16)) i).1).2.1)) 14 (((rgo fuX (laX (g 3) (g 4) (a 2) (a 5)) n d (xbeg n (a 3) (a 12, a 13, a 14, a 15, a 16)) i).1).2.2.1)) 15 (((rgo fuX (laX (g 3) (g 4) (a 2) (a 5)) n d (xbeg n (a 3) (a 12, a 13, a 14, a 15, a 16)) i).1).2.2.2.1)) 16 (((rgo fuX (laX (g 3) (g 4) (a 2) (a 5)) n d (xbeg n (a 3) (a 12, a 13, a 14, a 15, a 16)) i).1).2.2.2.2)) (((a 19) i) / 10) (((a 19) i) - ((a 19) i) / 10 * 10) (d i / 6) (d i % 6) hn6 (by omega) h9.2.2 e1 e2 hh) (cwV 2 hts (lw_V q734 q736 qs25 q69 q737) rfl rfl rfl (by decide +kernel) ⟨Nat.le_of_ble_eq_true rfl, Nat.le_of_ble_eq_true rfl⟩) (gPV hK hP hD hE _) rfl rfl hl.1 rfl (lv_room (Nat.le_of_ble_eq_true rfl)) dX0_goRow_57 ⟨Nat.zero_le _, Nat.zero_le _⟩) hS (fun q _ h => h) (fun q h => h) (fun u t H1 locs ht hvm hw hB hz1 hk1 hS => ?_)
          subst hw
          obtain ⟨hP, -, hD⟩ := hB
          rw [ht] at hP
          generalize H1 = H at hP hS ⊢
          have hP : va_P (dC, dI) clA (xG ct o q (ql, qs, md, qe, n) y (upd g 18 (-9)) (va_up (va_up (va_up (va_up (va_up a 12 ((llend fuX (laX (g 3) (g 4) (a 2) (a 5)) (d i / 6) (d i % 6) ((rgo fuX (laX (g 3) (g 4) (a 2) (a 5)) n d (xbeg n (a 3) (a 12, a 13, a 14, a 15, a 16)) i).1)).1)) 13 ((llend fuX (laX (g 3) (g 4) (a 2) (a 5)) (d i / 6) (d i % 6) ((rgo fuX (laX (g 3) (g 4) (a 2) (a 5)) n d (xbeg n (a 3) (a 12, a 13, a 14, a 15, a 16)) i).1)).2.1)) 14 ((llend fuX (laX (g 3) (g 4) (a 2) (a 5)) (d i / 6) (d i % 6) ((rgo fuX (laX (g 3) (g 4) (a 2) (a 5)) n d (xbeg n (a 3) (a 12, a 13, a 14, a 15, a 16)) i).1)).2.2.1)) 15 ((llend fuX (laX (g 3) (g 4) (a 2) (a 5)) (d i / 6) (d i % 6) ((rgo fuX (laX (g 3) (g 4) (a 2) (a 5)) n d (xbeg n (a 3) (a 12, a 13, a 14, a 15, a 16)) i).1)).2.2.2.1)) 16 ((llend fuX (laX (g 3) (g 4) (a 2) (a 5)) (d i / 6) (d i % 6) ((rgo fuX (laX (g 3) (g 4) (a 2) (a 5)) n d (xbeg n (a 3) (a 12, a 13, a 14, a 15, a 16)) i).1)).2.2.2.2)) ex) H := hP
          have hD : va_D A (xG ct o q (ql, qs, md, qe, n) y (upd g 18 (-9)) (va_up (va_up (va_up (va_up (va_up a 12 ((llend fuX (laX (g 3) (g 4) (a 2) (a 5)) (d i / 6) (d i % 6) ((rgo fuX (laX (g 3) (g 4) (a 2) (a 5)) n d (xbeg n (a 3) (a 12, a 13, a 14, a 15, a 16)) i).1)).1)) 13 ((llend fuX (laX (g 3) (g 4) (a 2) (a 5)) (d i / 6) (d i % 6) ((rgo fuX (laX (g 3) (g 4) (a 2) (a 5)) n d (xbeg n (a 3) (a 12, a 13, a 14, a 15, a 16)) i).1)).2.1)) 14 ((llend fuX (laX (g 3) (g 4) (a 2) (a 5)) (d i / 6) (d i % 6) ((rgo fuX (laX (g 3) (g 4) (a 2) (a 5)) n d (xbeg n (a 3) (a 12, a 13, a 14, a 15, a 16)) i).1)).2.2.1)) 15 ((llend fuX (laX (g 3) (g 4) (a 2) (a 5)) (d i / 6) (d i % 6) ((rgo fuX (laX (g 3) (g 4) (a 2) (a 5)) n d (xbeg n (a 3) (a 12, a 13, a 14, a 15, a 16)) i).1)).2.2.2.1)) 16 ((llend fuX (laX (g 3) (g 4) (a 2) (a 5)) (d i / 6) (d i % 6) ((rgo fuX (laX (g 3) (g 4) (a 2) (a 5)) n d (xbeg n (a 3) (a 12, a 13, a 14, a 15, a 16)) i).1)).2.2.2.2)) ex) := hD
          refine lv_iinc (v := (nI (i + 1))) (lv' := [(2, .int (nI (i + 1))), (1, .int (nI M)), (0, .ref o)]) hx hb dX0_goRow_60 hl (k := 0) rfl (nI_1 i) (by decide) rfl (fun ls hl => ?_)
          refine lv_goto (tgt := 6) hx hb dX0_goRow_63 (by decide) ?_
          have eT : (rgo fuX (laX (g 3) (g 4) (a 2) (a 5)) n d (xbeg n (a 3) (a 12, a 13, a 14, a 15, a 16)) (i + 1)) = ((llend fuX (laX (g 3) (g 4) (a 2) (a 5)) (d i / 6) (d i % 6) ((rgo fuX (laX (g 3) (g 4) (a 2) (a 5)) n d (xbeg n (a 3) (a 12, a 13, a 14, a 15, a 16)) i).1)), true) := by show rstep _ _ _ _ i _ = _; rw [rstep, if_neg (by rw [hc]; decide), if_pos ⟨h9.2.1, h9.2.2, c_2⟩]
          exact ih1 (i + 1) (by omega) (by omega) (by rw [eT]) _ _ (by rw [eT]; exact hP) (by rw [eT]; exact hD) hS _ (lv_sub hl [0, 1, 2] rfl)
        · skip
          refine lv_iconst (v := 0) hx hb dX0_goRow_36 (by decide) ?_
          have eT : (rgo fuX (laX (g 3) (g 4) (a 2) (a 5)) n d (xbeg n (a 3) (a 12, a 13, a 14, a 15, a 16)) (i + 1)) = ((rgo fuX (laX (g 3) (g 4) (a 2) (a 5)) n d (xbeg n (a 3) (a 12, a 13, a 14, a 15, a 16)) i).1, false) := by show rstep _ _ _ _ i _ = _; rw [rstep, if_neg (by rw [hc]; decide), if_neg (fun z => by rw [c_2] at z; exact absurd z.2.2 (by decide))]
          have eM : (rgo fuX (laX (g 3) (g 4) (a 2) (a 5)) n d (xbeg n (a 3) (a 12, a 13, a 14, a 15, a 16)) M) = ((rgo fuX (laX (g 3) (g 4) (a 2) (a 5)) n d (xbeg n (a 3) (a 12, a 13, a 14, a 15, a 16)) i).1, false) := (rgo_stuck (x := i + 1) (by rw [eT]) M (by omega)).trans eT
          exact W.zret (v := 0) hx hb hr rfl (fun t ht hW => ⟨⟨0, ((upd g 18 (-9)), (va_up (va_up (va_up (va_up (va_up a 12 (((rgo fuX (laX (g 3) (g 4) (a 2) (a 5)) n d (xbeg n (a 3) (a 12, a 13, a 14, a 15, a 16)) i).1).1)) 13 (((rgo fuX (laX (g 3) (g 4) (a 2) (a 5)) n d (xbeg n (a 3) (a 12, a 13, a 14, a 15, a 16)) i).1).2.1)) 14 (((rgo fuX (laX (g 3) (g 4) (a 2) (a 5)) n d (xbeg n (a 3) (a 12, a 13, a 14, a 15, a 16)) i).1).2.2.1)) 15 (((rgo fuX (laX (g 3) (g 4) (a 2) (a 5)) n d (xbeg n (a 3) (a 12, a 13, a 14, a 15, a 16)) i).1).2.2.2.1)) 16 (((rgo fuX (laX (g 3) (g 4) (a 2) (a 5)) n d (xbeg n (a 3) (a 12, a 13, a 14, a 15, a 16)) i).1).2.2.2.2))), rfl, ⟨(by rw [eM]; rfl), (by rw [eM])⟩, by rw [ht]; exact hP, va_K.moved hW.alike hK, hD⟩, hS.F ht⟩) hS.2.2 dX0_goRow_37
  exact loop1 (M + 1) 0 (by omega) (by omega) rfl _ _ hP hD hS _ (lv_sub hl [0, 2, 1] rfl)
set_option maxHeartbeats 4000000 in
set_option maxRecDepth 100000 in
theorem metX0_tryFrom_0 (l : Launch) (dC : Nat → ClassId) (dI : Nat → Nat → Nat) (ct : Nat → ClassId) (A : Nat → Prop) (ex : va_W) (o : Nat) (q : Nat → Nat) (ql qs : Nat) (md : Int32) (qe n : Nat) (y : Nat → Nat) (g : Nat → Int32) (a : Nat → Nat → Int32) (x : Int32) (z : Int32) (k M pn : Nat) (hn6 : n ≤ 6) (ek : x = nI k) (eM : z = nI M) (hkM : k ≤ M) (hM3 : M ≤ 3) (hdp : M ≤ k + 0) (h3 : g 3 = -9) (hF0 : g 31 = 0) (hpf : prf n k pn (a 19)) : Met l yX0_tryFrom (ws_ yX0_tryFrom cX0_tryFrom 5 none) ({ frames := 7, cells := 0, slots := 0, locals := 145 }) (gPre dC dI ct A ex o q (ql, qs, md, qe, n) y g a [.ref o, .int x, .int z]) (va_Qv (fun (u : (Nat → Int32) × (Nat → Nat → Int32)) => ∃ (S : LnS (Nat → Int32)), ∃ (gv : Int32), ∃ (D : Nat → Int32), ∃ (fd : Bool), ∃ (hQ : tfQ (fun r => rowOk n (a 3) (a 4) (fun c => lastsV ((a 2) c) ((a 5) c)) (g 16) M (dg 36 r M)) k M (pn * 36 ^ (M - k)) ((pn + 1) * 36 ^ (M - k)) (a 19) D fd), u = ((upd (upd g 18 gv) 31 (b2i fd)), (va_up (va_up (va_up (va_up (va_up (va_up a 12 S.1) 13 S.2.1) 14 S.2.2.1) 15 S.2.2.2.1) 16 S.2.2.2.2) 19 D))) (gB dC dI ct A ex o q (ql, qs, md, qe, n) y) A) 0 0 A := by
  refine Met.ofW (cc := cX0_tryFrom) (maxL := 5) (ret := none) (by decide) rfl ?_
  intro p e s m args below meth c s₁ B hml hv
  obtain ⟨rfl, hP, hK, hD, hE⟩ := hv
  have hx := B.exec
  have hb := B.bytes
  have hr := B.returns
  have hts := atoms_spec (ws := ws_ yX0_tryFrom cX0_tryFrom 5 none) B.pre
  have hts : ∀ w ∈ lw_all, w.before _ s = true := fun w h => hts w (List.mem_cons_of_mem _ h)
  have hown : s.vm.findClass RX0 = some m.cls := findClass_of_methodNamed B.named
  have hlocks := B.notSynchronized
  have hS : va_S A s.heap s.heap [] := va_S.rf
  have hl := lv_entry ([.ref o, .int x, .int z]) (n := 5) (Nat.le_of_ble_eq_true rfl)
  rw [lg_entry_eq]
  generalize (lg_sl ([.ref o, .int x, .int z]) ++ List.replicate (5 - (lg_sl ([.ref o, .int x, .int z])).length) Slot.unset).toArray = ls at hl ⊢
  have hl : lv_has ls 5 [(0, .ref o), (1, .int x), (2, .int z)] := hl
  subst ek
  subst eM
  refine lv_iload_n hx hb dX0_tryFrom_0 rfl (lv_at hl 1 rfl) ?_
  refine lv_iload_n hx hb dX0_tryFrom_1 rfl (lv_at hl 2 rfl) ?_
  refine lv_icmp_ne (tgt := 39) hx hb dX0_tryFrom_2 (by decide) (fun c_1 => ?_) (fun c_1 => ?_)
  · skip
    exact False.elim (by have z := c_1; exact z (by rw [show k = M by omega]))
  · skip
    have hkM9 : k = M := (nI_eq (by omega) (by omega)).mp c_1
    subst hkM9
    refine lv_aload_n hx hb dX0_tryFrom_5 rfl (lv_at hl 0 rfl) ?_
    refine lv_aload_n hx hb dX0_tryFrom_6 rfl (lv_at hl 0 rfl) ?_
    refine lv_iload_n hx hb dX0_tryFrom_7 rfl (lv_at hl 2 rfl) ?_
    refine va_calli (va_runV (As := [.int (nI k)]) (rest := [.ref o]) ⟨hx, hb, hml, hown, hts⟩ (metX0_goRow l dC dI ct A ex o q ql qs md qe n y g a (nI k) k (dg 36 pn k) hn6 rfl hM3 hpf.2) (cwV 1 hts (lw_V q777 q779 qs30 q69 q780) rfl rfl rfl (by decide +kernel) ⟨Nat.le_of_ble_eq_true rfl, Nat.le_of_ble_eq_true rfl⟩) (gPV hK hP hD hE _) rfl rfl hl.1 rfl (lv_room (Nat.le_of_ble_eq_true rfl)) dX0_tryFrom_8 ⟨Nat.zero_le _, Nat.zero_le _⟩) hS (fun q _ h => h) (fun q h => h) (fun r u t H1 locs ht hvm hw hB hz1 hk1 hS => ?_)
    obtain ⟨hw, hw2⟩ := hw
    have hw : r = (b2i (rgo fuX (laX (g 3) (g 4) (a 2) (a 5)) n (dg 36 pn k) (xbeg n (a 3) ((a 12), (a 13), (a 14), (a 15), (a 16))) k).2) := hw
    subst hw
    subst hw2
    obtain ⟨hP, -, hD⟩ := hB
    rw [ht] at hP
    generalize H1 = H at hP hS ⊢
    have hP : va_P (dC, dI) clA (xG ct o q (ql, qs, md, qe, n) y (upd g 18 (-9)) (va_up (va_up (va_up (va_up (va_up a 12 (((rgo fuX (laX (g 3) (g 4) (a 2) (a 5)) n (dg 36 pn k) (xbeg n (a 3) ((a 12), (a 13), (a 14), (a 15), (a 16))) k).1).1)) 13 (((rgo fuX (laX (g 3) (g 4) (a 2) (a 5)) n (dg 36 pn k) (xbeg n (a 3) ((a 12), (a 13), (a 14), (a 15), (a 16))) k).1).2.1)) 14 (((rgo fuX (laX (g 3) (g 4) (a 2) (a 5)) n (dg 36 pn k) (xbeg n (a 3) ((a 12), (a 13), (a 14), (a 15), (a 16))) k).1).2.2.1)) 15 (((rgo fuX (laX (g 3) (g 4) (a 2) (a 5)) n (dg 36 pn k) (xbeg n (a 3) ((a 12), (a 13), (a 14), (a 15), (a 16))) k).1).2.2.2.1)) 16 (((rgo fuX (laX (g 3) (g 4) (a 2) (a 5)) n (dg 36 pn k) (xbeg n (a 3) ((a 12), (a 13), (a 14), (a 15), (a 16))) k).1).2.2.2.2)) ex) H := hP
    have hD : va_D A (xG ct o q (ql, qs, md, qe, n) y (upd g 18 (-9)) (va_up (va_up (va_up (va_up (va_up a 12 (((rgo fuX (laX (g 3) (g 4) (a 2) (a 5)) n (dg 36 pn k) (xbeg n (a 3) ((a 12), (a 13), (a 14), (a 15), (a 16))) k).1).1)) 13 (((rgo fuX (laX (g 3) (g 4) (a 2) (a 5)) n (dg 36 pn k) (xbeg n (a 3) ((a 12), (a 13), (a 14), (a 15), (a 16))) k).1).2.1)) 14 (((rgo fuX (laX (g 3) (g 4) (a 2) (a 5)) n (dg 36 pn k) (xbeg n (a 3) ((a 12), (a 13), (a 14), (a 15), (a 16))) k).1).2.2.1)) 15 (((rgo fuX (laX (g 3) (g 4) (a 2) (a 5)) n (dg 36 pn k) (xbeg n (a 3) ((a 12), (a 13), (a 14), (a 15), (a 16))) k).1).2.2.2.1)) 16 (((rgo fuX (laX (g 3) (g 4) (a 2) (a 5)) n (dg 36 pn k) (xbeg n (a 3) ((a 12), (a 13), (a 14), (a 15), (a 16))) k).1).2.2.2.2)) ex) := hD
    refine bz_eq (tgt := 34) hx hb dX0_tryFrom_11 (by decide) (fun c_2 => ?_) (fun c_2 => ?_)
    · skip
      refine lv_iconst (v := 0) hx hb dX0_tryFrom_34 (by decide) ?_
      refine lv_topi (fun z_3 ez_3 => ?_)
      have ez_3 : z_3 = (b2i (rowOk n (a 3) (a 4) (fun c => lastsV (a 2 c) (a 5 c)) (g 16) k (dg 36 pn k))) := ez_3.trans (by show _ = b2i (rowOk n (a 3) (a 4) (fun c => lastsV (a 2 c) (a 5 c)) (g 16) k (dg 36 pn k)); rw [← rowOk_x hn6 (fun j hj => laX_9 h3 _ _ _ j (by omega)) (a 12, a 13, a 14, a 15, a 16), c_2]; rfl)
      subst ez_3
      refine g_putz (v := (b2i (rowOk n (a 3) (a 4) (fun c => lastsV (a 2 c) (a 5 c)) (g 16) k (dg 36 pn k)))) hx hb hts hown hK hP hD hS 17 31 (by decide) rfl q166 rfl rfl (by decide +kernel) (b2i_or _) dX0_tryFrom_35 (fun H locs hP hD hS => ?_)
      exact W.vret hx hb hr (fun t ht hW => ⟨⟨((upd (upd g 18 (-9)) 31 (b2i (rowOk n (a 3) (a 4) (fun c => lastsV (a 2 c) (a 5 c)) (g 16) k (dg 36 pn k)))), (va_up (va_up (va_up (va_up (va_up a 12 (((rgo fuX (laX (g 3) (g 4) (a 2) (a 5)) n (dg 36 pn k) (xbeg n (a 3) ((a 12), (a 13), (a 14), (a 15), (a 16))) k).1).1)) 13 (((rgo fuX (laX (g 3) (g 4) (a 2) (a 5)) n (dg 36 pn k) (xbeg n (a 3) ((a 12), (a 13), (a 14), (a 15), (a 16))) k).1).2.1)) 14 (((rgo fuX (laX (g 3) (g 4) (a 2) (a 5)) n (dg 36 pn k) (xbeg n (a 3) ((a 12), (a 13), (a 14), (a 15), (a 16))) k).1).2.2.1)) 15 (((rgo fuX (laX (g 3) (g 4) (a 2) (a 5)) n (dg 36 pn k) (xbeg n (a 3) ((a 12), (a 13), (a 14), (a 15), (a 16))) k).1).2.2.2.1)) 16 (((rgo fuX (laX (g 3) (g 4) (a 2) (a 5)) n (dg 36 pn k) (xbeg n (a 3) ((a 12), (a 13), (a 14), (a 15), (a 16))) k).1).2.2.2.2))), rfl, ⟨((rgo fuX (laX (g 3) (g 4) (a 2) (a 5)) n (dg 36 pn k) (xbeg n (a 3) ((a 12), (a 13), (a 14), (a 15), (a 16))) k).1), (-9), a 19, (fun r => rowOk n (a 3) (a 4) (fun c => lastsV ((a 2) c) ((a 5) c)) (g 16) k (dg 36 r k)) pn, tfQ_leaf (ok := (fun r => rowOk n (a 3) (a 4) (fun c => lastsV ((a 2) c) ((a 5) c)) (g 16) k (dg 36 r k))) hpf, congrArg (Prod.mk _) (va_up_id _ 19).symm⟩, by rw [ht]; exact hP, va_K.moved hW.alike hK, hD⟩, hS.F ht⟩) hS.2.2 dX0_tryFrom_38
    · skip
      refine lv_aload_n hx hb dX0_tryFrom_14 rfl (lv_at hl 0 rfl) ?_
      refine vp_callSi ((va_runV (As := []) (rest := [.ref o]) ⟨hx, hb, hml, hown, hts⟩ (metX0_mended l dC dI ct A ex o q ql qs md qe n y (upd g 18 (-9)) (va_up (va_up (va_up (va_up (va_up a 12 (((rgo fuX (laX (g 3) (g 4) (a 2) (a 5)) n (dg 36 pn k) (xbeg n (a 3) ((a 12), (a 13), (a 14), (a 15), (a 16))) k).1).1)) 13 (((rgo fuX (laX (g 3) (g 4) (a 2) (a 5)) n (dg 36 pn k) (xbeg n (a 3) ((a 12), (a 13), (a 14), (a 15), (a 16))) k).1).2.1)) 14 (((rgo fuX (laX (g 3) (g 4) (a 2) (a 5)) n (dg 36 pn k) (xbeg n (a 3) ((a 12), (a 13), (a 14), (a 15), (a 16))) k).1).2.2.1)) 15 (((rgo fuX (laX (g 3) (g 4) (a 2) (a 5)) n (dg 36 pn k) (xbeg n (a 3) ((a 12), (a 13), (a 14), (a 15), (a 16))) k).1).2.2.2.1)) 16 (((rgo fuX (laX (g 3) (g 4) (a 2) (a 5)) n (dg 36 pn k) (xbeg n (a 3) ((a 12), (a 13), (a 14), (a 15), (a 16))) k).1).2.2.2.2))  hn6) (cwV 0 hts (lw_V q715 q717 qs21 q69 q718) rfl rfl rfl (by decide +kernel) ⟨Nat.le_of_ble_eq_true rfl, Nat.le_of_ble_eq_true rfl⟩) (gPV hK hP hD hE _) rfl rfl hl.1 rfl (lv_room (Nat.le_of_ble_eq_true rfl)) dX0_tryFrom_15 ⟨Nat.zero_le _, Nat.zero_le _⟩)).run (fun r hw => ?_)
      have hw : r = (mset (fun p => isMend ((a 4) p) (((rgo fuX (laX (g 3) (g 4) (a 2) (a 5)) n (dg 36 pn k) (xbeg n (a 3) ((a 12), (a 13), (a 14), (a 15), (a 16))) k).1).2.2.2.1 p)) n) := hw
      subst hw
      refine lv_aload_n hx hb dX0_tryFrom_18 rfl (lv_at hl 0 rfl) ?_
      refine g_get (v := .int (g 16)) hx hb hts hown hK hP 16 (by decide) rfl q165 rfl dX0_tryFrom_19 ?_
      refine lv_iand hx hb dX0_tryFrom_22 ?_
      refine lv_aload_n hx hb dX0_tryFrom_23 rfl (lv_at hl 0 rfl) ?_
      refine g_get (v := .int (g 16)) hx hb hts hown hK hP 16 (by decide) rfl q165 rfl dX0_tryFrom_24 ?_
      refine lv_icmp_ne (tgt := 34) hx hb dX0_tryFrom_27 (by decide) (fun c_4 => ?_) (fun c_4 => ?_)
      · skip
        refine lv_iconst (v := 0) hx hb dX0_tryFrom_34 (by decide) ?_
        refine lv_topi (fun z_5 ez_5 => ?_)
        have ez_5 : z_5 = (b2i (rowOk n (a 3) (a 4) (fun c => lastsV (a 2 c) (a 5 c)) (g 16) k (dg 36 pn k))) := ez_5.trans (by show _ = b2i (rowOk n (a 3) (a 4) (fun c => lastsV (a 2 c) (a 5 c)) (g 16) k (dg 36 pn k)); rw [← rowOk_x hn6 (fun j hj => laX_9 h3 _ _ _ j (by omega)) (a 12, a 13, a 14, a 15, a 16), c_2, Bool.true_and]; exact (congrArg b2i (decide_eq_false c_4)).symm)
        subst ez_5
        refine g_putz (v := (b2i (rowOk n (a 3) (a 4) (fun c => lastsV (a 2 c) (a 5 c)) (g 16) k (dg 36 pn k)))) hx hb hts hown hK hP hD hS 17 31 (by decide) rfl q166 rfl rfl (by decide +kernel) (b2i_or _) dX0_tryFrom_35 (fun H locs hP hD hS => ?_)
        exact W.vret hx hb hr (fun t ht hW => ⟨⟨((upd (upd g 18 (-9)) 31 (b2i (rowOk n (a 3) (a 4) (fun c => lastsV (a 2 c) (a 5 c)) (g 16) k (dg 36 pn k)))), (va_up (va_up (va_up (va_up (va_up a 12 (((rgo fuX (laX (g 3) (g 4) (a 2) (a 5)) n (dg 36 pn k) (xbeg n (a 3) ((a 12), (a 13), (a 14), (a 15), (a 16))) k).1).1)) 13 (((rgo fuX (laX (g 3) (g 4) (a 2) (a 5)) n (dg 36 pn k) (xbeg n (a 3) ((a 12), (a 13), (a 14), (a 15), (a 16))) k).1).2.1)) 14 (((rgo fuX (laX (g 3) (g 4) (a 2) (a 5)) n (dg 36 pn k) (xbeg n (a 3) ((a 12), (a 13), (a 14), (a 15), (a 16))) k).1).2.2.1)) 15 (((rgo fuX (laX (g 3) (g 4) (a 2) (a 5)) n (dg 36 pn k) (xbeg n (a 3) ((a 12), (a 13), (a 14), (a 15), (a 16))) k).1).2.2.2.1)) 16 (((rgo fuX (laX (g 3) (g 4) (a 2) (a 5)) n (dg 36 pn k) (xbeg n (a 3) ((a 12), (a 13), (a 14), (a 15), (a 16))) k).1).2.2.2.2))), rfl, ⟨((rgo fuX (laX (g 3) (g 4) (a 2) (a 5)) n (dg 36 pn k) (xbeg n (a 3) ((a 12), (a 13), (a 14), (a 15), (a 16))) k).1), (-9), a 19, (fun r => rowOk n (a 3) (a 4) (fun c => lastsV ((a 2) c) ((a 5) c)) (g 16) k (dg 36 r k)) pn, tfQ_leaf (ok := (fun r => rowOk n (a 3) (a 4) (fun c => lastsV ((a 2) c) ((a 5) c)) (g 16) k (dg 36 r k))) hpf, congrArg (Prod.mk _) (va_up_id _ 19).symm⟩, by rw [ht]; exact hP, va_K.moved hW.alike hK, hD⟩, hS.F ht⟩) hS.2.2 dX0_tryFrom_38
      · skip
        refine lv_iconst (v := 1) hx hb dX0_tryFrom_30 (by decide) ?_
        refine lv_goto (tgt := 35) hx hb dX0_tryFrom_31 (by decide) ?_
        refine lv_topi (fun z_6 ez_6 => ?_)
        have ez_6 : z_6 = (b2i (rowOk n (a 3) (a 4) (fun c => lastsV (a 2 c) (a 5 c)) (g 16) k (dg 36 pn k))) := ez_6.trans (by show _ = b2i (rowOk n (a 3) (a 4) (fun c => lastsV (a 2 c) (a 5 c)) (g 16) k (dg 36 pn k)); rw [← rowOk_x hn6 (fun j hj => laX_9 h3 _ _ _ j (by omega)) (a 12, a 13, a 14, a 15, a 16), c_2, Bool.true_and]; exact (congrArg b2i (decide_eq_true c_4)).symm)
        subst ez_6
        refine g_putz (v := (b2i (rowOk n (a 3) (a 4) (fun c => lastsV (a 2 c) (a 5 c)) (g 16) k (dg 36 pn k)))) hx hb hts hown hK hP hD hS 17 31 (by decide) rfl q166 rfl rfl (by decide +kernel) (b2i_or _) dX0_tryFrom_35 (fun H locs hP hD hS => ?_)
        exact W.vret hx hb hr (fun t ht hW => ⟨⟨((upd (upd g 18 (-9)) 31 (b2i (rowOk n (a 3) (a 4) (fun c => lastsV (a 2 c) (a 5 c)) (g 16) k (dg 36 pn k)))), (va_up (va_up (va_up (va_up (va_up a 12 (((rgo fuX (laX (g 3) (g 4) (a 2) (a 5)) n (dg 36 pn k) (xbeg n (a 3) ((a 12), (a 13), (a 14), (a 15), (a 16))) k).1).1)) 13 (((rgo fuX (laX (g 3) (g 4) (a 2) (a 5)) n (dg 36 pn k) (xbeg n (a 3) ((a 12), (a 13), (a 14), (a 15), (a 16))) k).1).2.1)) 14 (((rgo fuX (laX (g 3) (g 4) (a 2) (a 5)) n (dg 36 pn k) (xbeg n (a 3) ((a 12), (a 13), (a 14), (a 15), (a 16))) k).1).2.2.1)) 15 (((rgo fuX (laX (g 3) (g 4) (a 2) (a 5)) n (dg 36 pn k) (xbeg n (a 3) ((a 12), (a 13), (a 14), (a 15), (a 16))) k).1).2.2.2.1)) 16 (((rgo fuX (laX (g 3) (g 4) (a 2) (a 5)) n (dg 36 pn k) (xbeg n (a 3) ((a 12), (a 13), (a 14), (a 15), (a 16))) k).1).2.2.2.2))), rfl, ⟨((rgo fuX (laX (g 3) (g 4) (a 2) (a 5)) n (dg 36 pn k) (xbeg n (a 3) ((a 12), (a 13), (a 14), (a 15), (a 16))) k).1), (-9), a 19, (fun r => rowOk n (a 3) (a 4) (fun c => lastsV ((a 2) c) ((a 5) c)) (g 16) k (dg 36 r k)) pn, tfQ_leaf (ok := (fun r => rowOk n (a 3) (a 4) (fun c => lastsV ((a 2) c) ((a 5) c)) (g 16) k (dg 36 r k))) hpf, congrArg (Prod.mk _) (va_up_id _ 19).symm⟩, by rw [ht]; exact hP, va_K.moved hW.alike hK, hD⟩, hS.F ht⟩) hS.2.2 dX0_tryFrom_38
set_option maxHeartbeats 4000000 in
set_option maxRecDepth 100000 in
theorem metX0_tryFrom_1 (l : Launch) (dC : Nat → ClassId) (dI : Nat → Nat → Nat) (ct : Nat → ClassId) (A : Nat → Prop) (ex : va_W) (o : Nat) (q : Nat → Nat) (ql qs : Nat) (md : Int32) (qe n : Nat) (y : Nat → Nat) (g : Nat → Int32) (a : Nat → Nat → Int32) (x : Int32) (z : Int32) (k M pn : Nat) (hn6 : n ≤ 6) (ek : x = nI k) (eM : z = nI M) (hkM : k ≤ M) (hM3 : M ≤ 3) (hdp : M ≤ k + 1) (h3 : g 3 = -9) (hF0 : g 31 = 0) (hpf : prf n k pn (a 19)) : Met l yX0_tryFrom (ws_ yX0_tryFrom cX0_tryFrom 5 none) ({ frames := 8, cells := 0, slots := 0, locals := 169 }) (gPre dC dI ct A ex o q (ql, qs, md, qe, n) y g a [.ref o, .int x, .int z]) (va_Qv (fun (u : (Nat → Int32) × (Nat → Nat → Int32)) => ∃ (S : LnS (Nat → Int32)), ∃ (gv : Int32), ∃ (D : Nat → Int32), ∃ (fd : Bool), ∃ (hQ : tfQ (fun r => rowOk n (a 3) (a 4) (fun c => lastsV ((a 2) c) ((a 5) c)) (g 16) M (dg 36 r M)) k M (pn * 36 ^ (M - k)) ((pn + 1) * 36 ^ (M - k)) (a 19) D fd), u = ((upd (upd g 18 gv) 31 (b2i fd)), (va_up (va_up (va_up (va_up (va_up (va_up a 12 S.1) 13 S.2.1) 14 S.2.2.1) 15 S.2.2.2.1) 16 S.2.2.2.2) 19 D))) (gB dC dI ct A ex o q (ql, qs, md, qe, n) y) A) 0 0 A := by
  refine Met.ofW (cc := cX0_tryFrom) (maxL := 5) (ret := none) (by decide) rfl ?_
  intro p e s m args below meth c s₁ B hml hv
  obtain ⟨rfl, hP, hK, hD, hE⟩ := hv
  have hx := B.exec
  have hb := B.bytes
  have hr := B.returns
  have hts := atoms_spec (ws := ws_ yX0_tryFrom cX0_tryFrom 5 none) B.pre
  have hts : ∀ w ∈ lw_all, w.before _ s = true := fun w h => hts w (List.mem_cons_of_mem _ h)
  have hown : s.vm.findClass RX0 = some m.cls := findClass_of_methodNamed B.named
  have hlocks := B.notSynchronized
  have hS : va_S A s.heap s.heap [] := va_S.rf
  have hl := lv_entry ([.ref o, .int x, .int z]) (n := 5) (Nat.le_of_ble_eq_true rfl)
  rw [lg_entry_eq]
  generalize (lg_sl ([.ref o, .int x, .int z]) ++ List.replicate (5 - (lg_sl ([.ref o, .int x, .int z])).length) Slot.unset).toArray = ls at hl ⊢
  have hl : lv_has ls 5 [(0, .ref o), (1, .int x), (2, .int z)] := hl
  subst ek
  subst eM
  refine lv_iload_n hx hb dX0_tryFrom_0 rfl (lv_at hl 1 rfl) ?_
  refine lv_iload_n hx hb dX0_tryFrom_1 rfl (lv_at hl 2 rfl) ?_
  refine lv_icmp_ne (tgt := 39) hx hb dX0_tryFrom_2 (by decide) (fun c_1 => ?_) (fun c_1 => ?_)
  · skip
    have hkM2 : k < M := Nat.lt_of_le_of_ne hkM (fun z => c_1 (by rw [z]))
    refine lv_iconst (v := 0) hx hb dX0_tryFrom_39 (by decide) ?_
    refine lv_istore_n (lv' := [(3, .int 0), (0, .ref o), (1, .int (nI k)), (2, .int (nI M))]) hx hb dX0_tryFrom_40 rfl hl (by decide) rfl (fun ls hl => ?_)
    have loop1 : ∀ (f1 : Nat) (v : Nat) (S : LnS (Nat → Int32)) (gv : Int32) (D : Nat → Int32) (fd : Bool), (v ≤ n) → (n + 1 ≤ v + f1) → (tfQ (fun r => rowOk n (a 3) (a 4) (fun c => lastsV ((a 2) c) ((a 5) c)) (g 16) M (dg 36 r M)) k M ((36 * pn + 0) * 36 ^ (M - (k + 1))) ((36 * pn + 6 * v) * 36 ^ (M - (k + 1))) (a 19) D fd) → ∀ (H : Heap) (locs : List Loc), va_P (dC, dI) clA (xG ct o q (ql, qs, md, qe, n) y (upd (upd g 18 gv) 31 (b2i fd)) (va_up (va_up (va_up (va_up (va_up (va_up a 12 S.1) 13 S.2.1) 14 S.2.2.1) 15 S.2.2.2.1) 16 S.2.2.2.2) 19 D) ex) H → va_D A (xG ct o q (ql, qs, md, qe, n) y (upd (upd g 18 gv) 31 (b2i fd)) (va_up (va_up (va_up (va_up (va_up (va_up a 12 S.1) 13 S.2.1) 14 S.2.2.1) 15 S.2.2.2.1) 16 S.2.2.2.2) 19 D) ex) → va_S A s.heap H locs → ∀ (ls : Array Slot), lv_has ls 5 [(3, .int (nI v)), (2, .int (nI M)), (1, .int (nI k)), (0, .ref o)] → W p l e (headSpec (ws_ yX0_tryFrom cX0_tryFrom 5 none) ({ frames := 8, cells := 0, slots := 0, locals := 169 })).room s m ([.ref o, .int (nI k), .int (nI M)] : List Value).toArray below meth c H locs 0 0 (MQ below (va_Qv (fun (u : (Nat → Int32) × (Nat → Nat → Int32)) => ∃ (S : LnS (Nat → Int32)), ∃ (gv : Int32), ∃ (D : Nat → Int32), ∃ (fd : Bool), ∃ (hQ : tfQ (fun r => rowOk n (a 3) (a 4) (fun c => lastsV ((a 2) c) ((a 5) c)) (g 16) M (dg 36 r M)) k M (pn * 36 ^ (M - k)) ((pn + 1) * 36 ^ (M - k)) (a 19) D fd), u = ((upd (upd g 18 gv) 31 (b2i fd)), (va_up (va_up (va_up (va_up (va_up (va_up a 12 S.1) 13 S.2.1) 14 S.2.2.1) 15 S.2.2.2.1) 16 S.2.2.2.2) 19 D))) (gB dC dI ct A ex o q (ql, qs, md, qe, n) y) A) ([.ref o, .int (nI k), .int (nI M)] : List Value).toArray s 0 0 A) (F0 m 41 ls []) := by
      intro f1
      induction f1 with
      | zero => intro v S gv D fd hv hf hQ1; exact False.elim (by omega)
      | succ f1 ih1 =>
        intro v S gv D fd hv hf hQ1 H locs hP hD hS ls hl
        refine lv_iload_n hx hb dX0_tryFrom_41 rfl (lv_at hl 0 rfl) ?_
        refine lv_aload_n hx hb dX0_tryFrom_42 rfl (lv_at hl 3 rfl) ?_
        refine vp_callSi ((va_runV (As := []) (rest := [.int (nI v)]) ⟨hx, hb, hml, hown, hts⟩ (metX0_people l dC dI ct A (peW ct o qe n y (va_up (va_up (va_up (va_up (va_up (va_up a 12 S.1) 13 S.2.1) 14 S.2.2.1) 15 S.2.2.2.1) 16 S.2.2.2.2) 19 D) ++ ex) o q ql qs md qe n (upd (upd g 18 gv) 31 (b2i fd)) (va_up (va_up (va_up (va_up (va_up (va_up a 12 S.1) 13 S.2.1) 14 S.2.2.1) 15 S.2.2.2.1) 16 S.2.2.2.2) 19 D)  ) (cwV 0 hts (lw_V q593 q595 qs14 q69 q596) rfl rfl rfl (by decide +kernel) ⟨Nat.le_of_ble_eq_true rfl, Nat.le_of_ble_eq_true rfl⟩) (xPV hK hP hD hE _) rfl rfl hl.1 rfl (lv_room (Nat.le_of_ble_eq_true rfl)) dX0_tryFrom_43 ⟨Nat.zero_le _, Nat.zero_le _⟩)).run (fun r hw => ?_)
        have hw : r = (nI n) := hw
        subst hw
        refine lv_icmp_ge (tgt := 104) hx hb dX0_tryFrom_46 (by decide) (fun c_2 => ?_) (fun c_2 => ?_)
        · skip
          have hge : v = n := by exact Nat.le_antisymm (by omega) ((nI_leI (by omega) (by omega)).mp c_2)
          exact W.vret hx hb hr (fun t ht hW => ⟨⟨((upd (upd g 18 gv) 31 (b2i fd)), (va_up (va_up (va_up (va_up (va_up (va_up a 12 S.1) 13 S.2.1) 14 S.2.2.1) 15 S.2.2.2.1) 16 S.2.2.2.2) 19 D)), rfl, ⟨S, gv, D, fd, tfQ_lo (tfQ_ext hQ1 (nk_bad hkM2 (6 * v) 36 (by omega) (fun z h1 h2 h4 => by omega))) (lo_eq hkM2) (hi_eq hkM2), rfl⟩, by rw [ht]; exact hP, va_K.moved hW.alike hK, hD⟩, hS.F ht⟩) hS.2.2 dX0_tryFrom_104
        · skip
          have hlt : v < n := by exact Nat.lt_of_not_le (fun z => c_2 ((nI_leI (by omega) (by omega)).mpr z))
          refine lv_iload_n hx hb dX0_tryFrom_49 rfl (lv_at hl 0 rfl) ?_
          refine lv_iconst (v := 1) hx hb dX0_tryFrom_50 (by decide) ?_
          refine lv_iadd hx hb dX0_tryFrom_51 ?_
          refine lv_topi (fun z_3 ez_3 => ?_)
          have ez_3 : z_3 = (nI (v + 1)) := ez_3.trans (nI_1 v)
          subst ez_3
          refine lv_istore (lv' := [(4, .int (nI (v + 1))), (3, .int (nI v)), (2, .int (nI M)), (1, .int (nI k)), (0, .ref o)]) hx hb dX0_tryFrom_52 hl (by decide) rfl (fun ls hl => ?_)
          have loop2 : ∀ (f2 : Nat) (w1 : Nat) (S : LnS (Nat → Int32)) (gv : Int32) (D : Nat → Int32) (fd : Bool), (w1 ≤ n) → (v < w1) → (n + 1 ≤ w1 + f2) → (tfQ (fun r => rowOk n (a 3) (a 4) (fun c => lastsV ((a 2) c) ((a 5) c)) (g 16) M (dg 36 r M)) k M ((36 * pn + 0) * 36 ^ (M - (k + 1))) ((36 * pn + (6 * v + w1)) * 36 ^ (M - (k + 1))) (a 19) D fd) → ∀ (H : Heap) (locs : List Loc), va_P (dC, dI) clA (xG ct o q (ql, qs, md, qe, n) y (upd (upd g 18 gv) 31 (b2i fd)) (va_up (va_up (va_up (va_up (va_up (va_up a 12 S.1) 13 S.2.1) 14 S.2.2.1) 15 S.2.2.2.1) 16 S.2.2.2.2) 19 D) ex) H → va_D A (xG ct o q (ql, qs, md, qe, n) y (upd (upd g 18 gv) 31 (b2i fd)) (va_up (va_up (va_up (va_up (va_up (va_up a 12 S.1) 13 S.2.1) 14 S.2.2.1) 15 S.2.2.2.1) 16 S.2.2.2.2) 19 D) ex) → va_S A s.heap H locs → ∀ (ls : Array Slot), lv_has ls 5 [(4, .int (nI w1)), (3, .int (nI v)), (2, .int (nI M)), (1, .int (nI k)), (0, .ref o)] → W p l e (headSpec (ws_ yX0_tryFrom cX0_tryFrom 5 none) ({ frames := 8, cells := 0, slots := 0, locals := 169 })).room s m ([.ref o, .int (nI k), .int (nI M)] : List Value).toArray below meth c H locs 0 0 (MQ below (va_Qv (fun (u : (Nat → Int32) × (Nat → Nat → Int32)) => ∃ (S : LnS (Nat → Int32)), ∃ (gv : Int32), ∃ (D : Nat → Int32), ∃ (fd : Bool), ∃ (hQ : tfQ (fun r => rowOk n (a 3) (a 4) (fun c => lastsV ((a 2) c) ((a 5) c)) (g 16) M (dg 36 r M)) k M (pn * 36 ^ (M - k)) ((pn + 1) * 36 ^ (M - k)) (a 19) D fd), u = ((upd (upd g 18 gv) 31 (b2i fd)), (va_up (va_up (va_up (va_up (va_up (va_up a 12 S.1) 13 S.2.1) 14 S.2.2.1) 15 S.2.2.2.1) 16 S.2.2.2.2) 19 D))) (gB dC dI ct A ex o q (ql, qs, md, qe, n) y) A) ([.ref o, .int (nI k), .int (nI M)] : List Value).toArray s 0 0 A) (F0 m 54 ls []) := by
            intro f2
            induction f2 with
            | zero => intro w1 S gv D fd hw1 hvw hf2 hQ2; exact False.elim (by omega)
            | succ f2 ih2 =>
              intro w1 S gv D fd hw1 hvw hf2 hQ2 H locs hP hD hS ls hl
              refine lv_iload hx hb dX0_tryFrom_54 (lv_at hl 0 rfl) ?_
              refine lv_aload_n hx hb dX0_tryFrom_56 rfl (lv_at hl 4 rfl) ?_
              refine vp_callSi ((va_runV (As := []) (rest := [.int (nI w1)]) ⟨hx, hb, hml, hown, hts⟩ (metX0_people l dC dI ct A (peW ct o qe n y (va_up (va_up (va_up (va_up (va_up (va_up a 12 S.1) 13 S.2.1) 14 S.2.2.1) 15 S.2.2.2.1) 16 S.2.2.2.2) 19 D) ++ ex) o q ql qs md qe n (upd (upd g 18 gv) 31 (b2i fd)) (va_up (va_up (va_up (va_up (va_up (va_up a 12 S.1) 13 S.2.1) 14 S.2.2.1) 15 S.2.2.2.1) 16 S.2.2.2.2) 19 D)  ) (cwV 0 hts (lw_V q593 q595 qs14 q69 q596) rfl rfl rfl (by decide +kernel) ⟨Nat.le_of_ble_eq_true rfl, Nat.le_of_ble_eq_true rfl⟩) (xPV hK hP hD hE _) rfl rfl hl.1 rfl (lv_room (Nat.le_of_ble_eq_true rfl)) dX0_tryFrom_57 ⟨Nat.zero_le _, Nat.zero_le _⟩)).run (fun r hw => ?_)
              have hw : r = (nI n) := hw
              subst hw
              refine lv_icmp_ge (tgt := 98) hx hb dX0_tryFrom_60 (by decide) (fun c_4 => ?_) (fun c_4 => ?_)
              · skip
                have hge2 : w1 = n := by exact Nat.le_antisymm (by omega) ((nI_leI (by omega) (by omega)).mp c_4)
                refine lv_iinc (v := (nI (v + 1))) (lv' := [(3, .int (nI (v + 1))), (4, .int (nI w1)), (2, .int (nI M)), (1, .int (nI k)), (0, .ref o)]) hx hb dX0_tryFrom_98 hl (k := 1) rfl (nI_1 v) (by decide) rfl (fun ls hl => ?_)
                refine lv_goto (tgt := 41) hx hb dX0_tryFrom_101 (by decide) ?_
                exact ih1 (v + 1) S gv D fd (by omega) (by omega) (tfQ_ext hQ2 (nk_bad hkM2 (6 * v + w1) (6 * (v + 1)) (by omega) (fun z h1 h2 h4 => by omega))) _ _ hP hD hS _ (lv_sub hl [0, 2, 3, 4] rfl)
              · skip
                have hlt2 : w1 < n := by exact Nat.lt_of_not_le (fun z => c_4 ((nI_leI (by omega) (by omega)).mpr z))
                refine lv_aload_n hx hb dX0_tryFrom_63 rfl (lv_at hl 4 rfl) ?_
                refine g_get (v := .int (b2i fd)) hx hb hts hown hK hP 17 (by decide) rfl q166 rfl dX0_tryFrom_64 ?_
                refine bz_eq (tgt := 71) hx hb dX0_tryFrom_67 (by decide) (fun c_5 => ?_) (fun c_5 => ?_)
                · skip
                  refine lv_aload_n hx hb dX0_tryFrom_71 rfl (lv_at hl 4 rfl) ?_
                  refine g_get (v := .ref (q 19)) hx hb hts hown hK hP 15 (by decide) rfl q164 rfl dX0_tryFrom_72 ?_
                  refine lv_iload_n hx hb dX0_tryFrom_75 rfl (lv_at hl 3 rfl) ?_
                  refine lv_bipush (v := 10) hx hb dX0_tryFrom_76 (by decide) ?_
                  refine lv_iload_n hx hb dX0_tryFrom_78 rfl (lv_at hl 1 rfl) ?_
                  refine lv_imul hx hb dX0_tryFrom_79 ?_
                  refine lv_iload hx hb dX0_tryFrom_80 (lv_at hl 0 rfl) ?_
                  refine lv_iadd hx hb dX0_tryFrom_82 ?_
                  refine lv_topi (fun z_6 ez_6 => ?_)
                  have ez_6 : z_6 = (nI (10 * v + w1)) := ez_6.trans (ten_add v w1)
                  subst ez_6
                  refine g_ist (x := (nI (10 * v + w1))) hx hb hK hP hD hS (gWa19 _ _ _ _ _ _ _ _ _ _ _ _) (gWs19 _ _ _ _ _ _ _ _ _ _ _ _) D rfl k rfl (by omega) (by decide) dX0_tryFrom_83 (fun H locs hP hD hS => ?_)
                  have eW_7 : ∀ (zg18 : Int32) (zg31 : Int32) (za12 : Nat → Int32) (za13 : Nat → Int32) (za14 : Nat → Int32) (za15 : Nat → Int32) (za16 : Nat → Int32) (za19 : Nat → Int32) (zn : Nat → Int32), xG ct o q (ql, qs, md, qe, n) y (upd (upd g 18 zg18) 31 zg31) (va_up (va_up (va_up (va_up (va_up (va_up (va_up a 12 za12) 13 za13) 14 za14) 15 za15) 16 za16) 19 za19) 19 zn) ex = xG ct o q (ql, qs, md, qe, n) y (upd (upd g 18 zg18) 31 zg31) (va_up (va_up (va_up (va_up (va_up (va_up a 12 za12) 13 za13) 14 za14) 15 za15) 16 za16) 19 zn) ex := fun _ _ _ _ _ _ _ _ _ => rfl
                  have hP : va_P (dC, dI) clA (xG ct o q (ql, qs, md, qe, n) y (upd (upd g 18 gv) 31 (b2i fd)) (va_up (va_up (va_up (va_up (va_up (va_up a 12 S.1) 13 S.2.1) 14 S.2.2.1) 15 S.2.2.2.1) 16 S.2.2.2.2) 19 (upd D k (nI (10 * v + w1)))) ex) H := Eq.mp (congrArg (fun w => va_P (dC, dI) clA w H) (eW_7 gv (b2i fd) S.1 S.2.1 S.2.2.1 S.2.2.2.1 S.2.2.2.2 D (upd D k (nI (10 * v + w1))))) hP
                  have hD : va_D A (xG ct o q (ql, qs, md, qe, n) y (upd (upd g 18 gv) 31 (b2i fd)) (va_up (va_up (va_up (va_up (va_up (va_up a 12 S.1) 13 S.2.1) 14 S.2.2.1) 15 S.2.2.2.1) 16 S.2.2.2.2) 19 (upd D k (nI (10 * v + w1)))) ex) := Eq.mp (congrArg (fun w => va_D A w) (eW_7 gv (b2i fd) S.1 S.2.1 S.2.2.1 S.2.2.2.1 S.2.2.2.2 D (upd D k (nI (10 * v + w1))))) hD
                  refine lv_aload_n hx hb dX0_tryFrom_84 rfl (lv_at hl 4 rfl) ?_
                  refine lv_iload_n hx hb dX0_tryFrom_85 rfl (lv_at hl 3 rfl) ?_
                  refine lv_iconst (v := 1) hx hb dX0_tryFrom_86 (by decide) ?_
                  refine lv_iadd hx hb dX0_tryFrom_87 ?_
                  refine lv_iload_n hx hb dX0_tryFrom_88 rfl (lv_at hl 2 rfl) ?_
                  refine va_callv (va_runV (As := [.int ((nI k) + 1), .int (nI M)]) (rest := []) ⟨hx, hb, hml, hown, hts⟩ (metX0_tryFrom_0 l dC dI ct A ex o q ql qs md qe n y (upd (upd g 18 gv) 31 (b2i fd)) (va_up (va_up (va_up (va_up (va_up (va_up a 12 S.1) 13 S.2.1) 14 S.2.2.1) 15 S.2.2.2.1) 16 S.2.2.2.2) 19 (upd D k (nI (10 * v + w1)))) ((nI k) + 1) (nI M) (k + 1) M (36 * pn + (6 * v + w1)) hn6 (nI_1 k) rfl (by omega) hM3 (by omega) h3 (by show b2i fd = 0; rw [c_5]; rfl) (prf_app hn6 hpf (by rw [c_5] at hQ2; exact (tfQ_f hQ2).2) hvw hlt2)) (cwV 2 hts (lw_V q773 q775 qs29 q69 q776) rfl rfl rfl (by decide +kernel) ⟨Nat.le_of_ble_eq_true rfl, Nat.le_of_ble_eq_true rfl⟩) (gPV hK hP hD hE _) rfl rfl hl.1 rfl (lv_room (Nat.le_of_ble_eq_true rfl)) dX0_tryFrom_89 ⟨Nat.zero_le _, Nat.zero_le _⟩) hS (fun q _ h => h) (fun q h => h) (fun u t H1 locs ht hvm hw hB hz1 hk1 hS => ?_)
                  obtain ⟨S_8, gv_9, D_10, fd_11, hQ_12, hw⟩ := hw
                  subst hw
                  obtain ⟨hP, -, hD⟩ := hB
                  rw [ht] at hP
                  generalize H1 = H at hP hS ⊢
                  have hP : va_P (dC, dI) clA (xG ct o q (ql, qs, md, qe, n) y (upd (upd g 18 gv_9) 31 (b2i fd_11)) (va_up (va_up (va_up (va_up (va_up (va_up a 12 S_8.1) 13 S_8.2.1) 14 S_8.2.2.1) 15 S_8.2.2.2.1) 16 S_8.2.2.2.2) 19 D_10) ex) H := hP
                  have hD : va_D A (xG ct o q (ql, qs, md, qe, n) y (upd (upd g 18 gv_9) 31 (b2i fd_11)) (va_up (va_up (va_up (va_up (va_up (va_up a 12 S_8.1) 13 S_8.2.1) 14 S_8.2.2.1) 15 S_8.2.2.2.1) 16 S_8.2.2.2.2) 19 D_10) ex) := hD
                  refine lv_iinc (v := (nI (w1 + 1))) (lv' := [(4, .int (nI (w1 + 1))), (3, .int (nI v)), (2, .int (nI M)), (1, .int (nI k)), (0, .ref o)]) hx hb dX0_tryFrom_92 hl (k := 0) rfl (nI_1 w1) (by decide) rfl (fun ls hl => ?_)
                  refine lv_goto (tgt := 54) hx hb dX0_tryFrom_95 (by decide) ?_
                  exact ih2 (w1 + 1) S_8 gv_9 D_10 fd_11 (by omega) (by omega) (by omega) (tfQ_rec c_5 hQ2 (Nat.mul_le_mul_right _ (by omega)) hQ_12 (congrArg (fun z => z * 36 ^ (M - (k + 1))) (by omega))) _ _ hP hD hS _ (lv_sub hl [0, 1, 2, 3, 4] rfl)
                · skip
                  exact W.vret hx hb hr (fun t ht hW => ⟨⟨((upd (upd g 18 gv) 31 (b2i fd)), (va_up (va_up (va_up (va_up (va_up (va_up a 12 S.1) 13 S.2.1) 14 S.2.2.1) 15 S.2.2.2.1) 16 S.2.2.2.2) 19 D)), rfl, ⟨S, gv, D, fd, tfQ_lo (tfQ_all c_5 hQ2) (lo_eq hkM2) rfl, rfl⟩, by rw [ht]; exact hP, va_K.moved hW.alike hK, hD⟩, hS.F ht⟩) hS.2.2 dX0_tryFrom_70
          exact loop2 (n + 1) (v + 1) S gv D fd (by omega) (by omega) (by omega) (tfQ_ext hQ1 (nk_bad hkM2 (6 * v) (6 * v + (v + 1)) (by omega) (fun z h1 h2 h4 => by omega))) _ _ hP hD hS _ (lv_sub hl [0, 1, 2, 3, 4] rfl)
    exact loop1 (n + 1) 0 (a 12, a 13, a 14, a 15, a 16) (g 18) (a 19) false (by omega) (by omega) (by unfold tfQ; rw [if_neg (by decide)]; exact ⟨fun r h1 h2 => absurd (Nat.lt_of_le_of_lt h1 h2) (Nat.lt_irrefl _), fun _ _ => rfl⟩) _ _ (by rw [show b2i false = g 31 from hF0.symm]; exact hP) (by rw [show b2i false = g 31 from hF0.symm]; exact hD) hS _ (lv_sub hl [0, 3, 2, 1] rfl)
  · skip
    have hkM9 : k = M := (nI_eq (by omega) (by omega)).mp c_1
    subst hkM9
    refine lv_aload_n hx hb dX0_tryFrom_5 rfl (lv_at hl 0 rfl) ?_
    refine lv_aload_n hx hb dX0_tryFrom_6 rfl (lv_at hl 0 rfl) ?_
    refine lv_iload_n hx hb dX0_tryFrom_7 rfl (lv_at hl 2 rfl) ?_
    refine va_calli (va_runV (As := [.int (nI k)]) (rest := [.ref o]) ⟨hx, hb, hml, hown, hts⟩ (metX0_goRow l dC dI ct A ex o q ql qs md qe n y g a (nI k) k (dg 36 pn k) hn6 rfl hM3 hpf.2) (cwV 1 hts (lw_V q777 q779 qs30 q69 q780) rfl rfl rfl (by decide +kernel) ⟨Nat.le_of_ble_eq_true rfl, Nat.le_of_ble_eq_true rfl⟩) (gPV hK hP hD hE _) rfl rfl hl.1 rfl (lv_room (Nat.le_of_ble_eq_true rfl)) dX0_tryFrom_8 ⟨Nat.zero_le _, Nat.zero_le _⟩) hS (fun q _ h => h) (fun q h => h) (fun r u t H1 locs ht hvm hw hB hz1 hk1 hS => ?_)
    obtain ⟨hw, hw2⟩ := hw
    have hw : r = (b2i (rgo fuX (laX (g 3) (g 4) (a 2) (a 5)) n (dg 36 pn k) (xbeg n (a 3) ((a 12), (a 13), (a 14), (a 15), (a 16))) k).2) := hw
    subst hw
    subst hw2
    obtain ⟨hP, -, hD⟩ := hB
    rw [ht] at hP
    generalize H1 = H at hP hS ⊢
    have hP : va_P (dC, dI) clA (xG ct o q (ql, qs, md, qe, n) y (upd g 18 (-9)) (va_up (va_up (va_up (va_up (va_up a 12 (((rgo fuX (laX (g 3) (g 4) (a 2) (a 5)) n (dg 36 pn k) (xbeg n (a 3) ((a 12), (a 13), (a 14), (a 15), (a 16))) k).1).1)) 13 (((rgo fuX (laX (g 3) (g 4) (a 2) (a 5)) n (dg 36 pn k) (xbeg n (a 3) ((a 12), (a 13), (a 14), (a 15), (a 16))) k).1).2.1)) 14 (((rgo fuX (laX (g 3) (g 4) (a 2) (a 5)) n (dg 36 pn k) (xbeg n (a 3) ((a 12), (a 13), (a 14), (a 15), (a 16))) k).1).2.2.1)) 15 (((rgo fuX (laX (g 3) (g 4) (a 2) (a 5)) n (dg 36 pn k) (xbeg n (a 3) ((a 12), (a 13), (a 14), (a 15), (a 16))) k).1).2.2.2.1)) 16 (((rgo fuX (laX (g 3) (g 4) (a 2) (a 5)) n (dg 36 pn k) (xbeg n (a 3) ((a 12), (a 13), (a 14), (a 15), (a 16))) k).1).2.2.2.2)) ex) H := hP
    have hD : va_D A (xG ct o q (ql, qs, md, qe, n) y (upd g 18 (-9)) (va_up (va_up (va_up (va_up (va_up a 12 (((rgo fuX (laX (g 3) (g 4) (a 2) (a 5)) n (dg 36 pn k) (xbeg n (a 3) ((a 12), (a 13), (a 14), (a 15), (a 16))) k).1).1)) 13 (((rgo fuX (laX (g 3) (g 4) (a 2) (a 5)) n (dg 36 pn k) (xbeg n (a 3) ((a 12), (a 13), (a 14), (a 15), (a 16))) k).1).2.1)) 14 (((rgo fuX (laX (g 3) (g 4) (a 2) (a 5)) n (dg 36 pn k) (xbeg n (a 3) ((a 12), (a 13), (a 14), (a 15), (a 16))) k).1).2.2.1)) 15 (((rgo fuX (laX (g 3) (g 4) (a 2) (a 5)) n (dg 36 pn k) (xbeg n (a 3) ((a 12), (a 13), (a 14), (a 15), (a 16))) k).1).2.2.2.1)) 16 (((rgo fuX (laX (g 3) (g 4) (a 2) (a 5)) n (dg 36 pn k) (xbeg n (a 3) ((a 12), (a 13), (a 14), (a 15), (a 16))) k).1).2.2.2.2)) ex) := hD
    refine bz_eq (tgt := 34) hx hb dX0_tryFrom_11 (by decide) (fun c_13 => ?_) (fun c_13 => ?_)
    · skip
      refine lv_iconst (v := 0) hx hb dX0_tryFrom_34 (by decide) ?_
      refine lv_topi (fun z_14 ez_14 => ?_)
      have ez_14 : z_14 = (b2i (rowOk n (a 3) (a 4) (fun c => lastsV (a 2 c) (a 5 c)) (g 16) k (dg 36 pn k))) := ez_14.trans (by show _ = b2i (rowOk n (a 3) (a 4) (fun c => lastsV (a 2 c) (a 5 c)) (g 16) k (dg 36 pn k)); rw [← rowOk_x hn6 (fun j hj => laX_9 h3 _ _ _ j (by omega)) (a 12, a 13, a 14, a 15, a 16), c_13]; rfl)
      subst ez_14
      refine g_putz (v := (b2i (rowOk n (a 3) (a 4) (fun c => lastsV (a 2 c) (a 5 c)) (g 16) k (dg 36 pn k)))) hx hb hts hown hK hP hD hS 17 31 (by decide) rfl q166 rfl rfl (by decide +kernel) (b2i_or _) dX0_tryFrom_35 (fun H locs hP hD hS => ?_)
      exact W.vret hx hb hr (fun t ht hW => ⟨⟨((upd (upd g 18 (-9)) 31 (b2i (rowOk n (a 3) (a 4) (fun c => lastsV (a 2 c) (a 5 c)) (g 16) k (dg 36 pn k)))), (va_up (va_up (va_up (va_up (va_up a 12 (((rgo fuX (laX (g 3) (g 4) (a 2) (a 5)) n (dg 36 pn k) (xbeg n (a 3) ((a 12), (a 13), (a 14), (a 15), (a 16))) k).1).1)) 13 (((rgo fuX (laX (g 3) (g 4) (a 2) (a 5)) n (dg 36 pn k) (xbeg n (a 3) ((a 12), (a 13), (a 14), (a 15), (a 16))) k).1).2.1)) 14 (((rgo fuX (laX (g 3) (g 4) (a 2) (a 5)) n (dg 36 pn k) (xbeg n (a 3) ((a 12), (a 13), (a 14), (a 15), (a 16))) k).1).2.2.1)) 15 (((rgo fuX (laX (g 3) (g 4) (a 2) (a 5)) n (dg 36 pn k) (xbeg n (a 3) ((a 12), (a 13), (a 14), (a 15), (a 16))) k).1).2.2.2.1)) 16 (((rgo fuX (laX (g 3) (g 4) (a 2) (a 5)) n (dg 36 pn k) (xbeg n (a 3) ((a 12), (a 13), (a 14), (a 15), (a 16))) k).1).2.2.2.2))), rfl, ⟨((rgo fuX (laX (g 3) (g 4) (a 2) (a 5)) n (dg 36 pn k) (xbeg n (a 3) ((a 12), (a 13), (a 14), (a 15), (a 16))) k).1), (-9), a 19, (fun r => rowOk n (a 3) (a 4) (fun c => lastsV ((a 2) c) ((a 5) c)) (g 16) k (dg 36 r k)) pn, tfQ_leaf (ok := (fun r => rowOk n (a 3) (a 4) (fun c => lastsV ((a 2) c) ((a 5) c)) (g 16) k (dg 36 r k))) hpf, congrArg (Prod.mk _) (va_up_id _ 19).symm⟩, by rw [ht]; exact hP, va_K.moved hW.alike hK, hD⟩, hS.F ht⟩) hS.2.2 dX0_tryFrom_38
    · skip
      refine lv_aload_n hx hb dX0_tryFrom_14 rfl (lv_at hl 0 rfl) ?_
      refine vp_callSi ((va_runV (As := []) (rest := [.ref o]) ⟨hx, hb, hml, hown, hts⟩ (metX0_mended l dC dI ct A ex o q ql qs md qe n y (upd g 18 (-9)) (va_up (va_up (va_up (va_up (va_up a 12 (((rgo fuX (laX (g 3) (g 4) (a 2) (a 5)) n (dg 36 pn k) (xbeg n (a 3) ((a 12), (a 13), (a 14), (a 15), (a 16))) k).1).1)) 13 (((rgo fuX (laX (g 3) (g 4) (a 2) (a 5)) n (dg 36 pn k) (xbeg n (a 3) ((a 12), (a 13), (a 14), (a 15), (a 16))) k).1).2.1)) 14 (((rgo fuX (laX (g 3) (g 4) (a 2) (a 5)) n (dg 36 pn k) (xbeg n (a 3) ((a 12), (a 13), (a 14), (a 15), (a 16))) k).1).2.2.1)) 15 (((rgo fuX (laX (g 3) (g 4) (a 2) (a 5)) n (dg 36 pn k) (xbeg n (a 3) ((a 12), (a 13), (a 14), (a 15), (a 16))) k).1).2.2.2.1)) 16 (((rgo fuX (laX (g 3) (g 4) (a 2) (a 5)) n (dg 36 pn k) (xbeg n (a 3) ((a 12), (a 13), (a 14), (a 15), (a 16))) k).1).2.2.2.2))  hn6) (cwV 0 hts (lw_V q715 q717 qs21 q69 q718) rfl rfl rfl (by decide +kernel) ⟨Nat.le_of_ble_eq_true rfl, Nat.le_of_ble_eq_true rfl⟩) (gPV hK hP hD hE _) rfl rfl hl.1 rfl (lv_room (Nat.le_of_ble_eq_true rfl)) dX0_tryFrom_15 ⟨Nat.zero_le _, Nat.zero_le _⟩)).run (fun r hw => ?_)
      have hw : r = (mset (fun p => isMend ((a 4) p) (((rgo fuX (laX (g 3) (g 4) (a 2) (a 5)) n (dg 36 pn k) (xbeg n (a 3) ((a 12), (a 13), (a 14), (a 15), (a 16))) k).1).2.2.2.1 p)) n) := hw
      subst hw
      refine lv_aload_n hx hb dX0_tryFrom_18 rfl (lv_at hl 0 rfl) ?_
      refine g_get (v := .int (g 16)) hx hb hts hown hK hP 16 (by decide) rfl q165 rfl dX0_tryFrom_19 ?_
      refine lv_iand hx hb dX0_tryFrom_22 ?_
      refine lv_aload_n hx hb dX0_tryFrom_23 rfl (lv_at hl 0 rfl) ?_
      refine g_get (v := .int (g 16)) hx hb hts hown hK hP 16 (by decide) rfl q165 rfl dX0_tryFrom_24 ?_
      refine lv_icmp_ne (tgt := 34) hx hb dX0_tryFrom_27 (by decide) (fun c_15 => ?_) (fun c_15 => ?_)
      · skip
        refine lv_iconst (v := 0) hx hb dX0_tryFrom_34 (by decide) ?_
        refine lv_topi (fun z_16 ez_16 => ?_)
        have ez_16 : z_16 = (b2i (rowOk n (a 3) (a 4) (fun c => lastsV (a 2 c) (a 5 c)) (g 16) k (dg 36 pn k))) := ez_16.trans (by show _ = b2i (rowOk n (a 3) (a 4) (fun c => lastsV (a 2 c) (a 5 c)) (g 16) k (dg 36 pn k)); rw [← rowOk_x hn6 (fun j hj => laX_9 h3 _ _ _ j (by omega)) (a 12, a 13, a 14, a 15, a 16), c_13, Bool.true_and]; exact (congrArg b2i (decide_eq_false c_15)).symm)
        subst ez_16
        refine g_putz (v := (b2i (rowOk n (a 3) (a 4) (fun c => lastsV (a 2 c) (a 5 c)) (g 16) k (dg 36 pn k)))) hx hb hts hown hK hP hD hS 17 31 (by decide) rfl q166 rfl rfl (by decide +kernel) (b2i_or _) dX0_tryFrom_35 (fun H locs hP hD hS => ?_)
        exact W.vret hx hb hr (fun t ht hW => ⟨⟨((upd (upd g 18 (-9)) 31 (b2i (rowOk n (a 3) (a 4) (fun c => lastsV (a 2 c) (a 5 c)) (g 16) k (dg 36 pn k)))), (va_up (va_up (va_up (va_up (va_up a 12 (((rgo fuX (laX (g 3) (g 4) (a 2) (a 5)) n (dg 36 pn k) (xbeg n (a 3) ((a 12), (a 13), (a 14), (a 15), (a 16))) k).1).1)) 13 (((rgo fuX (laX (g 3) (g 4) (a 2) (a 5)) n (dg 36 pn k) (xbeg n (a 3) ((a 12), (a 13), (a 14), (a 15), (a 16))) k).1).2.1)) 14 (((rgo fuX (laX (g 3) (g 4) (a 2) (a 5)) n (dg 36 pn k) (xbeg n (a 3) ((a 12), (a 13), (a 14), (a 15), (a 16))) k).1).2.2.1)) 15 (((rgo fuX (laX (g 3) (g 4) (a 2) (a 5)) n (dg 36 pn k) (xbeg n (a 3) ((a 12), (a 13), (a 14), (a 15), (a 16))) k).1).2.2.2.1)) 16 (((rgo fuX (laX (g 3) (g 4) (a 2) (a 5)) n (dg 36 pn k) (xbeg n (a 3) ((a 12), (a 13), (a 14), (a 15), (a 16))) k).1).2.2.2.2))), rfl, ⟨((rgo fuX (laX (g 3) (g 4) (a 2) (a 5)) n (dg 36 pn k) (xbeg n (a 3) ((a 12), (a 13), (a 14), (a 15), (a 16))) k).1), (-9), a 19, (fun r => rowOk n (a 3) (a 4) (fun c => lastsV ((a 2) c) ((a 5) c)) (g 16) k (dg 36 r k)) pn, tfQ_leaf (ok := (fun r => rowOk n (a 3) (a 4) (fun c => lastsV ((a 2) c) ((a 5) c)) (g 16) k (dg 36 r k))) hpf, congrArg (Prod.mk _) (va_up_id _ 19).symm⟩, by rw [ht]; exact hP, va_K.moved hW.alike hK, hD⟩, hS.F ht⟩) hS.2.2 dX0_tryFrom_38
      · skip
        refine lv_iconst (v := 1) hx hb dX0_tryFrom_30 (by decide) ?_
        refine lv_goto (tgt := 35) hx hb dX0_tryFrom_31 (by decide) ?_
        refine lv_topi (fun z_17 ez_17 => ?_)
        have ez_17 : z_17 = (b2i (rowOk n (a 3) (a 4) (fun c => lastsV (a 2 c) (a 5 c)) (g 16) k (dg 36 pn k))) := ez_17.trans (by show _ = b2i (rowOk n (a 3) (a 4) (fun c => lastsV (a 2 c) (a 5 c)) (g 16) k (dg 36 pn k)); rw [← rowOk_x hn6 (fun j hj => laX_9 h3 _ _ _ j (by omega)) (a 12, a 13, a 14, a 15, a 16), c_13, Bool.true_and]; exact (congrArg b2i (decide_eq_true c_15)).symm)
        subst ez_17
        refine g_putz (v := (b2i (rowOk n (a 3) (a 4) (fun c => lastsV (a 2 c) (a 5 c)) (g 16) k (dg 36 pn k)))) hx hb hts hown hK hP hD hS 17 31 (by decide) rfl q166 rfl rfl (by decide +kernel) (b2i_or _) dX0_tryFrom_35 (fun H locs hP hD hS => ?_)
        exact W.vret hx hb hr (fun t ht hW => ⟨⟨((upd (upd g 18 (-9)) 31 (b2i (rowOk n (a 3) (a 4) (fun c => lastsV (a 2 c) (a 5 c)) (g 16) k (dg 36 pn k)))), (va_up (va_up (va_up (va_up (va_up a 12 (((rgo fuX (laX (g 3) (g 4) (a 2) (a 5)) n (dg 36 pn k) (xbeg n (a 3) ((a 12), (a 13), (a 14), (a 15), (a 16))) k).1).1)) 13 (((rgo fuX (laX (g 3) (g 4) (a 2) (a 5)) n (dg 36 pn k) (xbeg n (a 3) ((a 12), (a 13), (a 14), (a 15), (a 16))) k).1).2.1)) 14 (((rgo fuX (laX (g 3) (g 4) (a 2) (a 5)) n (dg 36 pn k) (xbeg n (a 3) ((a 12), (a 13), (a 14), (a 15), (a 16))) k).1).2.2.1)) 15 (((rgo fuX (laX (g 3) (g 4) (a 2) (a 5)) n (dg 36 pn k) (xbeg n (a 3) ((a 12), (a 13), (a 14), (a 15), (a 16))) k).1).2.2.2.1)) 16 (((rgo fuX (laX (g 3) (g 4) (a 2) (a 5)) n (dg 36 pn k) (xbeg n (a 3) ((a 12), (a 13), (a 14), (a 15), (a 16))) k).1).2.2.2.2))), rfl, ⟨((rgo fuX (laX (g 3) (g 4) (a 2) (a 5)) n (dg 36 pn k) (xbeg n (a 3) ((a 12), (a 13), (a 14), (a 15), (a 16))) k).1), (-9), a 19, (fun r => rowOk n (a 3) (a 4) (fun c => lastsV ((a 2) c) ((a 5) c)) (g 16) k (dg 36 r k)) pn, tfQ_leaf (ok := (fun r => rowOk n (a 3) (a 4) (fun c => lastsV ((a 2) c) ((a 5) c)) (g 16) k (dg 36 r k))) hpf, congrArg (Prod.mk _) (va_up_id _ 19).symm⟩, by rw [ht]; exact hP, va_K.moved hW.alike hK, hD⟩, hS.F ht⟩) hS.2.2 dX0_tryFrom_38
set_option maxHeartbeats 4000000 in
set_option maxRecDepth 100000 in
theorem metX0_tryFrom_2 (l : Launch) (dC : Nat → ClassId) (dI : Nat → Nat → Nat) (ct : Nat → ClassId) (A : Nat → Prop) (ex : va_W) (o : Nat) (q : Nat → Nat) (ql qs : Nat) (md : Int32) (qe n : Nat) (y : Nat → Nat) (g : Nat → Int32) (a : Nat → Nat → Int32) (x : Int32) (z : Int32) (k M pn : Nat) (hn6 : n ≤ 6) (ek : x = nI k) (eM : z = nI M) (hkM : k ≤ M) (hM3 : M ≤ 3) (hdp : M ≤ k + 2) (h3 : g 3 = -9) (hF0 : g 31 = 0) (hpf : prf n k pn (a 19)) : Met l yX0_tryFrom (ws_ yX0_tryFrom cX0_tryFrom 5 none) ({ frames := 9, cells := 0, slots := 0, locals := 193 }) (gPre dC dI ct A ex o q (ql, qs, md, qe, n) y g a [.ref o, .int x, .int z]) (va_Qv (fun (u : (Nat → Int32) × (Nat → Nat → Int32)) => ∃ (S : LnS (Nat → Int32)), ∃ (gv : Int32), ∃ (D : Nat → Int32), ∃ (fd : Bool), ∃ (hQ : tfQ (fun r => rowOk n (a 3) (a 4) (fun c => lastsV ((a 2) c) ((a 5) c)) (g 16) M (dg 36 r M)) k M (pn * 36 ^ (M - k)) ((pn + 1) * 36 ^ (M - k)) (a 19) D fd), u = ((upd (upd g 18 gv) 31 (b2i fd)), (va_up (va_up (va_up (va_up (va_up (va_up a 12 S.1) 13 S.2.1) 14 S.2.2.1) 15 S.2.2.2.1) 16 S.2.2.2.2) 19 D))) (gB dC dI ct A ex o q (ql, qs, md, qe, n) y) A) 0 0 A := by
  refine Met.ofW (cc := cX0_tryFrom) (maxL := 5) (ret := none) (by decide) rfl ?_
  intro p e s m args below meth c s₁ B hml hv
  obtain ⟨rfl, hP, hK, hD, hE⟩ := hv
  have hx := B.exec
  have hb := B.bytes
  have hr := B.returns
  have hts := atoms_spec (ws := ws_ yX0_tryFrom cX0_tryFrom 5 none) B.pre
  have hts : ∀ w ∈ lw_all, w.before _ s = true := fun w h => hts w (List.mem_cons_of_mem _ h)
  have hown : s.vm.findClass RX0 = some m.cls := findClass_of_methodNamed B.named
  have hlocks := B.notSynchronized
  have hS : va_S A s.heap s.heap [] := va_S.rf
  have hl := lv_entry ([.ref o, .int x, .int z]) (n := 5) (Nat.le_of_ble_eq_true rfl)
  rw [lg_entry_eq]
  generalize (lg_sl ([.ref o, .int x, .int z]) ++ List.replicate (5 - (lg_sl ([.ref o, .int x, .int z])).length) Slot.unset).toArray = ls at hl ⊢
  have hl : lv_has ls 5 [(0, .ref o), (1, .int x), (2, .int z)] := hl
  subst ek
  subst eM
  refine lv_iload_n hx hb dX0_tryFrom_0 rfl (lv_at hl 1 rfl) ?_
  refine lv_iload_n hx hb dX0_tryFrom_1 rfl (lv_at hl 2 rfl) ?_
  refine lv_icmp_ne (tgt := 39) hx hb dX0_tryFrom_2 (by decide) (fun c_1 => ?_) (fun c_1 => ?_)
  · skip
    have hkM2 : k < M := Nat.lt_of_le_of_ne hkM (fun z => c_1 (by rw [z]))
    refine lv_iconst (v := 0) hx hb dX0_tryFrom_39 (by decide) ?_
    refine lv_istore_n (lv' := [(3, .int 0), (0, .ref o), (1, .int (nI k)), (2, .int (nI M))]) hx hb dX0_tryFrom_40 rfl hl (by decide) rfl (fun ls hl => ?_)
    have loop1 : ∀ (f1 : Nat) (v : Nat) (S : LnS (Nat → Int32)) (gv : Int32) (D : Nat → Int32) (fd : Bool), (v ≤ n) → (n + 1 ≤ v + f1) → (tfQ (fun r => rowOk n (a 3) (a 4) (fun c => lastsV ((a 2) c) ((a 5) c)) (g 16) M (dg 36 r M)) k M ((36 * pn + 0) * 36 ^ (M - (k + 1))) ((36 * pn + 6 * v) * 36 ^ (M - (k + 1))) (a 19) D fd) → ∀ (H : Heap) (locs : List Loc), va_P (dC, dI) clA (xG ct o q (ql, qs, md, qe, n) y (upd (upd g 18 gv) 31 (b2i fd)) (va_up (va_up (va_up (va_up (va_up (va_up a 12 S.1) 13 S.2.1) 14 S.2.2.1) 15 S.2.2.2.1) 16 S.2.2.2.2) 19 D) ex) H → va_D A (xG ct o q (ql, qs, md, qe, n) y (upd (upd g 18 gv) 31 (b2i fd)) (va_up (va_up (va_up (va_up (va_up (va_up a 12 S.1) 13 S.2.1) 14 S.2.2.1) 15 S.2.2.2.1) 16 S.2.2.2.2) 19 D) ex) → va_S A s.heap H locs → ∀ (ls : Array Slot), lv_has ls 5 [(3, .int (nI v)), (2, .int (nI M)), (1, .int (nI k)), (0, .ref o)] → W p l e (headSpec (ws_ yX0_tryFrom cX0_tryFrom 5 none) ({ frames := 9, cells := 0, slots := 0, locals := 193 })).room s m ([.ref o, .int (nI k), .int (nI M)] : List Value).toArray below meth c H locs 0 0 (MQ below (va_Qv (fun (u : (Nat → Int32) × (Nat → Nat → Int32)) => ∃ (S : LnS (Nat → Int32)), ∃ (gv : Int32), ∃ (D : Nat → Int32), ∃ (fd : Bool), ∃ (hQ : tfQ (fun r => rowOk n (a 3) (a 4) (fun c => lastsV ((a 2) c) ((a 5) c)) (g 16) M (dg 36 r M)) k M (pn * 36 ^ (M - k)) ((pn + 1) * 36 ^ (M - k)) (a 19) D fd), u = ((upd (upd g 18 gv) 31 (b2i fd)), (va_up (va_up (va_up (va_up (va_up (va_up a 12 S.1) 13 S.2.1) 14 S.2.2.1) 15 S.2.2.2.1) 16 S.2.2.2.2) 19 D))) (gB dC dI ct A ex o q (ql, qs, md, qe, n) y) A) ([.ref o, .int (nI k), .int (nI M)] : List Value).toArray s 0 0 A) (F0 m 41 ls []) := by
      intro f1
      induction f1 with
      | zero => intro v S gv D fd hv hf hQ1; exact False.elim (by omega)
      | succ f1 ih1 =>
        intro v S gv D fd hv hf hQ1 H locs hP hD hS ls hl
        refine lv_iload_n hx hb dX0_tryFrom_41 rfl (lv_at hl 0 rfl) ?_
        refine lv_aload_n hx hb dX0_tryFrom_42 rfl (lv_at hl 3 rfl) ?_
        refine vp_callSi ((va_runV (As := []) (rest := [.int (nI v)]) ⟨hx, hb, hml, hown, hts⟩ (metX0_people l dC dI ct A (peW ct o qe n y (va_up (va_up (va_up (va_up (va_up (va_up a 12 S.1) 13 S.2.1) 14 S.2.2.1) 15 S.2.2.2.1) 16 S.2.2.2.2) 19 D) ++ ex) o q ql qs md qe n (upd (upd g 18 gv) 31 (b2i fd)) (va_up (va_up (va_up (va_up (va_up (va_up a 12 S.1) 13 S.2.1) 14 S.2.2.1) 15 S.2.2.2.1) 16 S.2.2.2.2) 19 D)  ) (cwV 0 hts (lw_V q593 q595 qs14 q69 q596) rfl rfl rfl (by decide +kernel) ⟨Nat.le_of_ble_eq_true rfl, Nat.le_of_ble_eq_true rfl⟩) (xPV hK hP hD hE _) rfl rfl hl.1 rfl (lv_room (Nat.le_of_ble_eq_true rfl)) dX0_tryFrom_43 ⟨Nat.zero_le _, Nat.zero_le _⟩)).run (fun r hw => ?_)
        have hw : r = (nI n) := hw
        subst hw
        refine lv_icmp_ge (tgt := 104) hx hb dX0_tryFrom_46 (by decide) (fun c_2 => ?_) (fun c_2 => ?_)
        · skip
          have hge : v = n := by exact Nat.le_antisymm (by omega) ((nI_leI (by omega) (by omega)).mp c_2)
          exact W.vret hx hb hr (fun t ht hW => ⟨⟨((upd (upd g 18 gv) 31 (b2i fd)), (va_up (va_up (va_up (va_up (va_up (va_up a 12 S.1) 13 S.2.1) 14 S.2.2.1) 15 S.2.2.2.1) 16 S.2.2.2.2) 19 D)), rfl, ⟨S, gv, D, fd, tfQ_lo (tfQ_ext hQ1 (nk_bad hkM2 (6 * v) 36 (by omega) (fun z h1 h2 h4 => by omega))) (lo_eq hkM2) (hi_eq hkM2), rfl⟩, by rw [ht]; exact hP, va_K.moved hW.alike hK, hD⟩, hS.F ht⟩) hS.2.2 dX0_tryFrom_104
        · skip
          have hlt : v < n := by exact Nat.lt_of_not_le (fun z => c_2 ((nI_leI (by omega) (by omega)).mpr z))
          refine lv_iload_n hx hb dX0_tryFrom_49 rfl (lv_at hl 0 rfl) ?_
          refine lv_iconst (v := 1) hx hb dX0_tryFrom_50 (by decide) ?_
          refine lv_iadd hx hb dX0_tryFrom_51 ?_
          refine lv_topi (fun z_3 ez_3 => ?_)
          have ez_3 : z_3 = (nI (v + 1)) := ez_3.trans (nI_1 v)
          subst ez_3
          refine lv_istore (lv' := [(4, .int (nI (v + 1))), (3, .int (nI v)), (2, .int (nI M)), (1, .int (nI k)), (0, .ref o)]) hx hb dX0_tryFrom_52 hl (by decide) rfl (fun ls hl => ?_)
          have loop2 : ∀ (f2 : Nat) (w1 : Nat) (S : LnS (Nat → Int32)) (gv : Int32) (D : Nat → Int32) (fd : Bool), (w1 ≤ n) → (v < w1) → (n + 1 ≤ w1 + f2) → (tfQ (fun r => rowOk n (a 3) (a 4) (fun c => lastsV ((a 2) c) ((a 5) c)) (g 16) M (dg 36 r M)) k M ((36 * pn + 0) * 36 ^ (M - (k + 1))) ((36 * pn + (6 * v + w1)) * 36 ^ (M - (k + 1))) (a 19) D fd) → ∀ (H : Heap) (locs : List Loc), va_P (dC, dI) clA (xG ct o q (ql, qs, md, qe, n) y (upd (upd g 18 gv) 31 (b2i fd)) (va_up (va_up (va_up (va_up (va_up (va_up a 12 S.1) 13 S.2.1) 14 S.2.2.1) 15 S.2.2.2.1) 16 S.2.2.2.2) 19 D) ex) H → va_D A (xG ct o q (ql, qs, md, qe, n) y (upd (upd g 18 gv) 31 (b2i fd)) (va_up (va_up (va_up (va_up (va_up (va_up a 12 S.1) 13 S.2.1) 14 S.2.2.1) 15 S.2.2.2.1) 16 S.2.2.2.2) 19 D) ex) → va_S A s.heap H locs → ∀ (ls : Array Slot), lv_has ls 5 [(4, .int (nI w1)), (3, .int (nI v)), (2, .int (nI M)), (1, .int (nI k)), (0, .ref o)] → W p l e (headSpec (ws_ yX0_tryFrom cX0_tryFrom 5 none) ({ frames := 9, cells := 0, slots := 0, locals := 193 })).room s m ([.ref o, .int (nI k), .int (nI M)] : List Value).toArray below meth c H locs 0 0 (MQ below (va_Qv (fun (u : (Nat → Int32) × (Nat → Nat → Int32)) => ∃ (S : LnS (Nat → Int32)), ∃ (gv : Int32), ∃ (D : Nat → Int32), ∃ (fd : Bool), ∃ (hQ : tfQ (fun r => rowOk n (a 3) (a 4) (fun c => lastsV ((a 2) c) ((a 5) c)) (g 16) M (dg 36 r M)) k M (pn * 36 ^ (M - k)) ((pn + 1) * 36 ^ (M - k)) (a 19) D fd), u = ((upd (upd g 18 gv) 31 (b2i fd)), (va_up (va_up (va_up (va_up (va_up (va_up a 12 S.1) 13 S.2.1) 14 S.2.2.1) 15 S.2.2.2.1) 16 S.2.2.2.2) 19 D))) (gB dC dI ct A ex o q (ql, qs, md, qe, n) y) A) ([.ref o, .int (nI k), .int (nI M)] : List Value).toArray s 0 0 A) (F0 m 54 ls []) := by
            intro f2
            induction f2 with
            | zero => intro w1 S gv D fd hw1 hvw hf2 hQ2; exact False.elim (by omega)
            | succ f2 ih2 =>
              intro w1 S gv D fd hw1 hvw hf2 hQ2 H locs hP hD hS ls hl
              refine lv_iload hx hb dX0_tryFrom_54 (lv_at hl 0 rfl) ?_
              refine lv_aload_n hx hb dX0_tryFrom_56 rfl (lv_at hl 4 rfl) ?_
              refine vp_callSi ((va_runV (As := []) (rest := [.int (nI w1)]) ⟨hx, hb, hml, hown, hts⟩ (metX0_people l dC dI ct A (peW ct o qe n y (va_up (va_up (va_up (va_up (va_up (va_up a 12 S.1) 13 S.2.1) 14 S.2.2.1) 15 S.2.2.2.1) 16 S.2.2.2.2) 19 D) ++ ex) o q ql qs md qe n (upd (upd g 18 gv) 31 (b2i fd)) (va_up (va_up (va_up (va_up (va_up (va_up a 12 S.1) 13 S.2.1) 14 S.2.2.1) 15 S.2.2.2.1) 16 S.2.2.2.2) 19 D)  ) (cwV 0 hts (lw_V q593 q595 qs14 q69 q596) rfl rfl rfl (by decide +kernel) ⟨Nat.le_of_ble_eq_true rfl, Nat.le_of_ble_eq_true rfl⟩) (xPV hK hP hD hE _) rfl rfl hl.1 rfl (lv_room (Nat.le_of_ble_eq_true rfl)) dX0_tryFrom_57 ⟨Nat.zero_le _, Nat.zero_le _⟩)).run (fun r hw => ?_)
              have hw : r = (nI n) := hw
              subst hw
              refine lv_icmp_ge (tgt := 98) hx hb dX0_tryFrom_60 (by decide) (fun c_4 => ?_) (fun c_4 => ?_)
              · skip
                have hge2 : w1 = n := by exact Nat.le_antisymm (by omega) ((nI_leI (by omega) (by omega)).mp c_4)
                refine lv_iinc (v := (nI (v + 1))) (lv' := [(3, .int (nI (v + 1))), (4, .int (nI w1)), (2, .int (nI M)), (1, .int (nI k)), (0, .ref o)]) hx hb dX0_tryFrom_98 hl (k := 1) rfl (nI_1 v) (by decide) rfl (fun ls hl => ?_)
                refine lv_goto (tgt := 41) hx hb dX0_tryFrom_101 (by decide) ?_
                exact ih1 (v + 1) S gv D fd (by omega) (by omega) (tfQ_ext hQ2 (nk_bad hkM2 (6 * v + w1) (6 * (v + 1)) (by omega) (fun z h1 h2 h4 => by omega))) _ _ hP hD hS _ (lv_sub hl [0, 2, 3, 4] rfl)
              · skip
                have hlt2 : w1 < n := by exact Nat.lt_of_not_le (fun z => c_4 ((nI_leI (by omega) (by omega)).mpr z))
                refine lv_aload_n hx hb dX0_tryFrom_63 rfl (lv_at hl 4 rfl) ?_
                refine g_get (v := .int (b2i fd)) hx hb hts hown hK hP 17 (by decide) rfl q166 rfl dX0_tryFrom_64 ?_
                refine bz_eq (tgt := 71) hx hb dX0_tryFrom_67 (by decide) (fun c_5 => ?_) (fun c_5 => ?_)
                · skip
                  refine lv_aload_n hx hb dX0_tryFrom_71 rfl (lv_at hl 4 rfl) ?_
                  refine g_get (v := .ref (q 19)) hx hb hts hown hK hP 15 (by decide) rfl q164 rfl dX0_tryFrom_72 ?_
                  refine lv_iload_n hx hb dX0_tryFrom_75 rfl (lv_at hl 3 rfl) ?_
                  refine lv_bipush (v := 10) hx hb dX0_tryFrom_76 (by decide) ?_
                  refine lv_iload_n hx hb dX0_tryFrom_78 rfl (lv_at hl 1 rfl) ?_
                  refine lv_imul hx hb dX0_tryFrom_79 ?_
                  refine lv_iload hx hb dX0_tryFrom_80 (lv_at hl 0 rfl) ?_
                  refine lv_iadd hx hb dX0_tryFrom_82 ?_
                  refine lv_topi (fun z_6 ez_6 => ?_)
                  have ez_6 : z_6 = (nI (10 * v + w1)) := ez_6.trans (ten_add v w1)
                  subst ez_6
                  refine g_ist (x := (nI (10 * v + w1))) hx hb hK hP hD hS (gWa19 _ _ _ _ _ _ _ _ _ _ _ _) (gWs19 _ _ _ _ _ _ _ _ _ _ _ _) D rfl k rfl (by omega) (by decide) dX0_tryFrom_83 (fun H locs hP hD hS => ?_)
                  have eW_7 : ∀ (zg18 : Int32) (zg31 : Int32) (za12 : Nat → Int32) (za13 : Nat → Int32) (za14 : Nat → Int32) (za15 : Nat → Int32) (za16 : Nat → Int32) (za19 : Nat → Int32) (zn : Nat → Int32), xG ct o q (ql, qs, md, qe, n) y (upd (upd g 18 zg18) 31 zg31) (va_up (va_up (va_up (va_up (va_up (va_up (va_up a 12 za12) 13 za13) 14 za14) 15 za15) 16 za16) 19 za19) 19 zn) ex = xG ct o q (ql, qs, md, qe, n) y (upd (upd g 18 zg18) 31 zg31) (va_up (va_up (va_up (va_up (va_up (va_up a 12 za12) 13 za13) 14 za14) 15 za15) 16 za16) 19 zn) ex := fun _ _ _ _ _ _ _ _ _ => rfl
                  have hP : va_P (dC, dI) clA (xG ct o q (ql, qs, md, qe, n) y (upd (upd g 18 gv) 31 (b2i fd)) (va_up (va_up (va_up (va_up (va_up (va_up a 12 S.1) 13 S.2.1) 14 S.2.2.1) 15 S.2.2.2.1) 16 S.2.2.2.2) 19 (upd D k (nI (10 * v + w1)))) ex) H := Eq.mp (congrArg (fun w => va_P (dC, dI) clA w H) (eW_7 gv (b2i fd) S.1 S.2.1 S.2.2.1 S.2.2.2.1 S.2.2.2.2 D (upd D k (nI (10 * v + w1))))) hP
                  have hD : va_D A (xG ct o q (ql, qs, md, qe, n) y (upd (upd g 18 gv) 31 (b2i fd)) (va_up (va_up (va_up (va_up (va_up (va_up a 12 S.1) 13 S.2.1) 14 S.2.2.1) 15 S.2.2.2.1) 16 S.2.2.2.2) 19 (upd D k (nI (10 * v + w1)))) ex) := Eq.mp (congrArg (fun w => va_D A w) (eW_7 gv (b2i fd) S.1 S.2.1 S.2.2.1 S.2.2.2.1 S.2.2.2.2 D (upd D k (nI (10 * v + w1))))) hD
                  refine lv_aload_n hx hb dX0_tryFrom_84 rfl (lv_at hl 4 rfl) ?_
                  refine lv_iload_n hx hb dX0_tryFrom_85 rfl (lv_at hl 3 rfl) ?_
                  refine lv_iconst (v := 1) hx hb dX0_tryFrom_86 (by decide) ?_
                  refine lv_iadd hx hb dX0_tryFrom_87 ?_
                  refine lv_iload_n hx hb dX0_tryFrom_88 rfl (lv_at hl 2 rfl) ?_
                  refine va_callv (va_runV (As := [.int ((nI k) + 1), .int (nI M)]) (rest := []) ⟨hx, hb, hml, hown, hts⟩ (metX0_tryFrom_1 l dC dI ct A ex o q ql qs md qe n y (upd (upd g 18 gv) 31 (b2i fd)) (va_up (va_up (va_up (va_up (va_up (va_up a 12 S.1) 13 S.2.1) 14 S.2.2.1) 15 S.2.2.2.1) 16 S.2.2.2.2) 19 (upd D k (nI (10 * v + w1)))) ((nI k) + 1) (nI M) (k + 1) M (36 * pn + (6 * v + w1)) hn6 (nI_1 k) rfl (by omega) hM3 (by omega) h3 (by show b2i fd = 0; rw [c_5]; rfl) (prf_app hn6 hpf (by rw [c_5] at hQ2; exact (tfQ_f hQ2).2) hvw hlt2)) (cwV 2 hts (lw_V q773 q775 qs29 q69 q776) rfl rfl rfl (by decide +kernel) ⟨Nat.le_of_ble_eq_true rfl, Nat.le_of_ble_eq_true rfl⟩) (gPV hK hP hD hE _) rfl rfl hl.1 rfl (lv_room (Nat.le_of_ble_eq_true rfl)) dX0_tryFrom_89 ⟨Nat.zero_le _, Nat.zero_le _⟩) hS (fun q _ h => h) (fun q h => h) (fun u t H1 locs ht hvm hw hB hz1 hk1 hS => ?_)
                  obtain ⟨S_8, gv_9, D_10, fd_11, hQ_12, hw⟩ := hw
                  subst hw
                  obtain ⟨hP, -, hD⟩ := hB
                  rw [ht] at hP
                  generalize H1 = H at hP hS ⊢
                  have hP : va_P (dC, dI) clA (xG ct o q (ql, qs, md, qe, n) y (upd (upd g 18 gv_9) 31 (b2i fd_11)) (va_up (va_up (va_up (va_up (va_up (va_up a 12 S_8.1) 13 S_8.2.1) 14 S_8.2.2.1) 15 S_8.2.2.2.1) 16 S_8.2.2.2.2) 19 D_10) ex) H := hP
                  have hD : va_D A (xG ct o q (ql, qs, md, qe, n) y (upd (upd g 18 gv_9) 31 (b2i fd_11)) (va_up (va_up (va_up (va_up (va_up (va_up a 12 S_8.1) 13 S_8.2.1) 14 S_8.2.2.1) 15 S_8.2.2.2.1) 16 S_8.2.2.2.2) 19 D_10) ex) := hD
                  refine lv_iinc (v := (nI (w1 + 1))) (lv' := [(4, .int (nI (w1 + 1))), (3, .int (nI v)), (2, .int (nI M)), (1, .int (nI k)), (0, .ref o)]) hx hb dX0_tryFrom_92 hl (k := 0) rfl (nI_1 w1) (by decide) rfl (fun ls hl => ?_)
                  refine lv_goto (tgt := 54) hx hb dX0_tryFrom_95 (by decide) ?_
                  exact ih2 (w1 + 1) S_8 gv_9 D_10 fd_11 (by omega) (by omega) (by omega) (tfQ_rec c_5 hQ2 (Nat.mul_le_mul_right _ (by omega)) hQ_12 (congrArg (fun z => z * 36 ^ (M - (k + 1))) (by omega))) _ _ hP hD hS _ (lv_sub hl [0, 1, 2, 3, 4] rfl)
                · skip
                  exact W.vret hx hb hr (fun t ht hW => ⟨⟨((upd (upd g 18 gv) 31 (b2i fd)), (va_up (va_up (va_up (va_up (va_up (va_up a 12 S.1) 13 S.2.1) 14 S.2.2.1) 15 S.2.2.2.1) 16 S.2.2.2.2) 19 D)), rfl, ⟨S, gv, D, fd, tfQ_lo (tfQ_all c_5 hQ2) (lo_eq hkM2) rfl, rfl⟩, by rw [ht]; exact hP, va_K.moved hW.alike hK, hD⟩, hS.F ht⟩) hS.2.2 dX0_tryFrom_70
          exact loop2 (n + 1) (v + 1) S gv D fd (by omega) (by omega) (by omega) (tfQ_ext hQ1 (nk_bad hkM2 (6 * v) (6 * v + (v + 1)) (by omega) (fun z h1 h2 h4 => by omega))) _ _ hP hD hS _ (lv_sub hl [0, 1, 2, 3, 4] rfl)
    exact loop1 (n + 1) 0 (a 12, a 13, a 14, a 15, a 16) (g 18) (a 19) false (by omega) (by omega) (by unfold tfQ; rw [if_neg (by decide)]; exact ⟨fun r h1 h2 => absurd (Nat.lt_of_le_of_lt h1 h2) (Nat.lt_irrefl _), fun _ _ => rfl⟩) _ _ (by rw [show b2i false = g 31 from hF0.symm]; exact hP) (by rw [show b2i false = g 31 from hF0.symm]; exact hD) hS _ (lv_sub hl [0, 3, 2, 1] rfl)
  · skip
    have hkM9 : k = M := (nI_eq (by omega) (by omega)).mp c_1
    subst hkM9
    refine lv_aload_n hx hb dX0_tryFrom_5 rfl (lv_at hl 0 rfl) ?_
    refine lv_aload_n hx hb dX0_tryFrom_6 rfl (lv_at hl 0 rfl) ?_
    refine lv_iload_n hx hb dX0_tryFrom_7 rfl (lv_at hl 2 rfl) ?_
    refine va_calli (va_runV (As := [.int (nI k)]) (rest := [.ref o]) ⟨hx, hb, hml, hown, hts⟩ (metX0_goRow l dC dI ct A ex o q ql qs md qe n y g a (nI k) k (dg 36 pn k) hn6 rfl hM3 hpf.2) (cwV 1 hts (lw_V q777 q779 qs30 q69 q780) rfl rfl rfl (by decide +kernel) ⟨Nat.le_of_ble_eq_true rfl, Nat.le_of_ble_eq_true rfl⟩) (gPV hK hP hD hE _) rfl rfl hl.1 rfl (lv_room (Nat.le_of_ble_eq_true rfl)) dX0_tryFrom_8 ⟨Nat.zero_le _, Nat.zero_le _⟩) hS (fun q _ h => h) (fun q h => h) (fun r u t H1 locs ht hvm hw hB hz1 hk1 hS => ?_)
    obtain ⟨hw, hw2⟩ := hw
    have hw : r = (b2i (rgo fuX (laX (g 3) (g 4) (a 2) (a 5)) n (dg 36 pn k) (xbeg n (a 3) ((a 12), (a 13), (a 14), (a 15), (a 16))) k).2) := hw
    subst hw
    subst hw2
    obtain ⟨hP, -, hD⟩ := hB
    rw [ht] at hP
    generalize H1 = H at hP hS ⊢
    have hP : va_P (dC, dI) clA (xG ct o q (ql, qs, md, qe, n) y (upd g 18 (-9)) (va_up (va_up (va_up (va_up (va_up a 12 (((rgo fuX (laX (g 3) (g 4) (a 2) (a 5)) n (dg 36 pn k) (xbeg n (a 3) ((a 12), (a 13), (a 14), (a 15), (a 16))) k).1).1)) 13 (((rgo fuX (laX (g 3) (g 4) (a 2) (a 5)) n (dg 36 pn k) (xbeg n (a 3) ((a 12), (a 13), (a 14), (a 15), (a 16))) k).1).2.1)) 14 (((rgo fuX (laX (g 3) (g 4) (a 2) (a 5)) n (dg 36 pn k) (xbeg n (a 3) ((a 12), (a 13), (a 14), (a 15), (a 16))) k).1).2.2.1)) 15 (((rgo fuX (laX (g 3) (g 4) (a 2) (a 5)) n (dg 36 pn k) (xbeg n (a 3) ((a 12), (a 13), (a 14), (a 15), (a 16))) k).1).2.2.2.1)) 16 (((rgo fuX (laX (g 3) (g 4) (a 2) (a 5)) n (dg 36 pn k) (xbeg n (a 3) ((a 12), (a 13), (a 14), (a 15), (a 16))) k).1).2.2.2.2)) ex) H := hP
    have hD : va_D A (xG ct o q (ql, qs, md, qe, n) y (upd g 18 (-9)) (va_up (va_up (va_up (va_up (va_up a 12 (((rgo fuX (laX (g 3) (g 4) (a 2) (a 5)) n (dg 36 pn k) (xbeg n (a 3) ((a 12), (a 13), (a 14), (a 15), (a 16))) k).1).1)) 13 (((rgo fuX (laX (g 3) (g 4) (a 2) (a 5)) n (dg 36 pn k) (xbeg n (a 3) ((a 12), (a 13), (a 14), (a 15), (a 16))) k).1).2.1)) 14 (((rgo fuX (laX (g 3) (g 4) (a 2) (a 5)) n (dg 36 pn k) (xbeg n (a 3) ((a 12), (a 13), (a 14), (a 15), (a 16))) k).1).2.2.1)) 15 (((rgo fuX (laX (g 3) (g 4) (a 2) (a 5)) n (dg 36 pn k) (xbeg n (a 3) ((a 12), (a 13), (a 14), (a 15), (a 16))) k).1).2.2.2.1)) 16 (((rgo fuX (laX (g 3) (g 4) (a 2) (a 5)) n (dg 36 pn k) (xbeg n (a 3) ((a 12), (a 13), (a 14), (a 15), (a 16))) k).1).2.2.2.2)) ex) := hD
    refine bz_eq (tgt := 34) hx hb dX0_tryFrom_11 (by decide) (fun c_13 => ?_) (fun c_13 => ?_)
    · skip
      refine lv_iconst (v := 0) hx hb dX0_tryFrom_34 (by decide) ?_
      refine lv_topi (fun z_14 ez_14 => ?_)
      have ez_14 : z_14 = (b2i (rowOk n (a 3) (a 4) (fun c => lastsV (a 2 c) (a 5 c)) (g 16) k (dg 36 pn k))) := ez_14.trans (by show _ = b2i (rowOk n (a 3) (a 4) (fun c => lastsV (a 2 c) (a 5 c)) (g 16) k (dg 36 pn k)); rw [← rowOk_x hn6 (fun j hj => laX_9 h3 _ _ _ j (by omega)) (a 12, a 13, a 14, a 15, a 16), c_13]; rfl)
      subst ez_14
      refine g_putz (v := (b2i (rowOk n (a 3) (a 4) (fun c => lastsV (a 2 c) (a 5 c)) (g 16) k (dg 36 pn k)))) hx hb hts hown hK hP hD hS 17 31 (by decide) rfl q166 rfl rfl (by decide +kernel) (b2i_or _) dX0_tryFrom_35 (fun H locs hP hD hS => ?_)
      exact W.vret hx hb hr (fun t ht hW => ⟨⟨((upd (upd g 18 (-9)) 31 (b2i (rowOk n (a 3) (a 4) (fun c => lastsV (a 2 c) (a 5 c)) (g 16) k (dg 36 pn k)))), (va_up (va_up (va_up (va_up (va_up a 12 (((rgo fuX (laX (g 3) (g 4) (a 2) (a 5)) n (dg 36 pn k) (xbeg n (a 3) ((a 12), (a 13), (a 14), (a 15), (a 16))) k).1).1)) 13 (((rgo fuX (laX (g 3) (g 4) (a 2) (a 5)) n (dg 36 pn k) (xbeg n (a 3) ((a 12), (a 13), (a 14), (a 15), (a 16))) k).1).2.1)) 14 (((rgo fuX (laX (g 3) (g 4) (a 2) (a 5)) n (dg 36 pn k) (xbeg n (a 3) ((a 12), (a 13), (a 14), (a 15), (a 16))) k).1).2.2.1)) 15 (((rgo fuX (laX (g 3) (g 4) (a 2) (a 5)) n (dg 36 pn k) (xbeg n (a 3) ((a 12), (a 13), (a 14), (a 15), (a 16))) k).1).2.2.2.1)) 16 (((rgo fuX (laX (g 3) (g 4) (a 2) (a 5)) n (dg 36 pn k) (xbeg n (a 3) ((a 12), (a 13), (a 14), (a 15), (a 16))) k).1).2.2.2.2))), rfl, ⟨((rgo fuX (laX (g 3) (g 4) (a 2) (a 5)) n (dg 36 pn k) (xbeg n (a 3) ((a 12), (a 13), (a 14), (a 15), (a 16))) k).1), (-9), a 19, (fun r => rowOk n (a 3) (a 4) (fun c => lastsV ((a 2) c) ((a 5) c)) (g 16) k (dg 36 r k)) pn, tfQ_leaf (ok := (fun r => rowOk n (a 3) (a 4) (fun c => lastsV ((a 2) c) ((a 5) c)) (g 16) k (dg 36 r k))) hpf, congrArg (Prod.mk _) (va_up_id _ 19).symm⟩, by rw [ht]; exact hP, va_K.moved hW.alike hK, hD⟩, hS.F ht⟩) hS.2.2 dX0_tryFrom_38
    · skip
      refine lv_aload_n hx hb dX0_tryFrom_14 rfl (lv_at hl 0 rfl) ?_
      refine vp_callSi ((va_runV (As := []) (rest := [.ref o]) ⟨hx, hb, hml, hown, hts⟩ (metX0_mended l dC dI ct A ex o q ql qs md qe n y (upd g 18 (-9)) (va_up (va_up (va_up (va_up (va_up a 12 (((rgo fuX (laX (g 3) (g 4) (a 2) (a 5)) n (dg 36 pn k) (xbeg n (a 3) ((a 12), (a 13), (a 14), (a 15), (a 16))) k).1).1)) 13 (((rgo fuX (laX (g 3) (g 4) (a 2) (a 5)) n (dg 36 pn k) (xbeg n (a 3) ((a 12), (a 13), (a 14), (a 15), (a 16))) k).1).2.1)) 14 (((rgo fuX (laX (g 3) (g 4) (a 2) (a 5)) n (dg 36 pn k) (xbeg n (a 3) ((a 12), (a 13), (a 14), (a 15), (a 16))) k).1).2.2.1)) 15 (((rgo fuX (laX (g 3) (g 4) (a 2) (a 5)) n (dg 36 pn k) (xbeg n (a 3) ((a 12), (a 13), (a 14), (a 15), (a 16))) k).1).2.2.2.1)) 16 (((rgo fuX (laX (g 3) (g 4) (a 2) (a 5)) n (dg 36 pn k) (xbeg n (a 3) ((a 12), (a 13), (a 14), (a 15), (a 16))) k).1).2.2.2.2))  hn6) (cwV 0 hts (lw_V q715 q717 qs21 q69 q718) rfl rfl rfl (by decide +kernel) ⟨Nat.le_of_ble_eq_true rfl, Nat.le_of_ble_eq_true rfl⟩) (gPV hK hP hD hE _) rfl rfl hl.1 rfl (lv_room (Nat.le_of_ble_eq_true rfl)) dX0_tryFrom_15 ⟨Nat.zero_le _, Nat.zero_le _⟩)).run (fun r hw => ?_)
      have hw : r = (mset (fun p => isMend ((a 4) p) (((rgo fuX (laX (g 3) (g 4) (a 2) (a 5)) n (dg 36 pn k) (xbeg n (a 3) ((a 12), (a 13), (a 14), (a 15), (a 16))) k).1).2.2.2.1 p)) n) := hw
      subst hw
      refine lv_aload_n hx hb dX0_tryFrom_18 rfl (lv_at hl 0 rfl) ?_
      refine g_get (v := .int (g 16)) hx hb hts hown hK hP 16 (by decide) rfl q165 rfl dX0_tryFrom_19 ?_
      refine lv_iand hx hb dX0_tryFrom_22 ?_
      refine lv_aload_n hx hb dX0_tryFrom_23 rfl (lv_at hl 0 rfl) ?_
      refine g_get (v := .int (g 16)) hx hb hts hown hK hP 16 (by decide) rfl q165 rfl dX0_tryFrom_24 ?_
      refine lv_icmp_ne (tgt := 34) hx hb dX0_tryFrom_27 (by decide) (fun c_15 => ?_) (fun c_15 => ?_)
      · skip
        refine lv_iconst (v := 0) hx hb dX0_tryFrom_34 (by decide) ?_
        refine lv_topi (fun z_16 ez_16 => ?_)
        have ez_16 : z_16 = (b2i (rowOk n (a 3) (a 4) (fun c => lastsV (a 2 c) (a 5 c)) (g 16) k (dg 36 pn k))) := ez_16.trans (by show _ = b2i (rowOk n (a 3) (a 4) (fun c => lastsV (a 2 c) (a 5 c)) (g 16) k (dg 36 pn k)); rw [← rowOk_x hn6 (fun j hj => laX_9 h3 _ _ _ j (by omega)) (a 12, a 13, a 14, a 15, a 16), c_13, Bool.true_and]; exact (congrArg b2i (decide_eq_false c_15)).symm)
        subst ez_16
        refine g_putz (v := (b2i (rowOk n (a 3) (a 4) (fun c => lastsV (a 2 c) (a 5 c)) (g 16) k (dg 36 pn k)))) hx hb hts hown hK hP hD hS 17 31 (by decide) rfl q166 rfl rfl (by decide +kernel) (b2i_or _) dX0_tryFrom_35 (fun H locs hP hD hS => ?_)
        exact W.vret hx hb hr (fun t ht hW => ⟨⟨((upd (upd g 18 (-9)) 31 (b2i (rowOk n (a 3) (a 4) (fun c => lastsV (a 2 c) (a 5 c)) (g 16) k (dg 36 pn k)))), (va_up (va_up (va_up (va_up (va_up a 12 (((rgo fuX (laX (g 3) (g 4) (a 2) (a 5)) n (dg 36 pn k) (xbeg n (a 3) ((a 12), (a 13), (a 14), (a 15), (a 16))) k).1).1)) 13 (((rgo fuX (laX (g 3) (g 4) (a 2) (a 5)) n (dg 36 pn k) (xbeg n (a 3) ((a 12), (a 13), (a 14), (a 15), (a 16))) k).1).2.1)) 14 (((rgo fuX (laX (g 3) (g 4) (a 2) (a 5)) n (dg 36 pn k) (xbeg n (a 3) ((a 12), (a 13), (a 14), (a 15), (a 16))) k).1).2.2.1)) 15 (((rgo fuX (laX (g 3) (g 4) (a 2) (a 5)) n (dg 36 pn k) (xbeg n (a 3) ((a 12), (a 13), (a 14), (a 15), (a 16))) k).1).2.2.2.1)) 16 (((rgo fuX (laX (g 3) (g 4) (a 2) (a 5)) n (dg 36 pn k) (xbeg n (a 3) ((a 12), (a 13), (a 14), (a 15), (a 16))) k).1).2.2.2.2))), rfl, ⟨((rgo fuX (laX (g 3) (g 4) (a 2) (a 5)) n (dg 36 pn k) (xbeg n (a 3) ((a 12), (a 13), (a 14), (a 15), (a 16))) k).1), (-9), a 19, (fun r => rowOk n (a 3) (a 4) (fun c => lastsV ((a 2) c) ((a 5) c)) (g 16) k (dg 36 r k)) pn, tfQ_leaf (ok := (fun r => rowOk n (a 3) (a 4) (fun c => lastsV ((a 2) c) ((a 5) c)) (g 16) k (dg 36 r k))) hpf, congrArg (Prod.mk _) (va_up_id _ 19).symm⟩, by rw [ht]; exact hP, va_K.moved hW.alike hK, hD⟩, hS.F ht⟩) hS.2.2 dX0_tryFrom_38
      · skip
        refine lv_iconst (v := 1) hx hb dX0_tryFrom_30 (by decide) ?_
        refine lv_goto (tgt := 35) hx hb dX0_tryFrom_31 (by decide) ?_
        refine lv_topi (fun z_17 ez_17 => ?_)
        have ez_17 : z_17 = (b2i (rowOk n (a 3) (a 4) (fun c => lastsV (a 2 c) (a 5 c)) (g 16) k (dg 36 pn k))) := ez_17.trans (by show _ = b2i (rowOk n (a 3) (a 4) (fun c => lastsV (a 2 c) (a 5 c)) (g 16) k (dg 36 pn k)); rw [← rowOk_x hn6 (fun j hj => laX_9 h3 _ _ _ j (by omega)) (a 12, a 13, a 14, a 15, a 16), c_13, Bool.true_and]; exact (congrArg b2i (decide_eq_true c_15)).symm)
        subst ez_17
        refine g_putz (v := (b2i (rowOk n (a 3) (a 4) (fun c => lastsV (a 2 c) (a 5 c)) (g 16) k (dg 36 pn k)))) hx hb hts hown hK hP hD hS 17 31 (by decide) rfl q166 rfl rfl (by decide +kernel) (b2i_or _) dX0_tryFrom_35 (fun H locs hP hD hS => ?_)
        exact W.vret hx hb hr (fun t ht hW => ⟨⟨((upd (upd g 18 (-9)) 31 (b2i (rowOk n (a 3) (a 4) (fun c => lastsV (a 2 c) (a 5 c)) (g 16) k (dg 36 pn k)))), (va_up (va_up (va_up (va_up (va_up a 12 (((rgo fuX (laX (g 3) (g 4) (a 2) (a 5)) n (dg 36 pn k) (xbeg n (a 3) ((a 12), (a 13), (a 14), (a 15), (a 16))) k).1).1)) 13 (((rgo fuX (laX (g 3) (g 4) (a 2) (a 5)) n (dg 36 pn k) (xbeg n (a 3) ((a 12), (a 13), (a 14), (a 15), (a 16))) k).1).2.1)) 14 (((rgo fuX (laX (g 3) (g 4) (a 2) (a 5)) n (dg 36 pn k) (xbeg n (a 3) ((a 12), (a 13), (a 14), (a 15), (a 16))) k).1).2.2.1)) 15 (((rgo fuX (laX (g 3) (g 4) (a 2) (a 5)) n (dg 36 pn k) (xbeg n (a 3) ((a 12), (a 13), (a 14), (a 15), (a 16))) k).1).2.2.2.1)) 16 (((rgo fuX (laX (g 3) (g 4) (a 2) (a 5)) n (dg 36 pn k) (xbeg n (a 3) ((a 12), (a 13), (a 14), (a 15), (a 16))) k).1).2.2.2.2))), rfl, ⟨((rgo fuX (laX (g 3) (g 4) (a 2) (a 5)) n (dg 36 pn k) (xbeg n (a 3) ((a 12), (a 13), (a 14), (a 15), (a 16))) k).1), (-9), a 19, (fun r => rowOk n (a 3) (a 4) (fun c => lastsV ((a 2) c) ((a 5) c)) (g 16) k (dg 36 r k)) pn, tfQ_leaf (ok := (fun r => rowOk n (a 3) (a 4) (fun c => lastsV ((a 2) c) ((a 5) c)) (g 16) k (dg 36 r k))) hpf, congrArg (Prod.mk _) (va_up_id _ 19).symm⟩, by rw [ht]; exact hP, va_K.moved hW.alike hK, hD⟩, hS.F ht⟩) hS.2.2 dX0_tryFrom_38
set_option maxHeartbeats 4000000 in
set_option maxRecDepth 100000 in
theorem metX0_tryFrom_3 (l : Launch) (dC : Nat → ClassId) (dI : Nat → Nat → Nat) (ct : Nat → ClassId) (A : Nat → Prop) (ex : va_W) (o : Nat) (q : Nat → Nat) (ql qs : Nat) (md : Int32) (qe n : Nat) (y : Nat → Nat) (g : Nat → Int32) (a : Nat → Nat → Int32) (x : Int32) (z : Int32) (k M pn : Nat) (hn6 : n ≤ 6) (ek : x = nI k) (eM : z = nI M) (hkM : k ≤ M) (hM3 : M ≤ 3) (hdp : M ≤ k + 3) (h3 : g 3 = -9) (hF0 : g 31 = 0) (hpf : prf n k pn (a 19)) : Met l yX0_tryFrom (ws_ yX0_tryFrom cX0_tryFrom 5 none) ({ frames := 10, cells := 0, slots := 0, locals := 217 }) (gPre dC dI ct A ex o q (ql, qs, md, qe, n) y g a [.ref o, .int x, .int z]) (va_Qv (fun (u : (Nat → Int32) × (Nat → Nat → Int32)) => ∃ (S : LnS (Nat → Int32)), ∃ (gv : Int32), ∃ (D : Nat → Int32), ∃ (fd : Bool), ∃ (hQ : tfQ (fun r => rowOk n (a 3) (a 4) (fun c => lastsV ((a 2) c) ((a 5) c)) (g 16) M (dg 36 r M)) k M (pn * 36 ^ (M - k)) ((pn + 1) * 36 ^ (M - k)) (a 19) D fd), u = ((upd (upd g 18 gv) 31 (b2i fd)), (va_up (va_up (va_up (va_up (va_up (va_up a 12 S.1) 13 S.2.1) 14 S.2.2.1) 15 S.2.2.2.1) 16 S.2.2.2.2) 19 D))) (gB dC dI ct A ex o q (ql, qs, md, qe, n) y) A) 0 0 A := by
  refine Met.ofW (cc := cX0_tryFrom) (maxL := 5) (ret := none) (by decide) rfl ?_
  intro p e s m args below meth c s₁ B hml hv
  obtain ⟨rfl, hP, hK, hD, hE⟩ := hv
  have hx := B.exec
  have hb := B.bytes
  have hr := B.returns
  have hts := atoms_spec (ws := ws_ yX0_tryFrom cX0_tryFrom 5 none) B.pre
  have hts : ∀ w ∈ lw_all, w.before _ s = true := fun w h => hts w (List.mem_cons_of_mem _ h)
  have hown : s.vm.findClass RX0 = some m.cls := findClass_of_methodNamed B.named
  have hlocks := B.notSynchronized
  have hS : va_S A s.heap s.heap [] := va_S.rf
  have hl := lv_entry ([.ref o, .int x, .int z]) (n := 5) (Nat.le_of_ble_eq_true rfl)
  rw [lg_entry_eq]
  generalize (lg_sl ([.ref o, .int x, .int z]) ++ List.replicate (5 - (lg_sl ([.ref o, .int x, .int z])).length) Slot.unset).toArray = ls at hl ⊢
  have hl : lv_has ls 5 [(0, .ref o), (1, .int x), (2, .int z)] := hl
  subst ek
  subst eM
  refine lv_iload_n hx hb dX0_tryFrom_0 rfl (lv_at hl 1 rfl) ?_
  refine lv_iload_n hx hb dX0_tryFrom_1 rfl (lv_at hl 2 rfl) ?_
  refine lv_icmp_ne (tgt := 39) hx hb dX0_tryFrom_2 (by decide) (fun c_1 => ?_) (fun c_1 => ?_)
  · skip
    have hkM2 : k < M := Nat.lt_of_le_of_ne hkM (fun z => c_1 (by rw [z]))
    refine lv_iconst (v := 0) hx hb dX0_tryFrom_39 (by decide) ?_
    refine lv_istore_n (lv' := [(3, .int 0), (0, .ref o), (1, .int (nI k)), (2, .int (nI M))]) hx hb dX0_tryFrom_40 rfl hl (by decide) rfl (fun ls hl => ?_)
    have loop1 : ∀ (f1 : Nat) (v : Nat) (S : LnS (Nat → Int32)) (gv : Int32) (D : Nat → Int32) (fd : Bool), (v ≤ n) → (n + 1 ≤ v + f1) → (tfQ (fun r => rowOk n (a 3) (a 4) (fun c => lastsV ((a 2) c) ((a 5) c)) (g 16) M (dg 36 r M)) k M ((36 * pn + 0) * 36 ^ (M - (k + 1))) ((36 * pn + 6 * v) * 36 ^ (M - (k + 1))) (a 19) D fd) → ∀ (H : Heap) (locs : List Loc), va_P (dC, dI) clA (xG ct o q (ql, qs, md, qe, n) y (upd (upd g 18 gv) 31 (b2i fd)) (va_up (va_up (va_up (va_up (va_up (va_up a 12 S.1) 13 S.2.1) 14 S.2.2.1) 15 S.2.2.2.1) 16 S.2.2.2.2) 19 D) ex) H → va_D A (xG ct o q (ql, qs, md, qe, n) y (upd (upd g 18 gv) 31 (b2i fd)) (va_up (va_up (va_up (va_up (va_up (va_up a 12 S.1) 13 S.2.1) 14 S.2.2.1) 15 S.2.2.2.1) 16 S.2.2.2.2) 19 D) ex) → va_S A s.heap H locs → ∀ (ls : Array Slot), lv_has ls 5 [(3, .int (nI v)), (2, .int (nI M)), (1, .int (nI k)), (0, .ref o)] → W p l e (headSpec (ws_ yX0_tryFrom cX0_tryFrom 5 none) ({ frames := 10, cells := 0, slots := 0, locals := 217 })).room s m ([.ref o, .int (nI k), .int (nI M)] : List Value).toArray below meth c H locs 0 0 (MQ below (va_Qv (fun (u : (Nat → Int32) × (Nat → Nat → Int32)) => ∃ (S : LnS (Nat → Int32)), ∃ (gv : Int32), ∃ (D : Nat → Int32), ∃ (fd : Bool), ∃ (hQ : tfQ (fun r => rowOk n (a 3) (a 4) (fun c => lastsV ((a 2) c) ((a 5) c)) (g 16) M (dg 36 r M)) k M (pn * 36 ^ (M - k)) ((pn + 1) * 36 ^ (M - k)) (a 19) D fd), u = ((upd (upd g 18 gv) 31 (b2i fd)), (va_up (va_up (va_up (va_up (va_up (va_up a 12 S.1) 13 S.2.1) 14 S.2.2.1) 15 S.2.2.2.1) 16 S.2.2.2.2) 19 D))) (gB dC dI ct A ex o q (ql, qs, md, qe, n) y) A) ([.ref o, .int (nI k), .int (nI M)] : List Value).toArray s 0 0 A) (F0 m 41 ls []) := by
      intro f1
      induction f1 with
      | zero => intro v S gv D fd hv hf hQ1; exact False.elim (by omega)
      | succ f1 ih1 =>
        intro v S gv D fd hv hf hQ1 H locs hP hD hS ls hl
        refine lv_iload_n hx hb dX0_tryFrom_41 rfl (lv_at hl 0 rfl) ?_
        refine lv_aload_n hx hb dX0_tryFrom_42 rfl (lv_at hl 3 rfl) ?_
        refine vp_callSi ((va_runV (As := []) (rest := [.int (nI v)]) ⟨hx, hb, hml, hown, hts⟩ (metX0_people l dC dI ct A (peW ct o qe n y (va_up (va_up (va_up (va_up (va_up (va_up a 12 S.1) 13 S.2.1) 14 S.2.2.1) 15 S.2.2.2.1) 16 S.2.2.2.2) 19 D) ++ ex) o q ql qs md qe n (upd (upd g 18 gv) 31 (b2i fd)) (va_up (va_up (va_up (va_up (va_up (va_up a 12 S.1) 13 S.2.1) 14 S.2.2.1) 15 S.2.2.2.1) 16 S.2.2.2.2) 19 D)  ) (cwV 0 hts (lw_V q593 q595 qs14 q69 q596) rfl rfl rfl (by decide +kernel) ⟨Nat.le_of_ble_eq_true rfl, Nat.le_of_ble_eq_true rfl⟩) (xPV hK hP hD hE _) rfl rfl hl.1 rfl (lv_room (Nat.le_of_ble_eq_true rfl)) dX0_tryFrom_43 ⟨Nat.zero_le _, Nat.zero_le _⟩)).run (fun r hw => ?_)
        have hw : r = (nI n) := hw
        subst hw
        refine lv_icmp_ge (tgt := 104) hx hb dX0_tryFrom_46 (by decide) (fun c_2 => ?_) (fun c_2 => ?_)
        · skip
          have hge : v = n := by exact Nat.le_antisymm (by omega) ((nI_leI (by omega) (by omega)).mp c_2)
          exact W.vret hx hb hr (fun t ht hW => ⟨⟨((upd (upd g 18 gv) 31 (b2i fd)), (va_up (va_up (va_up (va_up (va_up (va_up a 12 S.1) 13 S.2.1) 14 S.2.2.1) 15 S.2.2.2.1) 16 S.2.2.2.2) 19 D)), rfl, ⟨S, gv, D, fd, tfQ_lo (tfQ_ext hQ1 (nk_bad hkM2 (6 * v) 36 (by omega) (fun z h1 h2 h4 => by omega))) (lo_eq hkM2) (hi_eq hkM2), rfl⟩, by rw [ht]; exact hP, va_K.moved hW.alike hK, hD⟩, hS.F ht⟩) hS.2.2 dX0_tryFrom_104
        · skip
          have hlt : v < n := by exact Nat.lt_of_not_le (fun z => c_2 ((nI_leI (by omega) (by omega)).mpr z))
          refine lv_iload_n hx hb dX0_tryFrom_49 rfl (lv_at hl 0 rfl) ?_
          refine lv_iconst (v := 1) hx hb dX0_tryFrom_50 (by decide) ?_
          refine lv_iadd hx hb dX0_tryFrom_51 ?_
          refine lv_topi (fun z_3 ez_3 => ?_)
          have ez_3 : z_3 = (nI (v + 1)) := ez_3.trans (nI_1 v)
          subst ez_3
          refine lv_istore (lv' := [(4, .int (nI (v + 1))), (3, .int (nI v)), (2, .int (nI M)), (1, .int (nI k)), (0, .ref o)]) hx hb dX0_tryFrom_52 hl (by decide) rfl (fun ls hl => ?_)
          have loop2 : ∀ (f2 : Nat) (w1 : Nat) (S : LnS (Nat → Int32)) (gv : Int32) (D : Nat → Int32) (fd : Bool), (w1 ≤ n) → (v < w1) → (n + 1 ≤ w1 + f2) → (tfQ (fun r => rowOk n (a 3) (a 4) (fun c => lastsV ((a 2) c) ((a 5) c)) (g 16) M (dg 36 r M)) k M ((36 * pn + 0) * 36 ^ (M - (k + 1))) ((36 * pn + (6 * v + w1)) * 36 ^ (M - (k + 1))) (a 19) D fd) → ∀ (H : Heap) (locs : List Loc), va_P (dC, dI) clA (xG ct o q (ql, qs, md, qe, n) y (upd (upd g 18 gv) 31 (b2i fd)) (va_up (va_up (va_up (va_up (va_up (va_up a 12 S.1) 13 S.2.1) 14 S.2.2.1) 15 S.2.2.2.1) 16 S.2.2.2.2) 19 D) ex) H → va_D A (xG ct o q (ql, qs, md, qe, n) y (upd (upd g 18 gv) 31 (b2i fd)) (va_up (va_up (va_up (va_up (va_up (va_up a 12 S.1) 13 S.2.1) 14 S.2.2.1) 15 S.2.2.2.1) 16 S.2.2.2.2) 19 D) ex) → va_S A s.heap H locs → ∀ (ls : Array Slot), lv_has ls 5 [(4, .int (nI w1)), (3, .int (nI v)), (2, .int (nI M)), (1, .int (nI k)), (0, .ref o)] → W p l e (headSpec (ws_ yX0_tryFrom cX0_tryFrom 5 none) ({ frames := 10, cells := 0, slots := 0, locals := 217 })).room s m ([.ref o, .int (nI k), .int (nI M)] : List Value).toArray below meth c H locs 0 0 (MQ below (va_Qv (fun (u : (Nat → Int32) × (Nat → Nat → Int32)) => ∃ (S : LnS (Nat → Int32)), ∃ (gv : Int32), ∃ (D : Nat → Int32), ∃ (fd : Bool), ∃ (hQ : tfQ (fun r => rowOk n (a 3) (a 4) (fun c => lastsV ((a 2) c) ((a 5) c)) (g 16) M (dg 36 r M)) k M (pn * 36 ^ (M - k)) ((pn + 1) * 36 ^ (M - k)) (a 19) D fd), u = ((upd (upd g 18 gv) 31 (b2i fd)), (va_up (va_up (va_up (va_up (va_up (va_up a 12 S.1) 13 S.2.1) 14 S.2.2.1) 15 S.2.2.2.1) 16 S.2.2.2.2) 19 D))) (gB dC dI ct A ex o q (ql, qs, md, qe, n) y) A) ([.ref o, .int (nI k), .int (nI M)] : List Value).toArray s 0 0 A) (F0 m 54 ls []) := by
            intro f2
            induction f2 with
            | zero => intro w1 S gv D fd hw1 hvw hf2 hQ2; exact False.elim (by omega)
            | succ f2 ih2 =>
              intro w1 S gv D fd hw1 hvw hf2 hQ2 H locs hP hD hS ls hl
              refine lv_iload hx hb dX0_tryFrom_54 (lv_at hl 0 rfl) ?_
              refine lv_aload_n hx hb dX0_tryFrom_56 rfl (lv_at hl 4 rfl) ?_
              refine vp_callSi ((va_runV (As := []) (rest := [.int (nI w1)]) ⟨hx, hb, hml, hown, hts⟩ (metX0_people l dC dI ct A (peW ct o qe n y (va_up (va_up (va_up (va_up (va_up (va_up a 12 S.1) 13 S.2.1) 14 S.2.2.1) 15 S.2.2.2.1) 16 S.2.2.2.2) 19 D) ++ ex) o q ql qs md qe n (upd (upd g 18 gv) 31 (b2i fd)) (va_up (va_up (va_up (va_up (va_up (va_up a 12 S.1) 13 S.2.1) 14 S.2.2.1) 15 S.2.2.2.1) 16 S.2.2.2.2) 19 D)  ) (cwV 0 hts (lw_V q593 q595 qs14 q69 q596) rfl rfl rfl (by decide +kernel) ⟨Nat.le_of_ble_eq_true rfl, Nat.le_of_ble_eq_true rfl⟩) (xPV hK hP hD hE _) rfl rfl hl.1 rfl (lv_room (Nat.le_of_ble_eq_true rfl)) dX0_tryFrom_57 ⟨Nat.zero_le _, Nat.zero_le _⟩)).run (fun r hw => ?_)
              have hw : r = (nI n) := hw
              subst hw
              refine lv_icmp_ge (tgt := 98) hx hb dX0_tryFrom_60 (by decide) (fun c_4 => ?_) (fun c_4 => ?_)
              · skip
                have hge2 : w1 = n := by exact Nat.le_antisymm (by omega) ((nI_leI (by omega) (by omega)).mp c_4)
                refine lv_iinc (v := (nI (v + 1))) (lv' := [(3, .int (nI (v + 1))), (4, .int (nI w1)), (2, .int (nI M)), (1, .int (nI k)), (0, .ref o)]) hx hb dX0_tryFrom_98 hl (k := 1) rfl (nI_1 v) (by decide) rfl (fun ls hl => ?_)
                refine lv_goto (tgt := 41) hx hb dX0_tryFrom_101 (by decide) ?_
                exact ih1 (v + 1) S gv D fd (by omega) (by omega) (tfQ_ext hQ2 (nk_bad hkM2 (6 * v + w1) (6 * (v + 1)) (by omega) (fun z h1 h2 h4 => by omega))) _ _ hP hD hS _ (lv_sub hl [0, 2, 3, 4] rfl)
              · skip
                have hlt2 : w1 < n := by exact Nat.lt_of_not_le (fun z => c_4 ((nI_leI (by omega) (by omega)).mpr z))
                refine lv_aload_n hx hb dX0_tryFrom_63 rfl (lv_at hl 4 rfl) ?_
                refine g_get (v := .int (b2i fd)) hx hb hts hown hK hP 17 (by decide) rfl q166 rfl dX0_tryFrom_64 ?_
                refine bz_eq (tgt := 71) hx hb dX0_tryFrom_67 (by decide) (fun c_5 => ?_) (fun c_5 => ?_)
                · skip
                  refine lv_aload_n hx hb dX0_tryFrom_71 rfl (lv_at hl 4 rfl) ?_
                  refine g_get (v := .ref (q 19)) hx hb hts hown hK hP 15 (by decide) rfl q164 rfl dX0_tryFrom_72 ?_
                  refine lv_iload_n hx hb dX0_tryFrom_75 rfl (lv_at hl 3 rfl) ?_
                  refine lv_bipush (v := 10) hx hb dX0_tryFrom_76 (by decide) ?_
                  refine lv_iload_n hx hb dX0_tryFrom_78 rfl (lv_at hl 1 rfl) ?_
                  refine lv_imul hx hb dX0_tryFrom_79 ?_
                  refine lv_iload hx hb dX0_tryFrom_80 (lv_at hl 0 rfl) ?_
                  refine lv_iadd hx hb dX0_tryFrom_82 ?_
                  refine lv_topi (fun z_6 ez_6 => ?_)
                  have ez_6 : z_6 = (nI (10 * v + w1)) := ez_6.trans (ten_add v w1)
                  subst ez_6
                  refine g_ist (x := (nI (10 * v + w1))) hx hb hK hP hD hS (gWa19 _ _ _ _ _ _ _ _ _ _ _ _) (gWs19 _ _ _ _ _ _ _ _ _ _ _ _) D rfl k rfl (by omega) (by decide) dX0_tryFrom_83 (fun H locs hP hD hS => ?_)
                  have eW_7 : ∀ (zg18 : Int32) (zg31 : Int32) (za12 : Nat → Int32) (za13 : Nat → Int32) (za14 : Nat → Int32) (za15 : Nat → Int32) (za16 : Nat → Int32) (za19 : Nat → Int32) (zn : Nat → Int32), xG ct o q (ql, qs, md, qe, n) y (upd (upd g 18 zg18) 31 zg31) (va_up (va_up (va_up (va_up (va_up (va_up (va_up a 12 za12) 13 za13) 14 za14) 15 za15) 16 za16) 19 za19) 19 zn) ex = xG ct o q (ql, qs, md, qe, n) y (upd (upd g 18 zg18) 31 zg31) (va_up (va_up (va_up (va_up (va_up (va_up a 12 za12) 13 za13) 14 za14) 15 za15) 16 za16) 19 zn) ex := fun _ _ _ _ _ _ _ _ _ => rfl
                  have hP : va_P (dC, dI) clA (xG ct o q (ql, qs, md, qe, n) y (upd (upd g 18 gv) 31 (b2i fd)) (va_up (va_up (va_up (va_up (va_up (va_up a 12 S.1) 13 S.2.1) 14 S.2.2.1) 15 S.2.2.2.1) 16 S.2.2.2.2) 19 (upd D k (nI (10 * v + w1)))) ex) H := Eq.mp (congrArg (fun w => va_P (dC, dI) clA w H) (eW_7 gv (b2i fd) S.1 S.2.1 S.2.2.1 S.2.2.2.1 S.2.2.2.2 D (upd D k (nI (10 * v + w1))))) hP
                  have hD : va_D A (xG ct o q (ql, qs, md, qe, n) y (upd (upd g 18 gv) 31 (b2i fd)) (va_up (va_up (va_up (va_up (va_up (va_up a 12 S.1) 13 S.2.1) 14 S.2.2.1) 15 S.2.2.2.1) 16 S.2.2.2.2) 19 (upd D k (nI (10 * v + w1)))) ex) := Eq.mp (congrArg (fun w => va_D A w) (eW_7 gv (b2i fd) S.1 S.2.1 S.2.2.1 S.2.2.2.1 S.2.2.2.2 D (upd D k (nI (10 * v + w1))))) hD
                  refine lv_aload_n hx hb dX0_tryFrom_84 rfl (lv_at hl 4 rfl) ?_
                  refine lv_iload_n hx hb dX0_tryFrom_85 rfl (lv_at hl 3 rfl) ?_
                  refine lv_iconst (v := 1) hx hb dX0_tryFrom_86 (by decide) ?_
                  refine lv_iadd hx hb dX0_tryFrom_87 ?_
                  refine lv_iload_n hx hb dX0_tryFrom_88 rfl (lv_at hl 2 rfl) ?_
                  refine va_callv (va_runV (As := [.int ((nI k) + 1), .int (nI M)]) (rest := []) ⟨hx, hb, hml, hown, hts⟩ (metX0_tryFrom_2 l dC dI ct A ex o q ql qs md qe n y (upd (upd g 18 gv) 31 (b2i fd)) (va_up (va_up (va_up (va_up (va_up (va_up a 12 S.1) 13 S.2.1) 14 S.2.2.1) 15 S.2.2.2.1) 16 S.2.2.2.2) 19 (upd D k (nI (10 * v + w1)))) ((nI k) + 1) (nI M) (k + 1) M (36 * pn + (6 * v + w1)) hn6 (nI_1 k) rfl (by omega) hM3 (by omega) h3 (by show b2i fd = 0; rw [c_5]; rfl) (prf_app hn6 hpf (by rw [c_5] at hQ2; exact (tfQ_f hQ2).2) hvw hlt2)) (cwV 2 hts (lw_V q773 q775 qs29 q69 q776) rfl rfl rfl (by decide +kernel) ⟨Nat.le_of_ble_eq_true rfl, Nat.le_of_ble_eq_true rfl⟩) (gPV hK hP hD hE _) rfl rfl hl.1 rfl (lv_room (Nat.le_of_ble_eq_true rfl)) dX0_tryFrom_89 ⟨Nat.zero_le _, Nat.zero_le _⟩) hS (fun q _ h => h) (fun q h => h) (fun u t H1 locs ht hvm hw hB hz1 hk1 hS => ?_)
                  obtain ⟨S_8, gv_9, D_10, fd_11, hQ_12, hw⟩ := hw
                  subst hw
                  obtain ⟨hP, -, hD⟩ := hB
                  rw [ht] at hP
                  generalize H1 = H at hP hS ⊢
                  have hP : va_P (dC, dI) clA (xG ct o q (ql, qs, md, qe, n) y (upd (upd g 18 gv_9) 31 (b2i fd_11)) (va_up (va_up (va_up (va_up (va_up (va_up a 12 S_8.1) 13 S_8.2.1) 14 S_8.2.2.1) 15 S_8.2.2.2.1) 16 S_8.2.2.2.2) 19 D_10) ex) H := hP
                  have hD : va_D A (xG ct o q (ql, qs, md, qe, n) y (upd (upd g 18 gv_9) 31 (b2i fd_11)) (va_up (va_up (va_up (va_up (va_up (va_up a 12 S_8.1) 13 S_8.2.1) 14 S_8.2.2.1) 15 S_8.2.2.2.1) 16 S_8.2.2.2.2) 19 D_10) ex) := hD
                  refine lv_iinc (v := (nI (w1 + 1))) (lv' := [(4, .int (nI (w1 + 1))), (3, .int (nI v)), (2, .int (nI M)), (1, .int (nI k)), (0, .ref o)]) hx hb dX0_tryFrom_92 hl (k := 0) rfl (nI_1 w1) (by decide) rfl (fun ls hl => ?_)
                  refine lv_goto (tgt := 54) hx hb dX0_tryFrom_95 (by decide) ?_
                  exact ih2 (w1 + 1) S_8 gv_9 D_10 fd_11 (by omega) (by omega) (by omega) (tfQ_rec c_5 hQ2 (Nat.mul_le_mul_right _ (by omega)) hQ_12 (congrArg (fun z => z * 36 ^ (M - (k + 1))) (by omega))) _ _ hP hD hS _ (lv_sub hl [0, 1, 2, 3, 4] rfl)
                · skip
                  exact W.vret hx hb hr (fun t ht hW => ⟨⟨((upd (upd g 18 gv) 31 (b2i fd)), (va_up (va_up (va_up (va_up (va_up (va_up a 12 S.1) 13 S.2.1) 14 S.2.2.1) 15 S.2.2.2.1) 16 S.2.2.2.2) 19 D)), rfl, ⟨S, gv, D, fd, tfQ_lo (tfQ_all c_5 hQ2) (lo_eq hkM2) rfl, rfl⟩, by rw [ht]; exact hP, va_K.moved hW.alike hK, hD⟩, hS.F ht⟩) hS.2.2 dX0_tryFrom_70
          exact loop2 (n + 1) (v + 1) S gv D fd (by omega) (by omega) (by omega) (tfQ_ext hQ1 (nk_bad hkM2 (6 * v) (6 * v + (v + 1)) (by omega) (fun z h1 h2 h4 => by omega))) _ _ hP hD hS _ (lv_sub hl [0, 1, 2, 3, 4] rfl)
    exact loop1 (n + 1) 0 (a 12, a 13, a 14, a 15, a 16) (g 18) (a 19) false (by omega) (by omega) (by unfold tfQ; rw [if_neg (by decide)]; exact ⟨fun r h1 h2 => absurd (Nat.lt_of_le_of_lt h1 h2) (Nat.lt_irrefl _), fun _ _ => rfl⟩) _ _ (by rw [show b2i false = g 31 from hF0.symm]; exact hP) (by rw [show b2i false = g 31 from hF0.symm]; exact hD) hS _ (lv_sub hl [0, 3, 2, 1] rfl)
  · skip
    have hkM9 : k = M := (nI_eq (by omega) (by omega)).mp c_1
    subst hkM9
    refine lv_aload_n hx hb dX0_tryFrom_5 rfl (lv_at hl 0 rfl) ?_
    refine lv_aload_n hx hb dX0_tryFrom_6 rfl (lv_at hl 0 rfl) ?_
    refine lv_iload_n hx hb dX0_tryFrom_7 rfl (lv_at hl 2 rfl) ?_
    refine va_calli (va_runV (As := [.int (nI k)]) (rest := [.ref o]) ⟨hx, hb, hml, hown, hts⟩ (metX0_goRow l dC dI ct A ex o q ql qs md qe n y g a (nI k) k (dg 36 pn k) hn6 rfl hM3 hpf.2) (cwV 1 hts (lw_V q777 q779 qs30 q69 q780) rfl rfl rfl (by decide +kernel) ⟨Nat.le_of_ble_eq_true rfl, Nat.le_of_ble_eq_true rfl⟩) (gPV hK hP hD hE _) rfl rfl hl.1 rfl (lv_room (Nat.le_of_ble_eq_true rfl)) dX0_tryFrom_8 ⟨Nat.zero_le _, Nat.zero_le _⟩) hS (fun q _ h => h) (fun q h => h) (fun r u t H1 locs ht hvm hw hB hz1 hk1 hS => ?_)
    obtain ⟨hw, hw2⟩ := hw
    have hw : r = (b2i (rgo fuX (laX (g 3) (g 4) (a 2) (a 5)) n (dg 36 pn k) (xbeg n (a 3) ((a 12), (a 13), (a 14), (a 15), (a 16))) k).2) := hw
    subst hw
    subst hw2
    obtain ⟨hP, -, hD⟩ := hB
    rw [ht] at hP
    generalize H1 = H at hP hS ⊢
    have hP : va_P (dC, dI) clA (xG ct o q (ql, qs, md, qe, n) y (upd g 18 (-9)) (va_up (va_up (va_up (va_up (va_up a 12 (((rgo fuX (laX (g 3) (g 4) (a 2) (a 5)) n (dg 36 pn k) (xbeg n (a 3) ((a 12), (a 13), (a 14), (a 15), (a 16))) k).1).1)) 13 (((rgo fuX (laX (g 3) (g 4) (a 2) (a 5)) n (dg 36 pn k) (xbeg n (a 3) ((a 12), (a 13), (a 14), (a 15), (a 16))) k).1).2.1)) 14 (((rgo fuX (laX (g 3) (g 4) (a 2) (a 5)) n (dg 36 pn k) (xbeg n (a 3) ((a 12), (a 13), (a 14), (a 15), (a 16))) k).1).2.2.1)) 15 (((rgo fuX (laX (g 3) (g 4) (a 2) (a 5)) n (dg 36 pn k) (xbeg n (a 3) ((a 12), (a 13), (a 14), (a 15), (a 16))) k).1).2.2.2.1)) 16 (((rgo fuX (laX (g 3) (g 4) (a 2) (a 5)) n (dg 36 pn k) (xbeg n (a 3) ((a 12), (a 13), (a 14), (a 15), (a 16))) k).1).2.2.2.2)) ex) H := hP
    have hD : va_D A (xG ct o q (ql, qs, md, qe, n) y (upd g 18 (-9)) (va_up (va_up (va_up (va_up (va_up a 12 (((rgo fuX (laX (g 3) (g 4) (a 2) (a 5)) n (dg 36 pn k) (xbeg n (a 3) ((a 12), (a 13), (a 14), (a 15), (a 16))) k).1).1)) 13 (((rgo fuX (laX (g 3) (g 4) (a 2) (a 5)) n (dg 36 pn k) (xbeg n (a 3) ((a 12), (a 13), (a 14), (a 15), (a 16))) k).1).2.1)) 14 (((rgo fuX (laX (g 3) (g 4) (a 2) (a 5)) n (dg 36 pn k) (xbeg n (a 3) ((a 12), (a 13), (a 14), (a 15), (a 16))) k).1).2.2.1)) 15 (((rgo fuX (laX (g 3) (g 4) (a 2) (a 5)) n (dg 36 pn k) (xbeg n (a 3) ((a 12), (a 13), (a 14), (a 15), (a 16))) k).1).2.2.2.1)) 16 (((rgo fuX (laX (g 3) (g 4) (a 2) (a 5)) n (dg 36 pn k) (xbeg n (a 3) ((a 12), (a 13), (a 14), (a 15), (a 16))) k).1).2.2.2.2)) ex) := hD
    refine bz_eq (tgt := 34) hx hb dX0_tryFrom_11 (by decide) (fun c_13 => ?_) (fun c_13 => ?_)
    · skip
      refine lv_iconst (v := 0) hx hb dX0_tryFrom_34 (by decide) ?_
      refine lv_topi (fun z_14 ez_14 => ?_)
      have ez_14 : z_14 = (b2i (rowOk n (a 3) (a 4) (fun c => lastsV (a 2 c) (a 5 c)) (g 16) k (dg 36 pn k))) := ez_14.trans (by show _ = b2i (rowOk n (a 3) (a 4) (fun c => lastsV (a 2 c) (a 5 c)) (g 16) k (dg 36 pn k)); rw [← rowOk_x hn6 (fun j hj => laX_9 h3 _ _ _ j (by omega)) (a 12, a 13, a 14, a 15, a 16), c_13]; rfl)
      subst ez_14
      refine g_putz (v := (b2i (rowOk n (a 3) (a 4) (fun c => lastsV (a 2 c) (a 5 c)) (g 16) k (dg 36 pn k)))) hx hb hts hown hK hP hD hS 17 31 (by decide) rfl q166 rfl rfl (by decide +kernel) (b2i_or _) dX0_tryFrom_35 (fun H locs hP hD hS => ?_)
      exact W.vret hx hb hr (fun t ht hW => ⟨⟨((upd (upd g 18 (-9)) 31 (b2i (rowOk n (a 3) (a 4) (fun c => lastsV (a 2 c) (a 5 c)) (g 16) k (dg 36 pn k)))), (va_up (va_up (va_up (va_up (va_up a 12 (((rgo fuX (laX (g 3) (g 4) (a 2) (a 5)) n (dg 36 pn k) (xbeg n (a 3) ((a 12), (a 13), (a 14), (a 15), (a 16))) k).1).1)) 13 (((rgo fuX (laX (g 3) (g 4) (a 2) (a 5)) n (dg 36 pn k) (xbeg n (a 3) ((a 12), (a 13), (a 14), (a 15), (a 16))) k).1).2.1)) 14 (((rgo fuX (laX (g 3) (g 4) (a 2) (a 5)) n (dg 36 pn k) (xbeg n (a 3) ((a 12), (a 13), (a 14), (a 15), (a 16))) k).1).2.2.1)) 15 (((rgo fuX (laX (g 3) (g 4) (a 2) (a 5)) n (dg 36 pn k) (xbeg n (a 3) ((a 12), (a 13), (a 14), (a 15), (a 16))) k).1).2.2.2.1)) 16 (((rgo fuX (laX (g 3) (g 4) (a 2) (a 5)) n (dg 36 pn k) (xbeg n (a 3) ((a 12), (a 13), (a 14), (a 15), (a 16))) k).1).2.2.2.2))), rfl, ⟨((rgo fuX (laX (g 3) (g 4) (a 2) (a 5)) n (dg 36 pn k) (xbeg n (a 3) ((a 12), (a 13), (a 14), (a 15), (a 16))) k).1), (-9), a 19, (fun r => rowOk n (a 3) (a 4) (fun c => lastsV ((a 2) c) ((a 5) c)) (g 16) k (dg 36 r k)) pn, tfQ_leaf (ok := (fun r => rowOk n (a 3) (a 4) (fun c => lastsV ((a 2) c) ((a 5) c)) (g 16) k (dg 36 r k))) hpf, congrArg (Prod.mk _) (va_up_id _ 19).symm⟩, by rw [ht]; exact hP, va_K.moved hW.alike hK, hD⟩, hS.F ht⟩) hS.2.2 dX0_tryFrom_38
    · skip
      refine lv_aload_n hx hb dX0_tryFrom_14 rfl (lv_at hl 0 rfl) ?_
      refine vp_callSi ((va_runV (As := []) (rest := [.ref o]) ⟨hx, hb, hml, hown, hts⟩ (metX0_mended l dC dI ct A ex o q ql qs md qe n y (upd g 18 (-9)) (va_up (va_up (va_up (va_up (va_up a 12 (((rgo fuX (laX (g 3) (g 4) (a 2) (a 5)) n (dg 36 pn k) (xbeg n (a 3) ((a 12), (a 13), (a 14), (a 15), (a 16))) k).1).1)) 13 (((rgo fuX (laX (g 3) (g 4) (a 2) (a 5)) n (dg 36 pn k) (xbeg n (a 3) ((a 12), (a 13), (a 14), (a 15), (a 16))) k).1).2.1)) 14 (((rgo fuX (laX (g 3) (g 4) (a 2) (a 5)) n (dg 36 pn k) (xbeg n (a 3) ((a 12), (a 13), (a 14), (a 15), (a 16))) k).1).2.2.1)) 15 (((rgo fuX (laX (g 3) (g 4) (a 2) (a 5)) n (dg 36 pn k) (xbeg n (a 3) ((a 12), (a 13), (a 14), (a 15), (a 16))) k).1).2.2.2.1)) 16 (((rgo fuX (laX (g 3) (g 4) (a 2) (a 5)) n (dg 36 pn k) (xbeg n (a 3) ((a 12), (a 13), (a 14), (a 15), (a 16))) k).1).2.2.2.2))  hn6) (cwV 0 hts (lw_V q715 q717 qs21 q69 q718) rfl rfl rfl (by decide +kernel) ⟨Nat.le_of_ble_eq_true rfl, Nat.le_of_ble_eq_true rfl⟩) (gPV hK hP hD hE _) rfl rfl hl.1 rfl (lv_room (Nat.le_of_ble_eq_true rfl)) dX0_tryFrom_15 ⟨Nat.zero_le _, Nat.zero_le _⟩)).run (fun r hw => ?_)
      have hw : r = (mset (fun p => isMend ((a 4) p) (((rgo fuX (laX (g 3) (g 4) (a 2) (a 5)) n (dg 36 pn k) (xbeg n (a 3) ((a 12), (a 13), (a 14), (a 15), (a 16))) k).1).2.2.2.1 p)) n) := hw
      subst hw
      refine lv_aload_n hx hb dX0_tryFrom_18 rfl (lv_at hl 0 rfl) ?_
      refine g_get (v := .int (g 16)) hx hb hts hown hK hP 16 (by decide) rfl q165 rfl dX0_tryFrom_19 ?_
      refine lv_iand hx hb dX0_tryFrom_22 ?_
      refine lv_aload_n hx hb dX0_tryFrom_23 rfl (lv_at hl 0 rfl) ?_
      refine g_get (v := .int (g 16)) hx hb hts hown hK hP 16 (by decide) rfl q165 rfl dX0_tryFrom_24 ?_
      refine lv_icmp_ne (tgt := 34) hx hb dX0_tryFrom_27 (by decide) (fun c_15 => ?_) (fun c_15 => ?_)
      · skip
        refine lv_iconst (v := 0) hx hb dX0_tryFrom_34 (by decide) ?_
        refine lv_topi (fun z_16 ez_16 => ?_)
        have ez_16 : z_16 = (b2i (rowOk n (a 3) (a 4) (fun c => lastsV (a 2 c) (a 5 c)) (g 16) k (dg 36 pn k))) := ez_16.trans (by show _ = b2i (rowOk n (a 3) (a 4) (fun c => lastsV (a 2 c) (a 5 c)) (g 16) k (dg 36 pn k)); rw [← rowOk_x hn6 (fun j hj => laX_9 h3 _ _ _ j (by omega)) (a 12, a 13, a 14, a 15, a 16), c_13, Bool.true_and]; exact (congrArg b2i (decide_eq_false c_15)).symm)
        subst ez_16
        refine g_putz (v := (b2i (rowOk n (a 3) (a 4) (fun c => lastsV (a 2 c) (a 5 c)) (g 16) k (dg 36 pn k)))) hx hb hts hown hK hP hD hS 17 31 (by decide) rfl q166 rfl rfl (by decide +kernel) (b2i_or _) dX0_tryFrom_35 (fun H locs hP hD hS => ?_)
        exact W.vret hx hb hr (fun t ht hW => ⟨⟨((upd (upd g 18 (-9)) 31 (b2i (rowOk n (a 3) (a 4) (fun c => lastsV (a 2 c) (a 5 c)) (g 16) k (dg 36 pn k)))), (va_up (va_up (va_up (va_up (va_up a 12 (((rgo fuX (laX (g 3) (g 4) (a 2) (a 5)) n (dg 36 pn k) (xbeg n (a 3) ((a 12), (a 13), (a 14), (a 15), (a 16))) k).1).1)) 13 (((rgo fuX (laX (g 3) (g 4) (a 2) (a 5)) n (dg 36 pn k) (xbeg n (a 3) ((a 12), (a 13), (a 14), (a 15), (a 16))) k).1).2.1)) 14 (((rgo fuX (laX (g 3) (g 4) (a 2) (a 5)) n (dg 36 pn k) (xbeg n (a 3) ((a 12), (a 13), (a 14), (a 15), (a 16))) k).1).2.2.1)) 15 (((rgo fuX (laX (g 3) (g 4) (a 2) (a 5)) n (dg 36 pn k) (xbeg n (a 3) ((a 12), (a 13), (a 14), (a 15), (a 16))) k).1).2.2.2.1)) 16 (((rgo fuX (laX (g 3) (g 4) (a 2) (a 5)) n (dg 36 pn k) (xbeg n (a 3) ((a 12), (a 13), (a 14), (a 15), (a 16))) k).1).2.2.2.2))), rfl, ⟨((rgo fuX (laX (g 3) (g 4) (a 2) (a 5)) n (dg 36 pn k) (xbeg n (a 3) ((a 12), (a 13), (a 14), (a 15), (a 16))) k).1), (-9), a 19, (fun r => rowOk n (a 3) (a 4) (fun c => lastsV ((a 2) c) ((a 5) c)) (g 16) k (dg 36 r k)) pn, tfQ_leaf (ok := (fun r => rowOk n (a 3) (a 4) (fun c => lastsV ((a 2) c) ((a 5) c)) (g 16) k (dg 36 r k))) hpf, congrArg (Prod.mk _) (va_up_id _ 19).symm⟩, by rw [ht]; exact hP, va_K.moved hW.alike hK, hD⟩, hS.F ht⟩) hS.2.2 dX0_tryFrom_38
      · skip
        refine lv_iconst (v := 1) hx hb dX0_tryFrom_30 (by decide) ?_
        refine lv_goto (tgt := 35) hx hb dX0_tryFrom_31 (by decide) ?_
        refine lv_topi (fun z_17 ez_17 => ?_)
        have ez_17 : z_17 = (b2i (rowOk n (a 3) (a 4) (fun c => lastsV (a 2 c) (a 5 c)) (g 16) k (dg 36 pn k))) := ez_17.trans (by show _ = b2i (rowOk n (a 3) (a 4) (fun c => lastsV (a 2 c) (a 5 c)) (g 16) k (dg 36 pn k)); rw [← rowOk_x hn6 (fun j hj => laX_9 h3 _ _ _ j (by omega)) (a 12, a 13, a 14, a 15, a 16), c_13, Bool.true_and]; exact (congrArg b2i (decide_eq_true c_15)).symm)
        subst ez_17
        refine g_putz (v := (b2i (rowOk n (a 3) (a 4) (fun c => lastsV (a 2 c) (a 5 c)) (g 16) k (dg 36 pn k)))) hx hb hts hown hK hP hD hS 17 31 (by decide) rfl q166 rfl rfl (by decide +kernel) (b2i_or _) dX0_tryFrom_35 (fun H locs hP hD hS => ?_)
        exact W.vret hx hb hr (fun t ht hW => ⟨⟨((upd (upd g 18 (-9)) 31 (b2i (rowOk n (a 3) (a 4) (fun c => lastsV (a 2 c) (a 5 c)) (g 16) k (dg 36 pn k)))), (va_up (va_up (va_up (va_up (va_up a 12 (((rgo fuX (laX (g 3) (g 4) (a 2) (a 5)) n (dg 36 pn k) (xbeg n (a 3) ((a 12), (a 13), (a 14), (a 15), (a 16))) k).1).1)) 13 (((rgo fuX (laX (g 3) (g 4) (a 2) (a 5)) n (dg 36 pn k) (xbeg n (a 3) ((a 12), (a 13), (a 14), (a 15), (a 16))) k).1).2.1)) 14 (((rgo fuX (laX (g 3) (g 4) (a 2) (a 5)) n (dg 36 pn k) (xbeg n (a 3) ((a 12), (a 13), (a 14), (a 15), (a 16))) k).1).2.2.1)) 15 (((rgo fuX (laX (g 3) (g 4) (a 2) (a 5)) n (dg 36 pn k) (xbeg n (a 3) ((a 12), (a 13), (a 14), (a 15), (a 16))) k).1).2.2.2.1)) 16 (((rgo fuX (laX (g 3) (g 4) (a 2) (a 5)) n (dg 36 pn k) (xbeg n (a 3) ((a 12), (a 13), (a 14), (a 15), (a 16))) k).1).2.2.2.2))), rfl, ⟨((rgo fuX (laX (g 3) (g 4) (a 2) (a 5)) n (dg 36 pn k) (xbeg n (a 3) ((a 12), (a 13), (a 14), (a 15), (a 16))) k).1), (-9), a 19, (fun r => rowOk n (a 3) (a 4) (fun c => lastsV ((a 2) c) ((a 5) c)) (g 16) k (dg 36 r k)) pn, tfQ_leaf (ok := (fun r => rowOk n (a 3) (a 4) (fun c => lastsV ((a 2) c) ((a 5) c)) (g 16) k (dg 36 r k))) hpf, congrArg (Prod.mk _) (va_up_id _ 19).symm⟩, by rw [ht]; exact hP, va_K.moved hW.alike hK, hD⟩, hS.F ht⟩) hS.2.2 dX0_tryFrom_38
set_option maxHeartbeats 4000000 in
set_option maxRecDepth 100000 in
theorem metX0_fewestOf (l : Launch) (dC : Nat → ClassId) (dI : Nat → Nat → Nat) (ct : Nat → ClassId) (A : Nat → Prop) (ex : va_W) (o : Nat) (q : Nat → Nat) (ql qs : Nat) (md : Int32) (qe n : Nat) (y : Nat → Nat) (g : Nat → Int32) (a : Nat → Nat → Int32) (set : Int32) (hn6 : n ≤ 6) (h3 : g 3 = -9) : Met l yX0_fewestOf (ws_ yX0_fewestOf cX0_fewestOf 3 (some .int)) ({ frames := 11, cells := 0, slots := 0, locals := 241 }) (gPre dC dI ct A ex o q (ql, qs, md, qe, n) y g a [.ref o, .int set]) (va_Qi (fun (r : Int32) (u : (Nat → Int32) × (Nat → Nat → Int32)) => r = (fewN (few (fun m r => rowOk n (a 3) (a 4) (fun c => lastsV ((a 2) c) ((a 5) c)) set m (dg 36 r m)) 4)) ∧ ∃ (S : LnS (Nat → Int32)), ∃ (gv : Int32), ∃ (D : Nat → Int32), ∃ (fd : Bool), ∃ (hR : fewR (few (fun m r => rowOk n (a 3) (a 4) (fun c => lastsV (a 2 c) (a 5 c)) set m (dg 36 r m)) 4) D), u = ((upd (upd (upd g 16 set) 18 gv) 31 (b2i fd)), (va_up (va_up (va_up (va_up (va_up (va_up a 12 S.1) 13 S.2.1) 14 S.2.2.1) 15 S.2.2.2.1) 16 S.2.2.2.2) 19 D))) (gB dC dI ct A ex o q (ql, qs, md, qe, n) y) A) 0 0 A := by
  refine Met.ofW (cc := cX0_fewestOf) (maxL := 3) (ret := (some .int)) (by decide) rfl ?_
  intro p e s m args below meth c s₁ B hml hv
  obtain ⟨rfl, hP, hK, hD, hE⟩ := hv
  have hx := B.exec
  have hb := B.bytes
  have hr := B.returns
  have hts := atoms_spec (ws := ws_ yX0_fewestOf cX0_fewestOf 3 (some .int)) B.pre
  have hts : ∀ w ∈ lw_all, w.before _ s = true := fun w h => hts w (List.mem_cons_of_mem _ h)
  have hown : s.vm.findClass RX0 = some m.cls := findClass_of_methodNamed B.named
  have hlocks := B.notSynchronized
  have hS : va_S A s.heap s.heap [] := va_S.rf
  have hl := lv_entry ([.ref o, .int set]) (n := 3) (Nat.le_of_ble_eq_true rfl)
  rw [lg_entry_eq]
  generalize (lg_sl ([.ref o, .int set]) ++ List.replicate (3 - (lg_sl ([.ref o, .int set])).length) Slot.unset).toArray = ls at hl ⊢
  have hl : lv_has ls 3 [(0, .ref o), (1, .int set)] := hl
  refine lv_aload_n hx hb dX0_fewestOf_0 rfl (lv_at hl 0 rfl) ?_
  refine lv_iload_n hx hb dX0_fewestOf_1 rfl (lv_at hl 1 rfl) ?_
  refine g_put (v := set) hx hb hts hown hK hP hD hS 16 16 (by decide) rfl q165 rfl rfl (by decide +kernel) dX0_fewestOf_2 (fun H locs hP hD hS => ?_)
  refine lv_aload_n hx hb dX0_fewestOf_5 rfl (lv_at hl 0 rfl) ?_
  refine lv_iconst (v := 0) hx hb dX0_fewestOf_6 (by decide) ?_
  refine g_putz (v := 0) hx hb hts hown hK hP hD hS 17 31 (by decide) rfl q166 rfl rfl (by decide +kernel) (Or.inl rfl) dX0_fewestOf_7 (fun H locs hP hD hS => ?_)
  refine lv_iconst (v := 0) hx hb dX0_fewestOf_10 (by decide) ?_
  refine lv_istore_n (lv' := [(2, .int 0), (0, .ref o), (1, .int set)]) hx hb dX0_fewestOf_11 rfl hl (by decide) rfl (fun ls hl => ?_)
  have loop1 : ∀ (f1 : Nat) (i : Nat) (S : LnS (Nat → Int32)) (gv : Int32) (D : Nat → Int32), (i ≤ 4) → (5 ≤ i + f1) → (∀ m1, m1 < i → ∀ r1, r1 < 36 ^ m1 → (fun m r => rowOk n (a 3) (a 4) (fun c => lastsV ((a 2) c) ((a 5) c)) set m (dg 36 r m)) m1 r1 = false) → ∀ (H : Heap) (locs : List Loc), va_P (dC, dI) clA (xG ct o q (ql, qs, md, qe, n) y (upd (upd (upd g 16 set) 18 gv) 31 (b2i false)) (va_up (va_up (va_up (va_up (va_up (va_up a 12 S.1) 13 S.2.1) 14 S.2.2.1) 15 S.2.2.2.1) 16 S.2.2.2.2) 19 D) ex) H → va_D A (xG ct o q (ql, qs, md, qe, n) y (upd (upd (upd g 16 set) 18 gv) 31 (b2i false)) (va_up (va_up (va_up (va_up (va_up (va_up a 12 S.1) 13 S.2.1) 14 S.2.2.1) 15 S.2.2.2.1) 16 S.2.2.2.2) 19 D) ex) → va_S A s.heap H locs → ∀ (ls : Array Slot), lv_has ls 3 [(2, .int (nI i)), (1, .int set), (0, .ref o)] → W p l e (headSpec (ws_ yX0_fewestOf cX0_fewestOf 3 (some .int)) ({ frames := 11, cells := 0, slots := 0, locals := 241 })).room s m ([.ref o, .int set] : List Value).toArray below meth c H locs 0 0 (MQ below (va_Qi (fun (r : Int32) (u : (Nat → Int32) × (Nat → Nat → Int32)) => r = (fewN (few (fun m r => rowOk n (a 3) (a 4) (fun c => lastsV ((a 2) c) ((a 5) c)) set m (dg 36 r m)) 4)) ∧ ∃ (S : LnS (Nat → Int32)), ∃ (gv : Int32), ∃ (D : Nat → Int32), ∃ (fd : Bool), ∃ (hR : fewR (few (fun m r => rowOk n (a 3) (a 4) (fun c => lastsV (a 2 c) (a 5 c)) set m (dg 36 r m)) 4) D), u = ((upd (upd (upd g 16 set) 18 gv) 31 (b2i fd)), (va_up (va_up (va_up (va_up (va_up (va_up a 12 S.1) 13 S.2.1) 14 S.2.2.1) 15 S.2.2.2.1) 16 S.2.2.2.2) 19 D))) (gB dC dI ct A ex o q (ql, qs, md, qe, n) y) A) ([.ref o, .int set] : List Value).toArray s 0 0 A) (F0 m 12 ls []) := by
    intro f1
    induction f1 with
    | zero => intro i S gv D hi hf hmb; exact False.elim (by omega)
    | succ f1 ih1 =>
      intro i S gv D hi hf hmb H locs hP hD hS ls hl
      refine lv_iload_n hx hb dX0_fewestOf_12 rfl (lv_at hl 0 rfl) ?_
      refine lv_iconst (v := 3) hx hb dX0_fewestOf_13 (by decide) ?_
      refine lv_icmp_gt (tgt := 38) hx hb dX0_fewestOf_14 (by decide) (fun c_1 => ?_) (fun c_1 => ?_)
      · skip
        have hge : i = 4 := by have := (nI_ltI (a := 3) (by omega) (by omega)).mp c_1; omega
        refine lv_bipush (v := (-9)) hx hb dX0_fewestOf_38 (by decide) ?_
        exact W.iret (v := (-9)) hx hb hr (fun t ht hW => ⟨⟨(-9), ((upd (upd (upd g 16 set) 18 gv) 31 (b2i false)), (va_up (va_up (va_up (va_up (va_up (va_up a 12 S.1) 13 S.2.1) 14 S.2.2.1) 15 S.2.2.2.1) 16 S.2.2.2.2) 19 D)), rfl, ⟨(by rw [few_none (fun m1 h1 => hmb m1 (by omega))]; rfl), ⟨S, gv, D, false, by rw [few_none (fun m1 h1 => hmb m1 (by omega))]; exact trivial, rfl⟩⟩, by rw [ht]; exact hP, va_K.moved hW.alike hK, hD⟩, hS.F ht⟩) hS.2.2 dX0_fewestOf_40
      · skip
        have hlt : i ≤ 3 := Nat.le_of_not_lt (fun z => c_1 (nI_lt (a := 3) z (by omega)))
        refine lv_aload_n hx hb dX0_fewestOf_17 rfl (lv_at hl 2 rfl) ?_
        refine lv_iconst (v := 0) hx hb dX0_fewestOf_18 (by decide) ?_
        refine lv_iload_n hx hb dX0_fewestOf_19 rfl (lv_at hl 0 rfl) ?_
        refine va_callv (va_runV (As := [.int 0, .int (nI i)]) (rest := []) ⟨hx, hb, hml, hown, hts⟩ (metX0_tryFrom_3 l dC dI ct A ex o q ql qs md qe n y (upd (upd (upd g 16 set) 18 gv) 31 (b2i false)) (va_up (va_up (va_up (va_up (va_up (va_up a 12 S.1) 13 S.2.1) 14 S.2.2.1) 15 S.2.2.2.1) 16 S.2.2.2.2) 19 D) 0 (nI i) 0 i 0 hn6 rfl rfl (by omega) (by omega) (by omega) h3 rfl (prf_0 _ _)) (cwV 2 hts (lw_V q773 q775 qs29 q69 q776) rfl rfl rfl (by decide +kernel) ⟨Nat.le_of_ble_eq_true rfl, Nat.le_of_ble_eq_true rfl⟩) (gPV hK hP hD hE _) rfl rfl hl.1 rfl (lv_room (Nat.le_of_ble_eq_true rfl)) dX0_fewestOf_20 ⟨Nat.zero_le _, Nat.zero_le _⟩) hS (fun q _ h => h) (fun q h => h) (fun u t H1 locs ht hvm hw hB hz1 hk1 hS => ?_)
        obtain ⟨S_2, gv_3, D_4, fd_5, hQ_6, hw⟩ := hw
        subst hw
        obtain ⟨hP, -, hD⟩ := hB
        rw [ht] at hP
        generalize H1 = H at hP hS ⊢
        have hP : va_P (dC, dI) clA (xG ct o q (ql, qs, md, qe, n) y (upd (upd (upd g 16 set) 18 gv_3) 31 (b2i fd_5)) (va_up (va_up (va_up (va_up (va_up (va_up a 12 S_2.1) 13 S_2.2.1) 14 S_2.2.2.1) 15 S_2.2.2.2.1) 16 S_2.2.2.2.2) 19 D_4) ex) H := hP
        have hD : va_D A (xG ct o q (ql, qs, md, qe, n) y (upd (upd (upd g 16 set) 18 gv_3) 31 (b2i fd_5)) (va_up (va_up (va_up (va_up (va_up (va_up a 12 S_2.1) 13 S_2.2.1) 14 S_2.2.2.1) 15 S_2.2.2.2.1) 16 S_2.2.2.2.2) 19 D_4) ex) := hD
        refine lv_aload_n hx hb dX0_fewestOf_23 rfl (lv_at hl 2 rfl) ?_
        refine g_get (v := .int (b2i fd_5)) hx hb hts hown hK hP 17 (by decide) rfl q166 rfl dX0_fewestOf_24 ?_
        refine bz_eq (tgt := 32) hx hb dX0_fewestOf_27 (by decide) (fun c_7 => ?_) (fun c_7 => ?_)
        · skip
          have hq9 := hQ_6
          rw [c_7] at hq9
          have hnk := (tfQ_f hq9).1
          refine lv_iinc (v := (nI (i + 1))) (lv' := [(2, .int (nI (i + 1))), (1, .int set), (0, .ref o)]) hx hb dX0_fewestOf_32 hl (k := 0) rfl (nI_1 i) (by decide) rfl (fun ls hl => ?_)
          refine lv_goto (tgt := 12) hx hb dX0_fewestOf_35 (by decide) ?_
          exact ih1 (i + 1) S_2 gv_3 D_4 (by omega) (by omega) (fun m1 h1 r1 h2 => (Nat.eq_or_lt_of_le (Nat.le_of_lt_succ h1)).elim (fun e9 => by subst e9; exact hnk r1 (by rw [Nat.zero_mul]; exact Nat.zero_le _) (by rw [Nat.zero_add, Nat.one_mul, Nat.sub_zero]; exact h2)) (fun h9 => hmb m1 h9 r1 h2)) _ _ (by rw [← c_7]; exact hP) (by rw [← c_7]; exact hD) hS _ (lv_sub hl [0, 1, 2] rfl)
        · skip
          have hq9 := hQ_6
          rw [c_7] at hq9
          obtain ⟨rr, r1, r2, r3, r4, r5⟩ := tfQ_t hq9
          have eF : few (fun m r => rowOk n (a 3) (a 4) (fun c => lastsV ((a 2) c) ((a 5) c)) set m (dg 36 r m)) 4 = some (i, rr) := few_some r3 r2 (fun t ht => r4 t (by omega) ht) hmb (by omega)
          refine lv_iload_n hx hb dX0_fewestOf_30 rfl (lv_at hl 0 rfl) ?_
          exact W.iret (v := (nI i)) hx hb hr (fun t ht hW => ⟨⟨(nI i), ((upd (upd (upd g 16 set) 18 gv_3) 31 (b2i fd_5)), (va_up (va_up (va_up (va_up (va_up (va_up a 12 S_2.1) 13 S_2.2.1) 14 S_2.2.2.1) 15 S_2.2.2.2.1) 16 S_2.2.2.2.2) 19 D_4)), rfl, ⟨(by rw [eF]; rfl), ⟨S_2, gv_3, D_4, fd_5, by rw [eF]; exact ⟨by omega, r5⟩, rfl⟩⟩, by rw [ht]; exact hP, va_K.moved hW.alike hK, hD⟩, hS.F ht⟩) hS.2.2 dX0_fewestOf_31
  exact loop1 5 0 (a 12, a 13, a 14, a 15, a 16) (g 18) (a 19) (by omega) (by omega) (fun m1 h1 => absurd h1 (by omega)) _ _ hP hD hS _ (lv_sub hl [0, 2, 1] rfl)
set_option maxHeartbeats 4000000 in
set_option maxRecDepth 100000 in
theorem metX0_fewest (l : Launch) (dC : Nat → ClassId) (dI : Nat → Nat → Nat) (ct : Nat → ClassId) (A : Nat → Prop) (ex : va_W) (o : Nat) (q : Nat → Nat) (ql qs : Nat) (md : Int32) (qe n : Nat) (y : Nat → Nat) (g : Nat → Int32) (a : Nat → Nat → Int32) (set : Int32) (k : Int32) (hn6 : n ≤ 6) (h3 : g 3 = -9) (hfz : ∃ z9 : Bool, g 31 = b2i z9) : Met l yX0_fewest (ws_ yX0_fewest cX0_fewest 4 (some .int)) ({ frames := 12, cells := 0, slots := 0, locals := 263 }) (gPre dC dI ct A ex o q (ql, qs, md, qe, n) y g a [.ref o, .int set, .int k]) (va_Qi (fun (r : Int32) (u : (Nat → Int32) × (Nat → Nat → Int32)) => r = (M_fewest n a set k) ∧ ∃ (sv : Int32), ∃ (S : LnS (Nat → Int32)), ∃ (gv : Int32), ∃ (D : Nat → Int32), ∃ (fd : Bool), u = ((upd (upd (upd g 16 sv) 18 gv) 31 (b2i fd)), (va_up (va_up (va_up (va_up (va_up (va_up a 12 S.1) 13 S.2.1) 14 S.2.2.1) 15 S.2.2.2.1) 16 S.2.2.2.2) 19 D))) (gB dC dI ct A ex o q (ql, qs, md, qe, n) y) A) 0 0 A := by
  refine Met.ofW (cc := cX0_fewest) (maxL := 4) (ret := (some .int)) (by decide) rfl ?_
  intro p e s m args below meth c s₁ B hml hv
  obtain ⟨rfl, hP, hK, hD, hE⟩ := hv
  have hx := B.exec
  have hb := B.bytes
  have hr := B.returns
  have hts := atoms_spec (ws := ws_ yX0_fewest cX0_fewest 4 (some .int)) B.pre
  have hts : ∀ w ∈ lw_all, w.before _ s = true := fun w h => hts w (List.mem_cons_of_mem _ h)
  have hown : s.vm.findClass RX0 = some m.cls := findClass_of_methodNamed B.named
  have hlocks := B.notSynchronized
  have hS : va_S A s.heap s.heap [] := va_S.rf
  have hl := lv_entry ([.ref o, .int set, .int k]) (n := 4) (Nat.le_of_ble_eq_true rfl)
  rw [lg_entry_eq]
  generalize (lg_sl ([.ref o, .int set, .int k]) ++ List.replicate (4 - (lg_sl ([.ref o, .int set, .int k])).length) Slot.unset).toArray = ls at hl ⊢
  have hl : lv_has ls 4 [(0, .ref o), (1, .int set), (2, .int k)] := hl
  refine lv_aload_n hx hb dX0_fewest_0 rfl (lv_at hl 0 rfl) ?_
  refine vp_callSi ((va_runV (As := []) (rest := []) ⟨hx, hb, hml, hown, hts⟩ (metX0_isCounter l dC dI ct A (peW ct o qe n y a ++ ex) o q ql qs md qe n g a  hn6) (cwV 0 hts (lw_V q672 q674 qs15 q69 q675) rfl rfl rfl (by decide +kernel) ⟨Nat.le_of_ble_eq_true rfl, Nat.le_of_ble_eq_true rfl⟩) (xPV hK hP hD hE _) rfl rfl hl.1 rfl (lv_room (Nat.le_of_ble_eq_true rfl)) dX0_fewest_1 ⟨Nat.zero_le _, Nat.zero_le _⟩)).run (fun r hw => ?_)
  have hw : r = (b2i (!(decide (n = 0)))) := hw
  subst hw
  refine bz_ne (tgt := 10) hx hb dX0_fewest_4 (by decide) (fun c_1 => ?_) (fun c_1 => ?_)
  · skip
    have hn0 : ¬ n = 0 := by simpa using c_1
    refine lv_iload_n hx hb dX0_fewest_10 rfl (lv_at hl 2 rfl) ?_
    refine lv_i2l (v := (Int32.toInt64 k)) hx hb dX0_fewest_11 rfl ?_
    refine lv_ldc2 (v := (-1)) hx hb hown (hts _ q768) dX0_fewest_12 ?_
    refine lv_ldc2 (v := 2) hx hb hown (hts _ q386) dX0_fewest_15 ?_
    refine vp_callSi ((va_runS (As := [.long (Int32.toInt64 k), .long (-1), .long 2]) (rest := []) ⟨hx, hb, hml, hown, hts⟩ (metX0_isIn l (Int32.toInt64 k) (-1) 2 ) (va_cwS 3 hts (lw_S q380 q381 q69 q382) rfl rfl rfl (by decide +kernel) ⟨Nat.le_of_ble_eq_true rfl, Nat.le_of_ble_eq_true rfl⟩) (pcS _) rfl rfl hl.1 rfl (lv_room (Nat.le_of_ble_eq_true rfl)) dX0_fewest_18 ⟨Nat.zero_le _, Nat.zero_le _⟩)).run (fun r hw => ?_)
    have hw : r = (b2i (lin (Int32.toInt64 k) (-1) 2)) := hw
    subst hw
    refine bz_eq (tgt := 38) hx hb dX0_fewest_21 (by decide) (fun c_2 => ?_) (fun c_2 => ?_)
    · skip
      refine lv_bipush (v := (-2)) hx hb dX0_fewest_38 (by decide) ?_
      obtain ⟨fq9, hfq9⟩ : ∃ z9 : Bool, g 31 = b2i z9 := hfz
      exact W.iret (v := (-2)) hx hb hr (fun t ht hW => ⟨⟨(-2), (g, a), rfl, ⟨(by rw [M_fewest, if_neg hn0, if_neg]; rintro ⟨z1, z2⟩; first | exact absurd (z1.symm.trans c_2) (by decide) | exact absurd (z2.symm.trans c_2) (by decide)), ⟨g 16, (a 12, a 13, a 14, a 15, a 16), g 18, a 19, fq9, few_id hfq9⟩⟩, by rw [ht]; exact hP, va_K.moved hW.alike hK, hD⟩, hS.F ht⟩) hS.2.2 dX0_fewest_40
    · skip
      have hA := c_2
      refine lv_iload_n hx hb dX0_fewest_24 rfl (lv_at hl 1 rfl) ?_
      refine lv_i2l (v := (Int32.toInt64 set)) hx hb dX0_fewest_25 rfl ?_
      refine lv_lconst (v := 0) hx hb dX0_fewest_26 (by decide) ?_
      refine lv_aload_n hx hb dX0_fewest_27 rfl (lv_at hl 0 rfl) ?_
      refine vp_callSi ((va_runV (As := []) (rest := [.long 0, .long (Int32.toInt64 set)]) ⟨hx, hb, hml, hown, hts⟩ (metX0_all l dC dI ct A (peW ct o qe n y a ++ ex) o q ql qs md qe n g a  ) (cwV 0 hts (lw_V q726 q728 qs23 q69 q729) rfl rfl rfl (by decide +kernel) ⟨Nat.le_of_ble_eq_true rfl, Nat.le_of_ble_eq_true rfl⟩) (xPV hK hP hD hE _) rfl rfl hl.1 rfl (lv_room (Nat.le_of_ble_eq_true rfl)) dX0_fewest_28 ⟨Nat.zero_le _, Nat.zero_le _⟩)).run (fun r hw => ?_)
      have hw : r = (evb n) := hw
      subst hw
      refine lv_i2l (v := (Int32.toInt64 (evb n))) hx hb dX0_fewest_31 rfl ?_
      refine vp_callSi ((va_runS (As := [.long (Int32.toInt64 set), .long 0, .long (Int32.toInt64 (evb n))]) (rest := []) ⟨hx, hb, hml, hown, hts⟩ (metX0_isIn l (Int32.toInt64 set) 0 (Int32.toInt64 (evb n)) ) (va_cwS 3 hts (lw_S q380 q381 q69 q382) rfl rfl rfl (by decide +kernel) ⟨Nat.le_of_ble_eq_true rfl, Nat.le_of_ble_eq_true rfl⟩) (pcS _) rfl rfl hl.1 rfl (lv_room (Nat.le_of_ble_eq_true rfl)) dX0_fewest_32 ⟨Nat.zero_le _, Nat.zero_le _⟩)).run (fun r hw => ?_)
      have hw : r = (b2i (lin (Int32.toInt64 set) 0 (Int32.toInt64 (evb n)))) := hw
      subst hw
      refine bz_ne (tgt := 41) hx hb dX0_fewest_35 (by decide) (fun c_3 => ?_) (fun c_3 => ?_)
      · skip
        have hB := c_3
        refine lv_aload_n hx hb dX0_fewest_41 rfl (lv_at hl 0 rfl) ?_
        refine lv_iload_n hx hb dX0_fewest_42 rfl (lv_at hl 1 rfl) ?_
        refine va_calli (va_runV (As := [.int set]) (rest := []) ⟨hx, hb, hml, hown, hts⟩ (metX0_fewestOf l dC dI ct A ex o q ql qs md qe n y g a set hn6 h3) (cwV 1 hts (lw_V q769 q771 qs28 q69 q772) rfl rfl rfl (by decide +kernel) ⟨Nat.le_of_ble_eq_true rfl, Nat.le_of_ble_eq_true rfl⟩) (gPV hK hP hD hE _) rfl rfl hl.1 rfl (lv_room (Nat.le_of_ble_eq_true rfl)) dX0_fewest_43 ⟨Nat.zero_le _, Nat.zero_le _⟩) hS (fun q _ h => h) (fun q h => h) (fun r u t H1 locs ht hvm hw hB hz1 hk1 hS => ?_)
        obtain ⟨hw, S_4, gv_5, D_6, fd_7, hR_8, hw2⟩ := hw
        have hw : r = (fewN (few (fun m r => rowOk n (a 3) (a 4) (fun c => lastsV ((a 2) c) ((a 5) c)) set m (dg 36 r m)) 4)) := hw
        subst hw
        subst hw2
        obtain ⟨hP, -, hD⟩ := hB
        rw [ht] at hP
        generalize H1 = H at hP hS ⊢
        have hP : va_P (dC, dI) clA (xG ct o q (ql, qs, md, qe, n) y (upd (upd (upd g 16 set) 18 gv_5) 31 (b2i fd_7)) (va_up (va_up (va_up (va_up (va_up (va_up a 12 S_4.1) 13 S_4.2.1) 14 S_4.2.2.1) 15 S_4.2.2.2.1) 16 S_4.2.2.2.2) 19 D_6) ex) H := hP
        have hD : va_D A (xG ct o q (ql, qs, md, qe, n) y (upd (upd (upd g 16 set) 18 gv_5) 31 (b2i fd_7)) (va_up (va_up (va_up (va_up (va_up (va_up a 12 S_4.1) 13 S_4.2.1) 14 S_4.2.2.1) 15 S_4.2.2.2.1) 16 S_4.2.2.2.2) 19 D_6) ex) := hD
        refine lv_istore_n (lv' := [(3, .int (fewN (few (fun m r => rowOk n (a 3) (a 4) (fun c => lastsV ((a 2) c) ((a 5) c)) set m (dg 36 r m)) 4))), (0, .ref o), (1, .int set), (2, .int k)]) hx hb dX0_fewest_46 rfl hl (by decide) rfl (fun ls hl => ?_)
        refine lv_iload_n hx hb dX0_fewest_47 rfl (lv_at hl 3 rfl) ?_
        refine lv_iconst (v := (-1)) hx hb dX0_fewest_48 (by decide) ?_
        refine lv_icmp_ne (tgt := 56) hx hb dX0_fewest_49 (by decide) (fun c_9 => ?_) (fun c_9 => ?_)
        · skip
          obtain ⟨jk, hj3, ejk⟩ := (lin_m1 hA).resolve_left c_9
          refine lv_iload_n hx hb dX0_fewest_56 rfl (lv_at hl 3 rfl) ?_
          refine lv_iload_n hx hb dX0_fewest_57 rfl (lv_at hl 0 rfl) ?_
          refine lv_icmp_ge (tgt := 70) hx hb dX0_fewest_58 (by decide) (fun c_10 => ?_) (fun c_10 => ?_)
          · skip
            refine lv_bipush (v := (-9)) hx hb dX0_fewest_70 (by decide) ?_
            exact W.iret (v := (-9)) hx hb hr (fun t ht hW => ⟨⟨(-9), ((upd (upd (upd g 16 set) 18 gv_5) 31 (b2i fd_7)), (va_up (va_up (va_up (va_up (va_up (va_up a 12 S_4.1) 13 S_4.2.1) 14 S_4.2.2.1) 15 S_4.2.2.2.1) 16 S_4.2.2.2.2) 19 D_6)), rfl, ⟨(by rw [M_fewest, if_neg hn0, if_pos ⟨hB, hA⟩, ← fewA_k hR_8 hA, if_neg c_9, if_pos c_10]), ⟨set, S_4, gv_5, D_6, fd_7, rfl⟩⟩, by rw [ht]; exact hP, va_K.moved hW.alike hK, hD⟩, hS.F ht⟩) hS.2.2 dX0_fewest_72
          · skip
            refine lv_aload_n hx hb dX0_fewest_61 rfl (lv_at hl 1 rfl) ?_
            refine g_get (v := .ref (q 19)) hx hb hts hown hK hP 15 (by decide) rfl q164 rfl dX0_fewest_62 ?_
            refine lv_iload_n hx hb dX0_fewest_65 rfl (lv_at hl 3 rfl) ?_
            refine g_ild hx hb hK hP (gWa19 _ _ _ _ _ _ _ _ _ _ _ _) D_6 rfl (cix k) (by rw [ejk, cix_nI (by omega)]) (by rw [ejk, cix_nI (by omega)]; omega) (by decide) dX0_fewest_66 ?_
            refine lv_goto (tgt := 72) hx hb dX0_fewest_67 (by decide) ?_
            exact W.iret (v := (D_6 (cix k))) hx hb hr (fun t ht hW => ⟨⟨(D_6 (cix k)), ((upd (upd (upd g 16 set) 18 gv_5) 31 (b2i fd_7)), (va_up (va_up (va_up (va_up (va_up (va_up a 12 S_4.1) 13 S_4.2.1) 14 S_4.2.2.1) 15 S_4.2.2.2.1) 16 S_4.2.2.2.2) 19 D_6)), rfl, ⟨(by rw [M_fewest, if_neg hn0, if_pos ⟨hB, hA⟩, ← fewA_k hR_8 hA, if_neg c_9, if_neg c_10]), ⟨set, S_4, gv_5, D_6, fd_7, rfl⟩⟩, by rw [ht]; exact hP, va_K.moved hW.alike hK, hD⟩, hS.F ht⟩) hS.2.2 dX0_fewest_72
        · skip
          refine lv_iload_n hx hb dX0_fewest_52 rfl (lv_at hl 0 rfl) ?_
          refine lv_goto (tgt := 72) hx hb dX0_fewest_53 (by decide) ?_
          exact W.iret (v := (fewN (few (fun m r => rowOk n (a 3) (a 4) (fun c => lastsV ((a 2) c) ((a 5) c)) set m (dg 36 r m)) 4))) hx hb hr (fun t ht hW => ⟨⟨(fewN (few (fun m r => rowOk n (a 3) (a 4) (fun c => lastsV ((a 2) c) ((a 5) c)) set m (dg 36 r m)) 4)), ((upd (upd (upd g 16 set) 18 gv_5) 31 (b2i fd_7)), (va_up (va_up (va_up (va_up (va_up (va_up a 12 S_4.1) 13 S_4.2.1) 14 S_4.2.2.1) 15 S_4.2.2.2.1) 16 S_4.2.2.2.2) 19 D_6)), rfl, ⟨(by rw [M_fewest, if_neg hn0, if_pos ⟨hB, hA⟩, ← fewA_k hR_8 hA, if_pos c_9]), ⟨set, S_4, gv_5, D_6, fd_7, rfl⟩⟩, by rw [ht]; exact hP, va_K.moved hW.alike hK, hD⟩, hS.F ht⟩) hS.2.2 dX0_fewest_72
      · skip
        refine lv_bipush (v := (-2)) hx hb dX0_fewest_38 (by decide) ?_
        obtain ⟨fq9, hfq9⟩ : ∃ z9 : Bool, g 31 = b2i z9 := hfz
        exact W.iret (v := (-2)) hx hb hr (fun t ht hW => ⟨⟨(-2), (g, a), rfl, ⟨(by rw [M_fewest, if_neg hn0, if_neg]; rintro ⟨z1, z2⟩; first | exact absurd (z1.symm.trans c_3) (by decide) | exact absurd (z2.symm.trans c_3) (by decide)), ⟨g 16, (a 12, a 13, a 14, a 15, a 16), g 18, a 19, fq9, few_id hfq9⟩⟩, by rw [ht]; exact hP, va_K.moved hW.alike hK, hD⟩, hS.F ht⟩) hS.2.2 dX0_fewest_40
  · skip
    refine lv_bipush (v := (-3)) hx hb dX0_fewest_7 (by decide) ?_
    obtain ⟨fq9, hfq9⟩ : ∃ z9 : Bool, g 31 = b2i z9 := hfz
    exact W.iret (v := (-3)) hx hb hr (fun t ht hW => ⟨⟨(-3), (g, a), rfl, ⟨(by rw [M_fewest, if_pos (by simpa using c_1)]), ⟨g 16, (a 12, a 13, a 14, a 15, a 16), g 18, a 19, fq9, few_id hfq9⟩⟩, by rw [ht]; exact hP, va_K.moved hW.alike hK, hD⟩, hS.F ht⟩) hS.2.2 dX0_fewest_9
