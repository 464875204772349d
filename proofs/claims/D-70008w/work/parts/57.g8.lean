/-! LENT YOUTHS: the match -/
theorem mf_id (g : Nat → Int32) (a : Nat → Nat → Int32) : (g, a) = (upd g 20 (g 20), va_up (va_up a 20 (a 20)) 30 (a 30)) := by
  rw [upd_id, va_up_id, va_up_id]
theorem mf_id2 (g : Nat → Int32) (a : Nat → Nat → Int32) (v : Int32) (f : Nat → Int32) : (upd g 20 v, va_up a 30 f) = (upd g 20 v, va_up (va_up a 20 (a 20)) 30 f) := by
  rw [va_up_id]
theorem cpy6 {f g : Nat → Int32} {j : Nat} (h : j < 6) : va_cpy f g (0 : Int32).toNatClampNeg (0 : Int32).toNatClampNeg (6 : Int32).toNatClampNeg j = f j := by
  show (if 0 ≤ j ∧ j < 0 + 6 then f (0 + (j - 0)) else g j) = f j
  rw [if_pos (by omega), Nat.sub_zero, Nat.zero_add]
theorem m1_of {x : Int32} (h : -1 ≤ x) (h0 : ¬ 0 ≤ x) : x = -1 := by
  have h1 : (-1 : Int) ≤ x.toInt := Int32.le_iff_toInt_le.mp h
  have h2 : ¬ (0 : Int) ≤ x.toInt := fun z => h0 (Int32.le_iff_toInt_le.mpr z)
  exact Int32.toInt_inj.mp (by show x.toInt = -1; omega)
set_option maxHeartbeats 4000000 in
set_option maxRecDepth 100000 in
theorem metX0_isMendedBy (l : Launch) (dC : Nat → ClassId) (dI : Nat → Nat → Nat) (ct : Nat → ClassId) (A : Nat → Prop) (ex : va_W) (o : Nat) (q : Nat → Nat) (ql qs : Nat) (md : Int32) (qe n : Nat) (y : Nat → Nat) (g : Nat → Int32) (a : Nat → Nat → Int32) (x : Int32) (z : Int32) (i j : Nat) (hi : i < n) (hj : j < n) (ei : x = nI i) (ej : z = nI j) (hn6 : n ≤ 6) : Met l yX0_isMendedBy (ws_ yX0_isMendedBy cX0_isMendedBy 4 (some .boolean)) ({ frames := 3, cells := 0, slots := 0, locals := 64 }) (gPre dC dI ct A ex o q (ql, qs, md, qe, n) y g a [.ref o, .int x, .int z]) (vp_Si (fun r => r = (b2i (isfV (a 3) (a 4) i j)))) 0 0 (fun _ => False) := by
  refine Met.ofW (cc := cX0_isMendedBy) (maxL := 4) (ret := (some .boolean)) (by decide) rfl ?_
  intro p e s m args below meth c s₁ B hml hv
  obtain ⟨rfl, hP, hK, hD, hE⟩ := hv
  have hx := B.exec
  have hb := B.bytes
  have hr := B.returns
  have hts := atoms_spec (ws := ws_ yX0_isMendedBy cX0_isMendedBy 4 (some .boolean)) B.pre
  have hts : ∀ w ∈ lw_all, w.before _ s = true := fun w h => hts w (List.mem_cons_of_mem _ h)
  have hown : s.vm.findClass RX0 = some m.cls := findClass_of_methodNamed B.named
  have hlocks := B.notSynchronized
  have hS : va_S A s.heap s.heap [] := va_S.rf
  have hl := lv_entry ([.ref o, .int x, .int z]) (n := 4) (Nat.le_of_ble_eq_true rfl)
  rw [lg_entry_eq]
  generalize (lg_sl ([.ref o, .int x, .int z]) ++ List.replicate (4 - (lg_sl ([.ref o, .int x, .int z])).length) Slot.unset).toArray = ls at hl ⊢
  have hl : lv_has ls 4 [(0, .ref o), (1, .int x), (2, .int z)] := hl
  subst ei
  subst ej
  refine lv_aload_n hx hb dX0_isMendedBy_0 rfl (lv_at hl 0 rfl) ?_
  refine g_get (v := .ref ql) hx hb hts hown hK hP 2 (by decide) rfl q146 rfl dX0_isMendedBy_1 ?_
  refine lv_iload_n hx hb dX0_isMendedBy_4 rfl (lv_at hl 1 rfl) ?_
  refine va_csFr (va_runF (As := [.int (nI i)]) (rest := []) (jAt hK) ⟨hx, hb, hml, hown, hts⟩ (metJ2_get l dC dI ct (xG ct o q (ql, qs, md, qe, n) y g a ex) ql md qe n 14 rfl i 15 10 (y i) (edF y n) (xG_ed (Nat.lt_of_le_of_lt (Nat.zero_le _) hi)) (Nat.lt_of_lt_of_le hi (by omega)) (by omega) (if_pos hi) hi (by omega)) (va_cwF 1 hts (lw_F q607 q610 q612 q72 q614) rfl rfl rfl (xE_fw_get hE) (by decide +kernel) ⟨Nat.le_of_ble_eq_true rfl, Nat.le_of_ble_eq_true rfl⟩) (jPV (k := 14) (md := md) (qe := qe) (n := n) hK hP rfl _) rfl rfl hl.1 rfl (lv_room (Nat.le_of_ble_eq_true rfl)) dX0_isMendedBy_5 ⟨Nat.zero_le _, Nat.zero_le _⟩) (fun r hw => ?_)
  have hw : (y i) = r := Eq.symm hw
  subst hw
  refine c_cast hx hb hts hown hK hP hE hi q451 dX0_isMendedBy_10 ?_
  refine c_getN (v := .int ((a 4) i)) hx hb hts hown hK hP hi 2 (by decide) rfl (xE_q462 hE) dX0_isMendedBy_13 ?_
  refine lv_istore_n (lv' := [(3, .int ((a 4) i)), (0, .ref o), (1, .int (nI i)), (2, .int (nI j))]) hx hb dX0_isMendedBy_16 rfl hl (by decide) rfl (fun ls hl => ?_)
  refine lv_iload_n hx hb dX0_isMendedBy_17 rfl (lv_at hl 0 rfl) ?_
  refine lv_bipush (v := 6) hx hb dX0_isMendedBy_18 (by decide) ?_
  refine lv_icmp_eq (tgt := 63) hx hb dX0_isMendedBy_20 (by decide) (fun c_1 => ?_) (fun c_1 => ?_)
  · skip
    refine lv_iconst (v := 1) hx hb dX0_isMendedBy_63 (by decide) ?_
    refine lv_goto (tgt := 68) hx hb dX0_isMendedBy_64 (by decide) ?_
    exact W.zret (v := 1) hx hb hr rfl (fun t ht hW => ⟨1, rfl, (by first | rfl | (simp [isfV, b2i, c_1]; done)), ht⟩) (fun q h => by cases h) dX0_isMendedBy_68
  · skip
    refine lv_aload_n hx hb dX0_isMendedBy_23 rfl (lv_at hl 1 rfl) ?_
    refine g_get (v := .ref ql) hx hb hts hown hK hP 2 (by decide) rfl q146 rfl dX0_isMendedBy_24 ?_
    refine lv_iload_n hx hb dX0_isMendedBy_27 rfl (lv_at hl 2 rfl) ?_
    refine va_csFr (va_runF (As := [.int (nI i)]) (rest := []) (jAt hK) ⟨hx, hb, hml, hown, hts⟩ (metJ2_get l dC dI ct (xG ct o q (ql, qs, md, qe, n) y g a ex) ql md qe n 14 rfl i 15 10 (y i) (edF y n) (xG_ed (Nat.lt_of_le_of_lt (Nat.zero_le _) hi)) (Nat.lt_of_lt_of_le hi (by omega)) (by omega) (if_pos hi) hi (by omega)) (va_cwF 1 hts (lw_F q607 q610 q612 q72 q614) rfl rfl rfl (xE_fw_get hE) (by decide +kernel) ⟨Nat.le_of_ble_eq_true rfl, Nat.le_of_ble_eq_true rfl⟩) (jPV (k := 14) (md := md) (qe := qe) (n := n) hK hP rfl _) rfl rfl hl.1 rfl (lv_room (Nat.le_of_ble_eq_true rfl)) dX0_isMendedBy_28 ⟨Nat.zero_le _, Nat.zero_le _⟩) (fun r hw => ?_)
    have hw : (y i) = r := Eq.symm hw
    subst hw
    refine c_cast hx hb hts hown hK hP hE hi q451 dX0_isMendedBy_33 ?_
    refine c_getN (v := .int ((a 3) i)) hx hb hts hown hK hP hi 1 (by decide) rfl (xE_q460 hE) dX0_isMendedBy_36 ?_
    refine lv_aload_n hx hb dX0_isMendedBy_39 rfl (lv_at hl 1 rfl) ?_
    refine g_get (v := .ref ql) hx hb hts hown hK hP 2 (by decide) rfl q146 rfl dX0_isMendedBy_40 ?_
    refine lv_iload_n hx hb dX0_isMendedBy_43 rfl (lv_at hl 3 rfl) ?_
    refine va_csFr (va_runF (As := [.int (nI j)]) (rest := [.int ((a 3) i)]) (jAt hK) ⟨hx, hb, hml, hown, hts⟩ (metJ2_get l dC dI ct (xG ct o q (ql, qs, md, qe, n) y g a ex) ql md qe n 14 rfl j 15 10 (y j) (edF y n) (xG_ed (Nat.lt_of_le_of_lt (Nat.zero_le _) hj)) (Nat.lt_of_lt_of_le hj (by omega)) (by omega) (if_pos hj) hj (by omega)) (va_cwF 1 hts (lw_F q607 q610 q612 q72 q614) rfl rfl rfl (xE_fw_get hE) (by decide +kernel) ⟨Nat.le_of_ble_eq_true rfl, Nat.le_of_ble_eq_true rfl⟩) (jPV (k := 14) (md := md) (qe := qe) (n := n) hK hP rfl _) rfl rfl hl.1 rfl (lv_room (Nat.le_of_ble_eq_true rfl)) dX0_isMendedBy_44 ⟨Nat.zero_le _, Nat.zero_le _⟩) (fun r hw => ?_)
    have hw : (y j) = r := Eq.symm hw
    subst hw
    refine c_cast hx hb hts hown hK hP hE hj q451 dX0_isMendedBy_49 ?_
    refine c_getN (v := .int ((a 3) j)) hx hb hts hown hK hP hj 1 (by decide) rfl (xE_q460 hE) dX0_isMendedBy_52 ?_
    refine lv_ior hx hb dX0_isMendedBy_55 ?_
    refine lv_iload_n hx hb dX0_isMendedBy_56 rfl (lv_at hl 0 rfl) ?_
    refine vp_callSi ((va_runS (As := [.int (((a 3) i) ||| ((a 3) j)), .int ((a 4) i)]) (rest := []) ⟨hx, hb, hml, hown, hts⟩ (metX0_isOf l (((a 3) i) ||| ((a 3) j)) ((a 4) i) ) (va_cwS 2 hts (lw_S q723 q724 q69 q725) rfl rfl rfl (by decide +kernel) ⟨Nat.le_of_ble_eq_true rfl, Nat.le_of_ble_eq_true rfl⟩) (pcS _) rfl rfl hl.1 rfl (lv_room (Nat.le_of_ble_eq_true rfl)) dX0_isMendedBy_57 ⟨Nat.zero_le _, Nat.zero_le _⟩)).run (fun r hw => ?_)
    have hw : r = (b2i (bq (((a 3) i) ||| ((a 3) j)) ((a 4) i))) := hw
    subst hw
    refine bz_eq (tgt := 67) hx hb dX0_isMendedBy_60 (by decide) (fun c_2 => ?_) (fun c_2 => ?_)
    · skip
      refine lv_iconst (v := 0) hx hb dX0_isMendedBy_67 (by decide) ?_
      exact W.zret (v := 0) hx hb hr rfl (fun t ht hW => ⟨0, rfl, (by first | rfl | (simp [isfV, b2i, c_1, c_2]; done)), ht⟩) (fun q h => by cases h) dX0_isMendedBy_68
    · skip
      refine lv_iconst (v := 1) hx hb dX0_isMendedBy_63 (by decide) ?_
      refine lv_goto (tgt := 68) hx hb dX0_isMendedBy_64 (by decide) ?_
      exact W.zret (v := 1) hx hb hr rfl (fun t ht hW => ⟨1, rfl, (by first | rfl | (simp [isfV, b2i, c_1, c_2]; done)), ht⟩) (fun q h => by cases h) dX0_isMendedBy_68
set_option maxHeartbeats 4000000 in
set_option maxRecDepth 100000 in
theorem metX0_matchFrom_0 (l : Launch) (dC : Nat → ClassId) (dI : Nat → Nat → Nat) (ct : Nat → ClassId) (A : Nat → Prop) (ex : va_W) (o : Nat) (q : Nat → Nat) (ql qs : Nat) (md : Int32) (qe n : Nat) (y : Nat → Nat) (g : Nat → Int32) (a : Nat → Nat → Int32) (x : Int32) (tk0 : Int32) (mn : Int32) (pp qn : Nat) (hn6 : n ≤ 6) (hn0 : 0 < n) (ex0 : x = nI pp) (et : tk0 = mset (tk (dg n qn pp) pp) n) (em : mn = nI (cn (isfV (a 3) (a 4)) (dg n qn pp) pp)) (hpn : pp ≤ n) (hdp : n ≤ pp + 0) (hpf : mpf n pp qn (a 20)) (hmx : mxP (mbV (a 3) (a 4) n) n (qn * n ^ (n - pp)) (g 20) (a 30)) : Met l yX0_matchFrom (ws_ yX0_matchFrom cX0_matchFrom 5 none) ({ frames := 4, cells := 0, slots := 0, locals := 87 }) (gPre dC dI ct A ex o q (ql, qs, md, qe, n) y g a [.ref o, .int x, .int tk0, .int mn]) (va_Qv (fun (u : (Nat → Int32) × (Nat → Nat → Int32)) => ∃ (ms : Int32), ∃ (D : Nat → Int32), ∃ (B : Nat → Int32), ∃ (hM : mxP (mbV (a 3) (a 4) n) n ((qn + 1) * n ^ (n - pp)) ms B), ∃ (hG : ∀ j, j < pp → D j = a 20 j), u = ((upd g 20 ms), (va_up (va_up a 20 D) 30 B))) (gB dC dI ct A ex o q (ql, qs, md, qe, n) y) A) 0 0 A := by
  refine Met.ofW (cc := cX0_matchFrom) (maxL := 5) (ret := none) (by decide) rfl ?_
  intro p e s m args below meth c s₁ B hml hv
  obtain ⟨rfl, hP, hK, hD, hE⟩ := hv
  have hx := B.exec
  have hb := B.bytes
  have hr := B.returns
  have hts := atoms_spec (ws := ws_ yX0_matchFrom cX0_matchFrom 5 none) B.pre
  have hts : ∀ w ∈ lw_all, w.before _ s = true := fun w h => hts w (List.mem_cons_of_mem _ h)
  have hown : s.vm.findClass RX0 = some m.cls := findClass_of_methodNamed B.named
  have hlocks := B.notSynchronized
  have hS : va_S A s.heap s.heap [] := va_S.rf
  have hl := lv_entry ([.ref o, .int x, .int tk0, .int mn]) (n := 5) (Nat.le_of_ble_eq_true rfl)
  rw [lg_entry_eq]
  generalize (lg_sl ([.ref o, .int x, .int tk0, .int mn]) ++ List.replicate (5 - (lg_sl ([.ref o, .int x, .int tk0, .int mn])).length) Slot.unset).toArray = ls at hl ⊢
  have hl : lv_has ls 5 [(0, .ref o), (1, .int x), (2, .int tk0), (3, .int mn)] := hl
  subst ex0
  subst et
  subst em
  have hcn := cn_le (isfV (a 3) (a 4)) (dg n qn pp) pp
  refine lv_iload_n hx hb dX0_matchFrom_0 rfl (lv_at hl 1 rfl) ?_
  refine lv_aload_n hx hb dX0_matchFrom_1 rfl (lv_at hl 0 rfl) ?_
  refine vp_callSi ((va_runV (As := []) (rest := [.int (nI pp)]) ⟨hx, hb, hml, hown, hts⟩ (metX0_people l dC dI ct A (peW ct o qe n y a ++ ex) o q ql qs md qe n g a  ) (cwV 0 hts (lw_V q593 q595 qs14 q69 q596) rfl rfl rfl (by decide +kernel) ⟨Nat.le_of_ble_eq_true rfl, Nat.le_of_ble_eq_true rfl⟩) (xPV hK hP hD hE _) rfl rfl hl.1 rfl (lv_room (Nat.le_of_ble_eq_true rfl)) dX0_matchFrom_2 ⟨Nat.zero_le _, Nat.zero_le _⟩)).run (fun r hw => ?_)
  have hw : r = (nI n) := hw
  subst hw
  refine lv_icmp_ne (tgt := 38) hx hb dX0_matchFrom_5 (by decide) (fun c_1 => ?_) (fun c_1 => ?_)
  · skip
    exact False.elim (by have z := c_1; exact z (by rw [show pp = n by omega]))
  · skip
    have hpe : n = pp := ((nI_eq (by omega) (by omega)).mp c_1).symm
    subst hpe
    refine lv_iload_n hx hb dX0_matchFrom_8 rfl (lv_at hl 3 rfl) ?_
    refine lv_aload_n hx hb dX0_matchFrom_9 rfl (lv_at hl 0 rfl) ?_
    refine g_get (v := .int (g 20)) hx hb hts hown hK hP 20 (by decide) rfl q169 rfl dX0_matchFrom_10 ?_
    refine lv_icmp_gt (tgt := 17) hx hb dX0_matchFrom_13 (by decide) (fun c_2 => ?_) (fun c_2 => ?_)
    · skip
      refine lv_aload_n hx hb dX0_matchFrom_17 rfl (lv_at hl 0 rfl) ?_
      refine lv_iload_n hx hb dX0_matchFrom_18 rfl (lv_at hl 3 rfl) ?_
      refine g_put (v := (nI (cn (isfV (a 3) (a 4)) (dg n qn n) n))) hx hb hts hown hK hP hD hS 20 20 (by decide) rfl q169 rfl rfl (by decide +kernel) dX0_matchFrom_19 (fun H locs hP hD hS => ?_)
      refine lv_aload_n hx hb dX0_matchFrom_22 rfl (lv_at hl 0 rfl) ?_
      refine g_get (v := .ref (q 20)) hx hb hts hown hK hP 18 (by decide) rfl q167 rfl dX0_matchFrom_23 ?_
      refine lv_iconst (v := 0) hx hb dX0_matchFrom_26 (by decide) ?_
      refine lv_aload_n hx hb dX0_matchFrom_27 rfl (lv_at hl 0 rfl) ?_
      refine g_get (v := .ref (q 30)) hx hb hts hown hK hP 19 (by decide) rfl q168 rfl dX0_matchFrom_28 ?_
      refine lv_iconst (v := 0) hx hb dX0_matchFrom_31 (by decide) ?_
      refine lv_bipush (v := 6) hx hb dX0_matchFrom_32 (by decide) ?_
      refine va_copyi (sp := 0) (dp := 0) (n := 6) hx hb (hml.trans hl.1.symm) hown (hts _ q789) (hts _ q578) (hts _ q577) (hts _ q90) hK hP hD hS 9 10 0 0 (gWa20 _ _ _ _ _ _ _ _ _ _ _ _) (gWa30 _ _ _ _ _ _ _ _ _ _ _ _) rfl rfl rfl (by decide) (by decide) (by decide) (by decide +kernel) (by decide +kernel) (fun _ _ => rfl) (Nat.le_of_ble_eq_true rfl) (Nat.le_of_ble_eq_true rfl) dX0_matchFrom_34 (fun H locs hP hD hS => ?_)
      rw [(gWs30 _ _ _ _ _ _ _ _ _ _ _ _ _)] at hP hD
      have hv9 : (mbV (a 3) (a 4) n) qn = nI (cn (isfV (a 3) (a 4)) (dg n qn n) n) := mbV_dst hn6 hn0 (fun k9 hk9 => (hpf k9 hk9).2)
      have hm9 : mxP (mbV (a 3) (a 4) n) n qn (g 20) (a 30) := by have h := hmx; rw [Nat.sub_self, Nat.pow_zero, Nat.mul_one] at h; exact h
      exact W.vret hx hb hr (fun t ht hW => ⟨⟨((upd g 20 (nI (cn (isfV (a 3) (a 4)) (dg n qn n) n))), (va_up a 30 (va_cpy (a 20) (a 30) (0 : Int32).toNatClampNeg (0 : Int32).toNatClampNeg (6 : Int32).toNatClampNeg))), rfl, ⟨_, a 20, _, by rw [Nat.sub_self, Nat.pow_zero, Nat.mul_one]; exact mx_gt hm9 (Nat.le_trans hcn hn6) hv9 (Int32.not_le.mpr c_2) (fun j9 hj9 => by rw [cpy6 (by omega)]; exact (hpf j9 hj9).1), fun _ _ => rfl, mf_id2 g a _ _⟩, by rw [ht]; exact hP, va_K.moved hW.alike hK, hD⟩, hS.F ht⟩) hS.2.2 dX0_matchFrom_37
    · skip
      have hv9 : (mbV (a 3) (a 4) n) qn = nI (cn (isfV (a 3) (a 4)) (dg n qn n) n) := mbV_dst hn6 hn0 (fun k9 hk9 => (hpf k9 hk9).2)
      have hm9 : mxP (mbV (a 3) (a 4) n) n qn (g 20) (a 30) := by have h := hmx; rw [Nat.sub_self, Nat.pow_zero, Nat.mul_one] at h; exact h
      exact W.vret hx hb hr (fun t ht hW => ⟨⟨(g, a), rfl, ⟨g 20, a 20, a 30, by rw [Nat.sub_self, Nat.pow_zero, Nat.mul_one]; exact mx_le hm9 (Nat.le_trans hcn hn6) hv9 (Int32.not_lt.mp c_2), fun _ _ => rfl, mf_id g a⟩, by rw [ht]; exact hP, va_K.moved hW.alike hK, hD⟩, hS.F ht⟩) hS.2.2 dX0_matchFrom_16
set_option maxHeartbeats 4000000 in
set_option maxRecDepth 100000 in
theorem metX0_matchFrom_1 (l : Launch) (dC : Nat → ClassId) (dI : Nat → Nat → Nat) (ct : Nat → ClassId) (A : Nat → Prop) (ex : va_W) (o : Nat) (q : Nat → Nat) (ql qs : Nat) (md : Int32) (qe n : Nat) (y : Nat → Nat) (g : Nat → Int32) (a : Nat → Nat → Int32) (x : Int32) (tk0 : Int32) (mn : Int32) (pp qn : Nat) (hn6 : n ≤ 6) (hn0 : 0 < n) (ex0 : x = nI pp) (et : tk0 = mset (tk (dg n qn pp) pp) n) (em : mn = nI (cn (isfV (a 3) (a 4)) (dg n qn pp) pp)) (hpn : pp ≤ n) (hdp : n ≤ pp + 1) (hpf : mpf n pp qn (a 20)) (hmx : mxP (mbV (a 3) (a 4) n) n (qn * n ^ (n - pp)) (g 20) (a 30)) : Met l yX0_matchFrom (ws_ yX0_matchFrom cX0_matchFrom 5 none) ({ frames := 5, cells := 0, slots := 0, locals := 111 }) (gPre dC dI ct A ex o q (ql, qs, md, qe, n) y g a [.ref o, .int x, .int tk0, .int mn]) (va_Qv (fun (u : (Nat → Int32) × (Nat → Nat → Int32)) => ∃ (ms : Int32), ∃ (D : Nat → Int32), ∃ (B : Nat → Int32), ∃ (hM : mxP (mbV (a 3) (a 4) n) n ((qn + 1) * n ^ (n - pp)) ms B), ∃ (hG : ∀ j, j < pp → D j = a 20 j), u = ((upd g 20 ms), (va_up (va_up a 20 D) 30 B))) (gB dC dI ct A ex o q (ql, qs, md, qe, n) y) A) 0 0 A := by
  refine Met.ofW (cc := cX0_matchFrom) (maxL := 5) (ret := none) (by decide) rfl ?_
  intro p e s m args below meth c s₁ B hml hv
  obtain ⟨rfl, hP, hK, hD, hE⟩ := hv
  have hx := B.exec
  have hb := B.bytes
  have hr := B.returns
  have hts := atoms_spec (ws := ws_ yX0_matchFrom cX0_matchFrom 5 none) B.pre
  have hts : ∀ w ∈ lw_all, w.before _ s = true := fun w h => hts w (List.mem_cons_of_mem _ h)
  have hown : s.vm.findClass RX0 = some m.cls := findClass_of_methodNamed B.named
  have hlocks := B.notSynchronized
  have hS : va_S A s.heap s.heap [] := va_S.rf
  have hl := lv_entry ([.ref o, .int x, .int tk0, .int mn]) (n := 5) (Nat.le_of_ble_eq_true rfl)
  rw [lg_entry_eq]
  generalize (lg_sl ([.ref o, .int x, .int tk0, .int mn]) ++ List.replicate (5 - (lg_sl ([.ref o, .int x, .int tk0, .int mn])).length) Slot.unset).toArray = ls at hl ⊢
  have hl : lv_has ls 5 [(0, .ref o), (1, .int x), (2, .int tk0), (3, .int mn)] := hl
  subst ex0
  subst et
  subst em
  have hcn := cn_le (isfV (a 3) (a 4)) (dg n qn pp) pp
  refine lv_iload_n hx hb dX0_matchFrom_0 rfl (lv_at hl 1 rfl) ?_
  refine lv_aload_n hx hb dX0_matchFrom_1 rfl (lv_at hl 0 rfl) ?_
  refine vp_callSi ((va_runV (As := []) (rest := [.int (nI pp)]) ⟨hx, hb, hml, hown, hts⟩ (metX0_people l dC dI ct A (peW ct o qe n y a ++ ex) o q ql qs md qe n g a  ) (cwV 0 hts (lw_V q593 q595 qs14 q69 q596) rfl rfl rfl (by decide +kernel) ⟨Nat.le_of_ble_eq_true rfl, Nat.le_of_ble_eq_true rfl⟩) (xPV hK hP hD hE _) rfl rfl hl.1 rfl (lv_room (Nat.le_of_ble_eq_true rfl)) dX0_matchFrom_2 ⟨Nat.zero_le _, Nat.zero_le _⟩)).run (fun r hw => ?_)
  have hw : r = (nI n) := hw
  subst hw
  refine lv_icmp_ne (tgt := 38) hx hb dX0_matchFrom_5 (by decide) (fun c_1 => ?_) (fun c_1 => ?_)
  · skip
    have hp2 : pp < n := Nat.lt_of_le_of_ne hpn (fun z => c_1 (by rw [z]))
    refine lv_iconst (v := 0) hx hb dX0_matchFrom_38 (by decide) ?_
    refine lv_istore (lv' := [(4, .int 0), (0, .ref o), (1, .int (nI pp)), (2, .int (mset (tk (dg n qn pp) pp) n)), (3, .int (nI (cn (isfV (a 3) (a 4)) (dg n qn pp) pp)))]) hx hb dX0_matchFrom_39 hl (by decide) rfl (fun ls hl => ?_)
    have loop1 : ∀ (f1 : Nat) (i : Nat) (ms : Int32) (D : Nat → Int32) (B : Nat → Int32), (i ≤ n) → (n + 1 ≤ i + f1) → (mxP (mbV (a 3) (a 4) n) n ((n * qn + i) * n ^ (n - (pp + 1))) ms B) → (∀ j, j < pp → D j = a 20 j) → ∀ (H : Heap) (locs : List Loc), va_P (dC, dI) clA (xG ct o q (ql, qs, md, qe, n) y (upd g 20 ms) (va_up (va_up a 20 D) 30 B) ex) H → va_D A (xG ct o q (ql, qs, md, qe, n) y (upd g 20 ms) (va_up (va_up a 20 D) 30 B) ex) → va_S A s.heap H locs → ∀ (ls : Array Slot), lv_has ls 5 [(4, .int (nI i)), (3, .int (nI (cn (isfV (a 3) (a 4)) (dg n qn pp) pp))), (2, .int (mset (tk (dg n qn pp) pp) n)), (1, .int (nI pp)), (0, .ref o)] → W p l e (headSpec (ws_ yX0_matchFrom cX0_matchFrom 5 none) ({ frames := 5, cells := 0, slots := 0, locals := 111 })).room s m ([.ref o, .int (nI pp), .int (mset (tk (dg n qn pp) pp) n), .int (nI (cn (isfV (a 3) (a 4)) (dg n qn pp) pp))] : List Value).toArray below meth c H locs 0 0 (MQ below (va_Qv (fun (u : (Nat → Int32) × (Nat → Nat → Int32)) => ∃ (ms : Int32), ∃ (D : Nat → Int32), ∃ (B : Nat → Int32), ∃ (hM : mxP (mbV (a 3) (a 4) n) n ((qn + 1) * n ^ (n - pp)) ms B), ∃ (hG : ∀ j, j < pp → D j = a 20 j), u = ((upd g 20 ms), (va_up (va_up a 20 D) 30 B))) (gB dC dI ct A ex o q (ql, qs, md, qe, n) y) A) ([.ref o, .int (nI pp), .int (mset (tk (dg n qn pp) pp) n), .int (nI (cn (isfV (a 3) (a 4)) (dg n qn pp) pp))] : List Value).toArray s 0 0 A) (F0 m 41 ls []) := by
      intro f1
      induction f1 with
      | zero => intro i ms D B hi hf hM1 hG1; exact False.elim (by omega)
      | succ f1 ih1 =>
        intro i ms D B hi hf hM1 hG1 H locs hP hD hS ls hl
        refine lv_iload hx hb dX0_matchFrom_41 (lv_at hl 0 rfl) ?_
        refine lv_aload_n hx hb dX0_matchFrom_43 rfl (lv_at hl 4 rfl) ?_
        refine vp_callSi ((va_runV (As := []) (rest := [.int (nI i)]) ⟨hx, hb, hml, hown, hts⟩ (metX0_people l dC dI ct A (peW ct o qe n y (va_up (va_up a 20 D) 30 B) ++ ex) o q ql qs md qe n (upd g 20 ms) (va_up (va_up a 20 D) 30 B)  ) (cwV 0 hts (lw_V q593 q595 qs14 q69 q596) rfl rfl rfl (by decide +kernel) ⟨Nat.le_of_ble_eq_true rfl, Nat.le_of_ble_eq_true rfl⟩) (xPV hK hP hD hE _) rfl rfl hl.1 rfl (lv_room (Nat.le_of_ble_eq_true rfl)) dX0_matchFrom_44 ⟨Nat.zero_le _, Nat.zero_le _⟩)).run (fun r hw => ?_)
        have hw : r = (nI n) := hw
        subst hw
        refine lv_icmp_ge (tgt := 106) hx hb dX0_matchFrom_47 (by decide) (fun c_2 => ?_) (fun c_2 => ?_)
        · skip
          have hge : i = n := by exact Nat.le_antisymm (by omega) ((nI_leI (by omega) (by omega)).mp c_2)
          exact W.vret hx hb hr (fun t ht hW => ⟨⟨((upd g 20 ms), (va_up (va_up a 20 D) 30 B)), rfl, ⟨ms, D, B, by rw [← mhi_eq hp2]; rw [hge] at hM1; exact hM1, hG1, rfl⟩, by rw [ht]; exact hP, va_K.moved hW.alike hK, hD⟩, hS.F ht⟩) hS.2.2 dX0_matchFrom_106
        · skip
          have hlt : i < n := by exact Nat.lt_of_not_le (fun z => c_2 ((nI_leI (by omega) (by omega)).mpr z))
          refine lv_iload_n hx hb dX0_matchFrom_50 rfl (lv_at hl 2 rfl) ?_
          refine lv_iload hx hb dX0_matchFrom_51 (lv_at hl 0 rfl) ?_
          refine vp_callSi ((va_runS (As := [.int (mset (tk (dg n qn pp) pp) n), .int (nI i)]) (rest := []) ⟨hx, hb, hml, hown, hts⟩ (metX0_isOf l (mset (tk (dg n qn pp) pp) n) (nI i) ) (va_cwS 2 hts (lw_S q723 q724 q69 q725) rfl rfl rfl (by decide +kernel) ⟨Nat.le_of_ble_eq_true rfl, Nat.le_of_ble_eq_true rfl⟩) (pcS _) rfl rfl hl.1 rfl (lv_room (Nat.le_of_ble_eq_true rfl)) dX0_matchFrom_53 ⟨Nat.zero_le _, Nat.zero_le _⟩)).run (fun r hw => ?_)
          have hw : r = (b2i (bq (mset (tk (dg n qn pp) pp) n) (nI i))) := hw
          subst hw
          refine bz_eq (tgt := 62) hx hb dX0_matchFrom_56 (by decide) (fun c_3 => ?_) (fun c_3 => ?_)
          · skip
            have hnt : tk (dg n qn pp) pp i = false := by rw [mset_bq _ (by omega) hlt] at c_3; exact c_3
            refine lv_aload_n hx hb dX0_matchFrom_62 rfl (lv_at hl 4 rfl) ?_
            refine g_get (v := .ref (q 20)) hx hb hts hown hK hP 18 (by decide) rfl q167 rfl dX0_matchFrom_63 ?_
            refine lv_iload_n hx hb dX0_matchFrom_66 rfl (lv_at hl 3 rfl) ?_
            refine lv_iload hx hb dX0_matchFrom_67 (lv_at hl 0 rfl) ?_
            refine g_ist (x := (nI i)) hx hb hK hP hD hS (gWa20 _ _ _ _ _ _ _ _ _ _ _ _) (gWs20 _ _ _ _ _ _ _ _ _ _ _ _) D rfl pp rfl (by omega) (by decide) dX0_matchFrom_69 (fun H locs hP hD hS => ?_)
            have eW_4 : ∀ (zg20 : Int32) (za20 : Nat → Int32) (za30 : Nat → Int32) (zn : Nat → Int32), xG ct o q (ql, qs, md, qe, n) y (upd g 20 zg20) (va_up (va_up (va_up a 20 za20) 30 za30) 20 zn) ex = xG ct o q (ql, qs, md, qe, n) y (upd g 20 zg20) (va_up (va_up a 20 zn) 30 za30) ex := fun _ _ _ _ => rfl
            have hP : va_P (dC, dI) clA (xG ct o q (ql, qs, md, qe, n) y (upd g 20 ms) (va_up (va_up a 20 (upd D pp (nI i))) 30 B) ex) H := Eq.mp (congrArg (fun w => va_P (dC, dI) clA w H) (eW_4 ms D B (upd D pp (nI i)))) hP
            have hD : va_D A (xG ct o q (ql, qs, md, qe, n) y (upd g 20 ms) (va_up (va_up a 20 (upd D pp (nI i))) 30 B) ex) := Eq.mp (congrArg (fun w => va_D A w) (eW_4 ms D B (upd D pp (nI i)))) hD
            refine lv_aload_n hx hb dX0_matchFrom_70 rfl (lv_at hl 4 rfl) ?_
            refine lv_iload_n hx hb dX0_matchFrom_71 rfl (lv_at hl 3 rfl) ?_
            refine lv_iconst (v := 1) hx hb dX0_matchFrom_72 (by decide) ?_
            refine lv_iadd hx hb dX0_matchFrom_73 ?_
            refine lv_iload_n hx hb dX0_matchFrom_74 rfl (lv_at hl 2 rfl) ?_
            refine lv_iconst (v := 1) hx hb dX0_matchFrom_75 (by decide) ?_
            refine lv_iload hx hb dX0_matchFrom_76 (lv_at hl 0 rfl) ?_
            refine lv_ishl hx hb dX0_matchFrom_78 ?_
            refine lv_ior hx hb dX0_matchFrom_79 ?_
            refine lv_iload_n hx hb dX0_matchFrom_80 rfl (lv_at hl 1 rfl) ?_
            refine lv_aload_n hx hb dX0_matchFrom_81 rfl (lv_at hl 4 rfl) ?_
            refine lv_iload_n hx hb dX0_matchFrom_82 rfl (lv_at hl 3 rfl) ?_
            refine lv_iload hx hb dX0_matchFrom_83 (lv_at hl 0 rfl) ?_
            refine vp_callSi ((va_runV (As := [.int (nI pp), .int (nI i)]) (rest := [.int (nI (cn (isfV (a 3) (a 4)) (dg n qn pp) pp)), .int ((mset (tk (dg n qn pp) pp) n) ||| (1 <<< ((nI i) &&& 31))), .int ((nI pp) + 1), .ref o]) ⟨hx, hb, hml, hown, hts⟩ (metX0_isMendedBy l dC dI ct A ex o q ql qs md qe n y (upd g 20 ms) (va_up (va_up a 20 (upd D pp (nI i))) 30 B) (nI pp) (nI i) pp i hp2 hlt rfl rfl hn6) (cwV 2 hts (lw_V q790 q792 qs32 q69 q793) rfl rfl rfl (by decide +kernel) ⟨Nat.le_of_ble_eq_true rfl, Nat.le_of_ble_eq_true rfl⟩) (gPV hK hP hD hE _) rfl rfl hl.1 rfl (lv_room (Nat.le_of_ble_eq_true rfl)) dX0_matchFrom_85 ⟨Nat.zero_le _, Nat.zero_le _⟩)).run (fun r hw => ?_)
            have hw : r = (b2i (isfV (a 3) (a 4) pp i)) := hw
            subst hw
            refine bz_eq (tgt := 95) hx hb dX0_matchFrom_88 (by decide) (fun c_5 => ?_) (fun c_5 => ?_)
            · skip
              refine lv_iconst (v := 0) hx hb dX0_matchFrom_95 (by decide) ?_
              refine lv_iadd hx hb dX0_matchFrom_96 ?_
              have em9 : (nI (cn (isfV (a 3) (a 4)) (dg n qn pp) pp)) + 0 = nI (cn (isfV (a 3) (a 4)) (dg n (n * qn + i) (pp + 1)) (pp + 1)) := by rw [cn_app hlt, if_neg (by rw [c_5]; decide)]; exact nI_add _ 0
              refine va_callv (va_runV (As := [.int ((nI pp) + 1), .int ((mset (tk (dg n qn pp) pp) n) ||| (1 <<< ((nI i) &&& 31))), .int ((nI (cn (isfV (a 3) (a 4)) (dg n qn pp) pp)) + 0)]) (rest := []) ⟨hx, hb, hml, hown, hts⟩ (metX0_matchFrom_0 l dC dI ct A ex o q ql qs md qe n y (upd g 20 ms) (va_up (va_up a 20 (upd D pp (nI i))) 30 B) ((nI pp) + 1) ((mset (tk (dg n qn pp) pp) n) ||| (1 <<< ((nI i) &&& 31))) ((nI (cn (isfV (a 3) (a 4)) (dg n qn pp) pp)) + 0) (pp + 1) (n * qn + i) hn6 hn0 (nI_1 pp) (tk_app (by omega) hlt) em9 (by omega) (by omega) (mpf_app hpf hG1 hlt hnt) hM1) (cwV 3 hts (lw_V q785 q787 qs31 q69 q788) rfl rfl rfl (by decide +kernel) ⟨Nat.le_of_ble_eq_true rfl, Nat.le_of_ble_eq_true rfl⟩) (gPV hK hP hD hE _) rfl rfl hl.1 rfl (lv_room (Nat.le_of_ble_eq_true rfl)) dX0_matchFrom_97 ⟨Nat.zero_le _, Nat.zero_le _⟩) hS (fun q _ h => h) (fun q h => h) (fun u t H1 locs ht hvm hw hB hz1 hk1 hS => ?_)
              obtain ⟨ms_6, D_7, B_8, hM_9, hG_10, hw⟩ := hw
              subst hw
              obtain ⟨hP, -, hD⟩ := hB
              rw [ht] at hP
              generalize H1 = H at hP hS ⊢
              have hP : va_P (dC, dI) clA (xG ct o q (ql, qs, md, qe, n) y (upd g 20 ms_6) (va_up (va_up a 20 D_7) 30 B_8) ex) H := hP
              have hD : va_D A (xG ct o q (ql, qs, md, qe, n) y (upd g 20 ms_6) (va_up (va_up a 20 D_7) 30 B_8) ex) := hD
              refine lv_iinc (v := (nI (i + 1))) (lv' := [(4, .int (nI (i + 1))), (3, .int (nI (cn (isfV (a 3) (a 4)) (dg n qn pp) pp))), (2, .int (mset (tk (dg n qn pp) pp) n)), (1, .int (nI pp)), (0, .ref o)]) hx hb dX0_matchFrom_100 hl (k := 0) rfl (nI_1 i) (by decide) rfl (fun ls hl => ?_)
              refine lv_goto (tgt := 41) hx hb dX0_matchFrom_103 (by decide) ?_
              exact ih1 (i + 1) ms_6 D_7 B_8 (by omega) (by omega) hM_9 (fun j hj => ((hG_10) j (by omega)).trans ((upd_n _ _ (by omega)).trans (hG1 j hj))) _ _ hP hD hS _ (lv_sub hl [0, 1, 2, 3, 4] rfl)
            · skip
              refine lv_iconst (v := 1) hx hb dX0_matchFrom_91 (by decide) ?_
              refine lv_goto (tgt := 96) hx hb dX0_matchFrom_92 (by decide) ?_
              refine lv_iadd hx hb dX0_matchFrom_96 ?_
              have em9 : (nI (cn (isfV (a 3) (a 4)) (dg n qn pp) pp)) + 1 = nI (cn (isfV (a 3) (a 4)) (dg n (n * qn + i) (pp + 1)) (pp + 1)) := by rw [cn_app hlt, if_pos c_5]; exact nI_1 _
              refine va_callv (va_runV (As := [.int ((nI pp) + 1), .int ((mset (tk (dg n qn pp) pp) n) ||| (1 <<< ((nI i) &&& 31))), .int ((nI (cn (isfV (a 3) (a 4)) (dg n qn pp) pp)) + 1)]) (rest := []) ⟨hx, hb, hml, hown, hts⟩ (metX0_matchFrom_0 l dC dI ct A ex o q ql qs md qe n y (upd g 20 ms) (va_up (va_up a 20 (upd D pp (nI i))) 30 B) ((nI pp) + 1) ((mset (tk (dg n qn pp) pp) n) ||| (1 <<< ((nI i) &&& 31))) ((nI (cn (isfV (a 3) (a 4)) (dg n qn pp) pp)) + 1) (pp + 1) (n * qn + i) hn6 hn0 (nI_1 pp) (tk_app (by omega) hlt) em9 (by omega) (by omega) (mpf_app hpf hG1 hlt hnt) hM1) (cwV 3 hts (lw_V q785 q787 qs31 q69 q788) rfl rfl rfl (by decide +kernel) ⟨Nat.le_of_ble_eq_true rfl, Nat.le_of_ble_eq_true rfl⟩) (gPV hK hP hD hE _) rfl rfl hl.1 rfl (lv_room (Nat.le_of_ble_eq_true rfl)) dX0_matchFrom_97 ⟨Nat.zero_le _, Nat.zero_le _⟩) hS (fun q _ h => h) (fun q h => h) (fun u t H1 locs ht hvm hw hB hz1 hk1 hS => ?_)
              obtain ⟨ms_11, D_12, B_13, hM_14, hG_15, hw⟩ := hw
              subst hw
              obtain ⟨hP, -, hD⟩ := hB
              rw [ht] at hP
              generalize H1 = H at hP hS ⊢
              have hP : va_P (dC, dI) clA (xG ct o q (ql, qs, md, qe, n) y (upd g 20 ms_11) (va_up (va_up a 20 D_12) 30 B_13) ex) H := hP
              have hD : va_D A (xG ct o q (ql, qs, md, qe, n) y (upd g 20 ms_11) (va_up (va_up a 20 D_12) 30 B_13) ex) := hD
              refine lv_iinc (v := (nI (i + 1))) (lv' := [(4, .int (nI (i + 1))), (3, .int (nI (cn (isfV (a 3) (a 4)) (dg n qn pp) pp))), (2, .int (mset (tk (dg n qn pp) pp) n)), (1, .int (nI pp)), (0, .ref o)]) hx hb dX0_matchFrom_100 hl (k := 0) rfl (nI_1 i) (by decide) rfl (fun ls hl => ?_)
              refine lv_goto (tgt := 41) hx hb dX0_matchFrom_103 (by decide) ?_
              exact ih1 (i + 1) ms_11 D_12 B_13 (by omega) (by omega) hM_14 (fun j hj => ((hG_15) j (by omega)).trans ((upd_n _ _ (by omega)).trans (hG1 j hj))) _ _ hP hD hS _ (lv_sub hl [0, 1, 2, 3, 4] rfl)
          · skip
            skip
            refine lv_goto (tgt := 100) hx hb dX0_matchFrom_59 (by decide) ?_
            refine lv_iinc (v := (nI (i + 1))) (lv' := [(4, .int (nI (i + 1))), (3, .int (nI (cn (isfV (a 3) (a 4)) (dg n qn pp) pp))), (2, .int (mset (tk (dg n qn pp) pp) n)), (1, .int (nI pp)), (0, .ref o)]) hx hb dX0_matchFrom_100 hl (k := 0) rfl (nI_1 i) (by decide) rfl (fun ls hl => ?_)
            refine lv_goto (tgt := 41) hx hb dX0_matchFrom_103 (by decide) ?_
            exact ih1 (i + 1) ms D B (by omega) (by omega) (mx_taken hn6 hp2 hlt (by rw [mset_bq _ (by omega) hlt] at c_3; exact c_3) hM1) hG1 _ _ hP hD hS _ (lv_sub hl [0, 1, 2, 3, 4] rfl)
    exact loop1 (n + 1) 0 (g 20) (a 20) (a 30) (by omega) (by omega) (by rw [mlo_eq hp2]; exact hmx) (fun _ _ => rfl) _ _ hP hD hS _ (lv_sub hl [0, 4, 3, 2, 1] rfl)
  · skip
    have hpe : n = pp := ((nI_eq (by omega) (by omega)).mp c_1).symm
    subst hpe
    refine lv_iload_n hx hb dX0_matchFrom_8 rfl (lv_at hl 3 rfl) ?_
    refine lv_aload_n hx hb dX0_matchFrom_9 rfl (lv_at hl 0 rfl) ?_
    refine g_get (v := .int (g 20)) hx hb hts hown hK hP 20 (by decide) rfl q169 rfl dX0_matchFrom_10 ?_
    refine lv_icmp_gt (tgt := 17) hx hb dX0_matchFrom_13 (by decide) (fun c_16 => ?_) (fun c_16 => ?_)
    · skip
      refine lv_aload_n hx hb dX0_matchFrom_17 rfl (lv_at hl 0 rfl) ?_
      refine lv_iload_n hx hb dX0_matchFrom_18 rfl (lv_at hl 3 rfl) ?_
      refine g_put (v := (nI (cn (isfV (a 3) (a 4)) (dg n qn n) n))) hx hb hts hown hK hP hD hS 20 20 (by decide) rfl q169 rfl rfl (by decide +kernel) dX0_matchFrom_19 (fun H locs hP hD hS => ?_)
      refine lv_aload_n hx hb dX0_matchFrom_22 rfl (lv_at hl 0 rfl) ?_
      refine g_get (v := .ref (q 20)) hx hb hts hown hK hP 18 (by decide) rfl q167 rfl dX0_matchFrom_23 ?_
      refine lv_iconst (v := 0) hx hb dX0_matchFrom_26 (by decide) ?_
      refine lv_aload_n hx hb dX0_matchFrom_27 rfl (lv_at hl 0 rfl) ?_
      refine g_get (v := .ref (q 30)) hx hb hts hown hK hP 19 (by decide) rfl q168 rfl dX0_matchFrom_28 ?_
      refine lv_iconst (v := 0) hx hb dX0_matchFrom_31 (by decide) ?_
      refine lv_bipush (v := 6) hx hb dX0_matchFrom_32 (by decide) ?_
      refine va_copyi (sp := 0) (dp := 0) (n := 6) hx hb (hml.trans hl.1.symm) hown (hts _ q789) (hts _ q578) (hts _ q577) (hts _ q90) hK hP hD hS 9 10 0 0 (gWa20 _ _ _ _ _ _ _ _ _ _ _ _) (gWa30 _ _ _ _ _ _ _ _ _ _ _ _) rfl rfl rfl (by decide) (by decide) (by decide) (by decide +kernel) (by decide +kernel) (fun _ _ => rfl) (Nat.le_of_ble_eq_true rfl) (Nat.le_of_ble_eq_true rfl) dX0_matchFrom_34 (fun H locs hP hD hS => ?_)
      rw [(gWs30 _ _ _ _ _ _ _ _ _ _ _ _ _)] at hP hD
      have hv9 : (mbV (a 3) (a 4) n) qn = nI (cn (isfV (a 3) (a 4)) (dg n qn n) n) := mbV_dst hn6 hn0 (fun k9 hk9 => (hpf k9 hk9).2)
      have hm9 : mxP (mbV (a 3) (a 4) n) n qn (g 20) (a 30) := by have h := hmx; rw [Nat.sub_self, Nat.pow_zero, Nat.mul_one] at h; exact h
      exact W.vret hx hb hr (fun t ht hW => ⟨⟨((upd g 20 (nI (cn (isfV (a 3) (a 4)) (dg n qn n) n))), (va_up a 30 (va_cpy (a 20) (a 30) (0 : Int32).toNatClampNeg (0 : Int32).toNatClampNeg (6 : Int32).toNatClampNeg))), rfl, ⟨_, a 20, _, by rw [Nat.sub_self, Nat.pow_zero, Nat.mul_one]; exact mx_gt hm9 (Nat.le_trans hcn hn6) hv9 (Int32.not_le.mpr c_16) (fun j9 hj9 => by rw [cpy6 (by omega)]; exact (hpf j9 hj9).1), fun _ _ => rfl, mf_id2 g a _ _⟩, by rw [ht]; exact hP, va_K.moved hW.alike hK, hD⟩, hS.F ht⟩) hS.2.2 dX0_matchFrom_37
    · skip
      have hv9 : (mbV (a 3) (a 4) n) qn = nI (cn (isfV (a 3) (a 4)) (dg n qn n) n) := mbV_dst hn6 hn0 (fun k9 hk9 => (hpf k9 hk9).2)
      have hm9 : mxP (mbV (a 3) (a 4) n) n qn (g 20) (a 30) := by have h := hmx; rw [Nat.sub_self, Nat.pow_zero, Nat.mul_one] at h; exact h
      exact W.vret hx hb hr (fun t ht hW => ⟨⟨(g, a), rfl, ⟨g 20, a 20, a 30, by rw [Nat.sub_self, Nat.pow_zero, Nat.mul_one]; exact mx_le hm9 (Nat.le_trans hcn hn6) hv9 (Int32.not_lt.mp c_16), fun _ _ => rfl, mf_id g a⟩, by rw [ht]; exact hP, va_K.moved hW.alike hK, hD⟩, hS.F ht⟩) hS.2.2 dX0_matchFrom_16
set_option maxHeartbeats 4000000 in
set_option maxRecDepth 100000 in
theorem metX0_matchFrom_2 (l : Launch) (dC : Nat → ClassId) (dI : Nat → Nat → Nat) (ct : Nat → ClassId) (A : Nat → Prop) (ex : va_W) (o : Nat) (q : Nat → Nat) (ql qs : Nat) (md : Int32) (qe n : Nat) (y : Nat → Nat) (g : Nat → Int32) (a : Nat → Nat → Int32) (x : Int32) (tk0 : Int32) (mn : Int32) (pp qn : Nat) (hn6 : n ≤ 6) (hn0 : 0 < n) (ex0 : x = nI pp) (et : tk0 = mset (tk (dg n qn pp) pp) n) (em : mn = nI (cn (isfV (a 3) (a 4)) (dg n qn pp) pp)) (hpn : pp ≤ n) (hdp : n ≤ pp + 2) (hpf : mpf n pp qn (a 20)) (hmx : mxP (mbV (a 3) (a 4) n) n (qn * n ^ (n - pp)) (g 20) (a 30)) : Met l yX0_matchFrom (ws_ yX0_matchFrom cX0_matchFrom 5 none) ({ frames := 6, cells := 0, slots := 0, locals := 135 }) (gPre dC dI ct A ex o q (ql, qs, md, qe, n) y g a [.ref o, .int x, .int tk0, .int mn]) (va_Qv (fun (u : (Nat → Int32) × (Nat → Nat → Int32)) => ∃ (ms : Int32), ∃ (D : Nat → Int32), ∃ (B : Nat → Int32), ∃ (hM : mxP (mbV (a 3) (a 4) n) n ((qn + 1) * n ^ (n - pp)) ms B), ∃ (hG : ∀ j, j < pp → D j = a 20 j), u = ((upd g 20 ms), (va_up (va_up a 20 D) 30 B))) (gB dC dI ct A ex o q (ql, qs, md, qe, n) y) A) 0 0 A := by
  refine Met.ofW (cc := cX0_matchFrom) (maxL := 5) (ret := none) (by decide) rfl ?_
  intro p e s m args below meth c s₁ B hml hv
  obtain ⟨rfl, hP, hK, hD, hE⟩ := hv
  have hx := B.exec
  have hb := B.bytes
  have hr := B.returns
  have hts := atoms_spec (ws := ws_ yX0_matchFrom cX0_matchFrom 5 none) B.pre
  have hts : ∀ w ∈ lw_all, w.before _ s = true := fun w h => hts w (List.mem_cons_of_mem _ h)
  have hown : s.vm.findClass RX0 = some m.cls := findClass_of_methodNamed B.named
  have hlocks := B.notSynchronized
  have hS : va_S A s.heap s.heap [] := va_S.rf
  have hl := lv_entry ([.ref o, .int x, .int tk0, .int mn]) (n := 5) (Nat.le_of_ble_eq_true rfl)
  rw [lg_entry_eq]
  generalize (lg_sl ([.ref o, .int x, .int tk0, .int mn]) ++ List.replicate (5 - (lg_sl ([.ref o, .int x, .int tk0, .int mn])).length) Slot.unset).toArray = ls at hl ⊢
  have hl : lv_has ls 5 [(0, .ref o), (1, .int x), (2, .int tk0), (3, .int mn)] := hl
  subst ex0
  subst et
  subst em
  have hcn := cn_le (isfV (a 3) (a 4)) (dg n qn pp) pp
  refine lv_iload_n hx hb dX0_matchFrom_0 rfl (lv_at hl 1 rfl) ?_
  refine lv_aload_n hx hb dX0_matchFrom_1 rfl (lv_at hl 0 rfl) ?_
  refine vp_callSi ((va_runV (As := []) (rest := [.int (nI pp)]) ⟨hx, hb, hml, hown, hts⟩ (metX0_people l dC dI ct A (peW ct o qe n y a ++ ex) o q ql qs md qe n g a  ) (cwV 0 hts (lw_V q593 q595 qs14 q69 q596) rfl rfl rfl (by decide +kernel) ⟨Nat.le_of_ble_eq_true rfl, Nat.le_of_ble_eq_true rfl⟩) (xPV hK hP hD hE _) rfl rfl hl.1 rfl (lv_room (Nat.le_of_ble_eq_true rfl)) dX0_matchFrom_2 ⟨Nat.zero_le _, Nat.zero_le _⟩)).run (fun r hw => ?_)
  have hw : r = (nI n) := hw
  subst hw
  refine lv_icmp_ne (tgt := 38) hx hb dX0_matchFrom_5 (by decide) (fun c_1 => ?_) (fun c_1 => ?_)
  · skip
    have hp2 : pp < n := Nat.lt_of_le_of_ne hpn (fun z => c_1 (by rw [z]))
    refine lv_iconst (v := 0) hx hb dX0_matchFrom_38 (by decide) ?_
    refine lv_istore (lv' := [(4, .int 0), (0, .ref o), (1, .int (nI pp)), (2, .int (mset (tk (dg n qn pp) pp) n)), (3, .int (nI (cn (isfV (a 3) (a 4)) (dg n qn pp) pp)))]) hx hb dX0_matchFrom_39 hl (by decide) rfl (fun ls hl => ?_)
    have loop1 : ∀ (f1 : Nat) (i : Nat) (ms : Int32) (D : Nat → Int32) (B : Nat → Int32), (i ≤ n) → (n + 1 ≤ i + f1) → (mxP (mbV (a 3) (a 4) n) n ((n * qn + i) * n ^ (n - (pp + 1))) ms B) → (∀ j, j < pp → D j = a 20 j) → ∀ (H : Heap) (locs : List Loc), va_P (dC, dI) clA (xG ct o q (ql, qs, md, qe, n) y (upd g 20 ms) (va_up (va_up a 20 D) 30 B) ex) H → va_D A (xG ct o q (ql, qs, md, qe, n) y (upd g 20 ms) (va_up (va_up a 20 D) 30 B) ex) → va_S A s.heap H locs → ∀ (ls : Array Slot), lv_has ls 5 [(4, .int (nI i)), (3, .int (nI (cn (isfV (a 3) (a 4)) (dg n qn pp) pp))), (2, .int (mset (tk (dg n qn pp) pp) n)), (1, .int (nI pp)), (0, .ref o)] → W p l e (headSpec (ws_ yX0_matchFrom cX0_matchFrom 5 none) ({ frames := 6, cells := 0, slots := 0, locals := 135 })).room s m ([.ref o, .int (nI pp), .int (mset (tk (dg n qn pp) pp) n), .int (nI (cn (isfV (a 3) (a 4)) (dg n qn pp) pp))] : List Value).toArray below meth c H locs 0 0 (MQ below (va_Qv (fun (u : (Nat → Int32) × (Nat → Nat → Int32)) => ∃ (ms : Int32), ∃ (D : Nat → Int32), ∃ (B : Nat → Int32), ∃ (hM : mxP (mbV (a 3) (a 4) n) n ((qn + 1) * n ^ (n - pp)) ms B), ∃ (hG : ∀ j, j < pp → D j = a 20 j), u = ((upd g 20 ms), (va_up (va_up a 20 D) 30 B))) (gB dC dI ct A ex o q (ql, qs, md, qe, n) y) A) ([.ref o, .int (nI pp), .int (mset (tk (dg n qn pp) pp) n), .int (nI (cn (isfV (a 3) (a 4)) (dg n qn pp) pp))] : List Value).toArray s 0 0 A) (F0 m 41 ls []) := by
      intro f1
      induction f1 with
      | zero => intro i ms D B hi hf hM1 hG1; exact False.elim (by omega)
      | succ f1 ih1 =>
        intro i ms D B hi hf hM1 hG1 H locs hP hD hS ls hl
        refine lv_iload hx hb dX0_matchFrom_41 (lv_at hl 0 rfl) ?_
        refine lv_aload_n hx hb dX0_matchFrom_43 rfl (lv_at hl 4 rfl) ?_
        refine vp_callSi ((va_runV (As := []) (rest := [.int (nI i)]) ⟨hx, hb, hml, hown, hts⟩ (metX0_people l dC dI ct A (peW ct o qe n y (va_up (va_up a 20 D) 30 B) ++ ex) o q ql qs md qe n (upd g 20 ms) (va_up (va_up a 20 D) 30 B)  ) (cwV 0 hts (lw_V q593 q595 qs14 q69 q596) rfl rfl rfl (by decide +kernel) ⟨Nat.le_of_ble_eq_true rfl, Nat.le_of_ble_eq_true rfl⟩) (xPV hK hP hD hE _) rfl rfl hl.1 rfl (lv_room (Nat.le_of_ble_eq_true rfl)) dX0_matchFrom_44 ⟨Nat.zero_le _, Nat.zero_le _⟩)).run (fun r hw => ?_)
        have hw : r = (nI n) := hw
        subst hw
        refine lv_icmp_ge (tgt := 106) hx hb dX0_matchFrom_47 (by decide) (fun c_2 => ?_) (fun c_2 => ?_)
        · skip
          have hge : i = n := by exact Nat.le_antisymm (by omega) ((nI_leI (by omega) (by omega)).mp c_2)
          exact W.vret hx hb hr (fun t ht hW => ⟨⟨((upd g 20 ms), (va_up (va_up a 20 D) 30 B)), rfl, ⟨ms, D, B, by rw [← mhi_eq hp2]; rw [hge] at hM1; exact hM1, hG1, rfl⟩, by rw [ht]; exact hP, va_K.moved hW.alike hK, hD⟩, hS.F ht⟩) hS.2.2 dX0_matchFrom_106
        · skip
          have hlt : i < n := by exact Nat.lt_of_not_le (fun z => c_2 ((nI_leI (by omega) (by omega)).mpr z))
          refine lv_iload_n hx hb dX0_matchFrom_50 rfl (lv_at hl 2 rfl) ?_
          refine lv_iload hx hb dX0_matchFrom_51 (lv_at hl 0 rfl) ?_
          refine vp_callSi ((va_runS (As := [.int (mset (tk (dg n qn pp) pp) n), .int (nI i)]) (rest := []) ⟨hx, hb, hml, hown, hts⟩ (metX0_isOf l (mset (tk (dg n qn pp) pp) n) (nI i) ) (va_cwS 2 hts (lw_S q723 q724 q69 q725) rfl rfl rfl (by decide +kernel) ⟨Nat.le_of_ble_eq_true rfl, Nat.le_of_ble_eq_true rfl⟩) (pcS _) rfl rfl hl.1 rfl (lv_room (Nat.le_of_ble_eq_true rfl)) dX0_matchFrom_53 ⟨Nat.zero_le _, Nat.zero_le _⟩)).run (fun r hw => ?_)
          have hw : r = (b2i (bq (mset (tk (dg n qn pp) pp) n) (nI i))) := hw
          subst hw
          refine bz_eq (tgt := 62) hx hb dX0_matchFrom_56 (by decide) (fun c_3 => ?_) (fun c_3 => ?_)
          · skip
            have hnt : tk (dg n qn pp) pp i = false := by rw [mset_bq _ (by omega) hlt] at c_3; exact c_3
            refine lv_aload_n hx hb dX0_matchFrom_62 rfl (lv_at hl 4 rfl) ?_
            refine g_get (v := .ref (q 20)) hx hb hts hown hK hP 18 (by decide) rfl q167 rfl dX0_matchFrom_63 ?_
            refine lv_iload_n hx hb dX0_matchFrom_66 rfl (lv_at hl 3 rfl) ?_
            refine lv_iload hx hb dX0_matchFrom_67 (lv_at hl 0 rfl) ?_
            refine g_ist (x := (nI i)) hx hb hK hP hD hS (gWa20 _ _ _ _ _ _ _ _ _ _ _ _) (gWs20 _ _ _ _ _ _ _ _ _ _ _ _) D rfl pp rfl (by omega) (by decide) dX0_matchFrom_69 (fun H locs hP hD hS => ?_)
            have eW_4 : ∀ (zg20 : Int32) (za20 : Nat → Int32) (za30 : Nat → Int32) (zn : Nat → Int32), xG ct o q (ql, qs, md, qe, n) y (upd g 20 zg20) (va_up (va_up (va_up a 20 za20) 30 za30) 20 zn) ex = xG ct o q (ql, qs, md, qe, n) y (upd g 20 zg20) (va_up (va_up a 20 zn) 30 za30) ex := fun _ _ _ _ => rfl
            have hP : va_P (dC, dI) clA (xG ct o q (ql, qs, md, qe, n) y (upd g 20 ms) (va_up (va_up a 20 (upd D pp (nI i))) 30 B) ex) H := Eq.mp (congrArg (fun w => va_P (dC, dI) clA w H) (eW_4 ms D B (upd D pp (nI i)))) hP
            have hD : va_D A (xG ct o q (ql, qs, md, qe, n) y (upd g 20 ms) (va_up (va_up a 20 (upd D pp (nI i))) 30 B) ex) := Eq.mp (congrArg (fun w => va_D A w) (eW_4 ms D B (upd D pp (nI i)))) hD
            refine lv_aload_n hx hb dX0_matchFrom_70 rfl (lv_at hl 4 rfl) ?_
            refine lv_iload_n hx hb dX0_matchFrom_71 rfl (lv_at hl 3 rfl) ?_
            refine lv_iconst (v := 1) hx hb dX0_matchFrom_72 (by decide) ?_
            refine lv_iadd hx hb dX0_matchFrom_73 ?_
            refine lv_iload_n hx hb dX0_matchFrom_74 rfl (lv_at hl 2 rfl) ?_
            refine lv_iconst (v := 1) hx hb dX0_matchFrom_75 (by decide) ?_
            refine lv_iload hx hb dX0_matchFrom_76 (lv_at hl 0 rfl) ?_
            refine lv_ishl hx hb dX0_matchFrom_78 ?_
            refine lv_ior hx hb dX0_matchFrom_79 ?_
            refine lv_iload_n hx hb dX0_matchFrom_80 rfl (lv_at hl 1 rfl) ?_
            refine lv_aload_n hx hb dX0_matchFrom_81 rfl (lv_at hl 4 rfl) ?_
            refine lv_iload_n hx hb dX0_matchFrom_82 rfl (lv_at hl 3 rfl) ?_
            refine lv_iload hx hb dX0_matchFrom_83 (lv_at hl 0 rfl) ?_
            refine vp_callSi ((va_runV (As := [.int (nI pp), .int (nI i)]) (rest := [.int (nI (cn (isfV (a 3) (a 4)) (dg n qn pp) pp)), .int ((mset (tk (dg n qn pp) pp) n) ||| (1 <<< ((nI i) &&& 31))), .int ((nI pp) + 1), .ref o]) ⟨hx, hb, hml, hown, hts⟩ (metX0_isMendedBy l dC dI ct A ex o q ql qs md qe n y (upd g 20 ms) (va_up (va_up a 20 (upd D pp (nI i))) 30 B) (nI pp) (nI i) pp i hp2 hlt rfl rfl hn6) (cwV 2 hts (lw_V q790 q792 qs32 q69 q793) rfl rfl rfl (by decide +kernel) ⟨Nat.le_of_ble_eq_true rfl, Nat.le_of_ble_eq_true rfl⟩) (gPV hK hP hD hE _) rfl rfl hl.1 rfl (lv_room (Nat.le_of_ble_eq_true rfl)) dX0_matchFrom_85 ⟨Nat.zero_le _, Nat.zero_le _⟩)).run (fun r hw => ?_)
            have hw : r = (b2i (isfV (a 3) (a 4) pp i)) := hw
            subst hw
            refine bz_eq (tgt := 95) hx hb dX0_matchFrom_88 (by decide) (fun c_5 => ?_) (fun c_5 => ?_)
            · skip
              refine lv_iconst (v := 0) hx hb dX0_matchFrom_95 (by decide) ?_
              refine lv_iadd hx hb dX0_matchFrom_96 ?_
              have em9 : (nI (cn (isfV (a 3) (a 4)) (dg n qn pp) pp)) + 0 = nI (cn (isfV (a 3) (a 4)) (dg n (n * qn + i) (pp + 1)) (pp + 1)) := by rw [cn_app hlt, if_neg (by rw [c_5]; decide)]; exact nI_add _ 0
              refine va_callv (va_runV (As := [.int ((nI pp) + 1), .int ((mset (tk (dg n qn pp) pp) n) ||| (1 <<< ((nI i) &&& 31))), .int ((nI (cn (isfV (a 3) (a 4)) (dg n qn pp) pp)) + 0)]) (rest := []) ⟨hx, hb, hml, hown, hts⟩ (metX0_matchFrom_1 l dC dI ct A ex o q ql qs md qe n y (upd g 20 ms) (va_up (va_up a 20 (upd D pp (nI i))) 30 B) ((nI pp) + 1) ((mset (tk (dg n qn pp) pp) n) ||| (1 <<< ((nI i) &&& 31))) ((nI (cn (isfV (a 3) (a 4)) (dg n qn pp) pp)) + 0) (pp + 1) (n * qn + i) hn6 hn0 (nI_1 pp) (tk_app (by omega) hlt) em9 (by omega) (by omega) (mpf_app hpf hG1 hlt hnt) hM1) (cwV 3 hts (lw_V q785 q787 qs31 q69 q788) rfl rfl rfl (by decide +kernel) ⟨Nat.le_of_ble_eq_true rfl, Nat.le_of_ble_eq_true rfl⟩) (gPV hK hP hD hE _) rfl rfl hl.1 rfl (lv_room (Nat.le_of_ble_eq_true rfl)) dX0_matchFrom_97 ⟨Nat.zero_le _, Nat.zero_le _⟩) hS (fun q _ h => h) (fun q h => h) (fun u t H1 locs ht hvm hw hB hz1 hk1 hS => ?_)
              obtain ⟨ms_6, D_7, B_8, hM_9, hG_10, hw⟩ := hw
              subst hw
              obtain ⟨hP, -, hD⟩ := hB
              rw [ht] at hP
              generalize H1 = H at hP hS ⊢
              have hP : va_P (dC, dI) clA (xG ct o q (ql, qs, md, qe, n) y (upd g 20 ms_6) (va_up (va_up a 20 D_7) 30 B_8) ex) H := hP
              have hD : va_D A (xG ct o q (ql, qs, md, qe, n) y (upd g 20 ms_6) (va_up (va_up a 20 D_7) 30 B_8) ex) := hD
              refine lv_iinc (v := (nI (i + 1))) (lv' := [(4, .int (nI (i + 1))), (3, .int (nI (cn (isfV (a 3) (a 4)) (dg n qn pp) pp))), (2, .int (mset (tk (dg n qn pp) pp) n)), (1, .int (nI pp)), (0, .ref o)]) hx hb dX0_matchFrom_100 hl (k := 0) rfl (nI_1 i) (by decide) rfl (fun ls hl => ?_)
              refine lv_goto (tgt := 41) hx hb dX0_matchFrom_103 (by decide) ?_
              exact ih1 (i + 1) ms_6 D_7 B_8 (by omega) (by omega) hM_9 (fun j hj => ((hG_10) j (by omega)).trans ((upd_n _ _ (by omega)).trans (hG1 j hj))) _ _ hP hD hS _ (lv_sub hl [0, 1, 2, 3, 4] rfl)
            · skip
              refine lv_iconst (v := 1) hx hb dX0_matchFrom_91 (by decide) ?_
              refine lv_goto (tgt := 96) hx hb dX0_matchFrom_92 (by decide) ?_
              refine lv_iadd hx hb dX0_matchFrom_96 ?_
              have em9 : (nI (cn (isfV (a 3) (a 4)) (dg n qn pp) pp)) + 1 = nI (cn (isfV (a 3) (a 4)) (dg n (n * qn + i) (pp + 1)) (pp + 1)) := by rw [cn_app hlt, if_pos c_5]; exact nI_1 _
              refine va_callv (va_runV (As := [.int ((nI pp) + 1), .int ((mset (tk (dg n qn pp) pp) n) ||| (1 <<< ((nI i) &&& 31))), .int ((nI (cn (isfV (a 3) (a 4)) (dg n qn pp) pp)) + 1)]) (rest := []) ⟨hx, hb, hml, hown, hts⟩ (metX0_matchFrom_1 l dC dI ct A ex o q ql qs md qe n y (upd g 20 ms) (va_up (va_up a 20 (upd D pp (nI i))) 30 B) ((nI pp) + 1) ((mset (tk (dg n qn pp) pp) n) ||| (1 <<< ((nI i) &&& 31))) ((nI (cn (isfV (a 3) (a 4)) (dg n qn pp) pp)) + 1) (pp + 1) (n * qn + i) hn6 hn0 (nI_1 pp) (tk_app (by omega) hlt) em9 (by omega) (by omega) (mpf_app hpf hG1 hlt hnt) hM1) (cwV 3 hts (lw_V q785 q787 qs31 q69 q788) rfl rfl rfl (by decide +kernel) ⟨Nat.le_of_ble_eq_true rfl, Nat.le_of_ble_eq_true rfl⟩) (gPV hK hP hD hE _) rfl rfl hl.1 rfl (lv_room (Nat.le_of_ble_eq_true rfl)) dX0_matchFrom_97 ⟨Nat.zero_le _, Nat.zero_le _⟩) hS (fun q _ h => h) (fun q h => h) (fun u t H1 locs ht hvm hw hB hz1 hk1 hS => ?_)
              obtain ⟨ms_11, D_12, B_13, hM_14, hG_15, hw⟩ := hw
              subst hw
              obtain ⟨hP, -, hD⟩ := hB
              rw [ht] at hP
              generalize H1 = H at hP hS ⊢
              have hP : va_P (dC, dI) clA (xG ct o q (ql, qs, md, qe, n) y (upd g 20 ms_11) (va_up (va_up a 20 D_12) 30 B_13) ex) H := hP
              have hD : va_D A (xG ct o q (ql, qs, md, qe, n) y (upd g 20 ms_11) (va_up (va_up a 20 D_12) 30 B_13) ex) := hD
              refine lv_iinc (v := (nI (i + 1))) (lv' := [(4, .int (nI (i + 1))), (3, .int (nI (cn (isfV (a 3) (a 4)) (dg n qn pp) pp))), (2, .int (mset (tk (dg n qn pp) pp) n)), (1, .int (nI pp)), (0, .ref o)]) hx hb dX0_matchFrom_100 hl (k := 0) rfl (nI_1 i) (by decide) rfl (fun ls hl => ?_)
              refine lv_goto (tgt := 41) hx hb dX0_matchFrom_103 (by decide) ?_
              exact ih1 (i + 1) ms_11 D_12 B_13 (by omega) (by omega) hM_14 (fun j hj => ((hG_15) j (by omega)).trans ((upd_n _ _ (by omega)).trans (hG1 j hj))) _ _ hP hD hS _ (lv_sub hl [0, 1, 2, 3, 4] rfl)
          · skip
            skip
            refine lv_goto (tgt := 100) hx hb dX0_matchFrom_59 (by decide) ?_
            refine lv_iinc (v := (nI (i + 1))) (lv' := [(4, .int (nI (i + 1))), (3, .int (nI (cn (isfV (a 3) (a 4)) (dg n qn pp) pp))), (2, .int (mset (tk (dg n qn pp) pp) n)), (1, .int (nI pp)), (0, .ref o)]) hx hb dX0_matchFrom_100 hl (k := 0) rfl (nI_1 i) (by decide) rfl (fun ls hl => ?_)
            refine lv_goto (tgt := 41) hx hb dX0_matchFrom_103 (by decide) ?_
            exact ih1 (i + 1) ms D B (by omega) (by omega) (mx_taken hn6 hp2 hlt (by rw [mset_bq _ (by omega) hlt] at c_3; exact c_3) hM1) hG1 _ _ hP hD hS _ (lv_sub hl [0, 1, 2, 3, 4] rfl)
    exact loop1 (n + 1) 0 (g 20) (a 20) (a 30) (by omega) (by omega) (by rw [mlo_eq hp2]; exact hmx) (fun _ _ => rfl) _ _ hP hD hS _ (lv_sub hl [0, 4, 3, 2, 1] rfl)
  · skip
    have hpe : n = pp := ((nI_eq (by omega) (by omega)).mp c_1).symm
    subst hpe
    refine lv_iload_n hx hb dX0_matchFrom_8 rfl (lv_at hl 3 rfl) ?_
    refine lv_aload_n hx hb dX0_matchFrom_9 rfl (lv_at hl 0 rfl) ?_
    refine g_get (v := .int (g 20)) hx hb hts hown hK hP 20 (by decide) rfl q169 rfl dX0_matchFrom_10 ?_
    refine lv_icmp_gt (tgt := 17) hx hb dX0_matchFrom_13 (by decide) (fun c_16 => ?_) (fun c_16 => ?_)
    · skip
      refine lv_aload_n hx hb dX0_matchFrom_17 rfl (lv_at hl 0 rfl) ?_
      refine lv_iload_n hx hb dX0_matchFrom_18 rfl (lv_at hl 3 rfl) ?_
      refine g_put (v := (nI (cn (isfV (a 3) (a 4)) (dg n qn n) n))) hx hb hts hown hK hP hD hS 20 20 (by decide) rfl q169 rfl rfl (by decide +kernel) dX0_matchFrom_19 (fun H locs hP hD hS => ?_)
      refine lv_aload_n hx hb dX0_matchFrom_22 rfl (lv_at hl 0 rfl) ?_
      refine g_get (v := .ref (q 20)) hx hb hts hown hK hP 18 (by decide) rfl q167 rfl dX0_matchFrom_23 ?_
      refine lv_iconst (v := 0) hx hb dX0_matchFrom_26 (by decide) ?_
      refine lv_aload_n hx hb dX0_matchFrom_27 rfl (lv_at hl 0 rfl) ?_
      refine g_get (v := .ref (q 30)) hx hb hts hown hK hP 19 (by decide) rfl q168 rfl dX0_matchFrom_28 ?_
      refine lv_iconst (v := 0) hx hb dX0_matchFrom_31 (by decide) ?_
      refine lv_bipush (v := 6) hx hb dX0_matchFrom_32 (by decide) ?_
      refine va_copyi (sp := 0) (dp := 0) (n := 6) hx hb (hml.trans hl.1.symm) hown (hts _ q789) (hts _ q578) (hts _ q577) (hts _ q90) hK hP hD hS 9 10 0 0 (gWa20 _ _ _ _ _ _ _ _ _ _ _ _) (gWa30 _ _ _ _ _ _ _ _ _ _ _ _) rfl rfl rfl (by decide) (by decide) (by decide) (by decide +kernel) (by decide +kernel) (fun _ _ => rfl) (Nat.le_of_ble_eq_true rfl) (Nat.le_of_ble_eq_true rfl) dX0_matchFrom_34 (fun H locs hP hD hS => ?_)
      rw [(gWs30 _ _ _ _ _ _ _ _ _ _ _ _ _)] at hP hD
      have hv9 : (mbV (a 3) (a 4) n) qn = nI (cn (isfV (a 3) (a 4)) (dg n qn n) n) := mbV_dst hn6 hn0 (fun k9 hk9 => (hpf k9 hk9).2)
      have hm9 : mxP (mbV (a 3) (a 4) n) n qn (g 20) (a 30) := by have h := hmx; rw [Nat.sub_self, Nat.pow_zero, Nat.mul_one] at h; exact h
      exact W.vret hx hb hr (fun t ht hW => ⟨⟨((upd g 20 (nI (cn (isfV (a 3) (a 4)) (dg n qn n) n))), (va_up a 30 (va_cpy (a 20) (a 30) (0 : Int32).toNatClampNeg (0 : Int32).toNatClampNeg (6 : Int32).toNatClampNeg))), rfl, ⟨_, a 20, _, by rw [Nat.sub_self, Nat.pow_zero, Nat.mul_one]; exact mx_gt hm9 (Nat.le_trans hcn hn6) hv9 (Int32.not_le.mpr c_16) (fun j9 hj9 => by rw [cpy6 (by omega)]; exact (hpf j9 hj9).1), fun _ _ => rfl, mf_id2 g a _ _⟩, by rw [ht]; exact hP, va_K.moved hW.alike hK, hD⟩, hS.F ht⟩) hS.2.2 dX0_matchFrom_37
    · skip
      have hv9 : (mbV (a 3) (a 4) n) qn = nI (cn (isfV (a 3) (a 4)) (dg n qn n) n) := mbV_dst hn6 hn0 (fun k9 hk9 => (hpf k9 hk9).2)
      have hm9 : mxP (mbV (a 3) (a 4) n) n qn (g 20) (a 30) := by have h := hmx; rw [Nat.sub_self, Nat.pow_zero, Nat.mul_one] at h; exact h
      exact W.vret hx hb hr (fun t ht hW => ⟨⟨(g, a), rfl, ⟨g 20, a 20, a 30, by rw [Nat.sub_self, Nat.pow_zero, Nat.mul_one]; exact mx_le hm9 (Nat.le_trans hcn hn6) hv9 (Int32.not_lt.mp c_16), fun _ _ => rfl, mf_id g a⟩, by rw [ht]; exact hP, va_K.moved hW.alike hK, hD⟩, hS.F ht⟩) hS.2.2 dX0_matchFrom_16
set_option maxHeartbeats 4000000 in
set_option maxRecDepth 100000 in
theorem metX0_matchFrom_3 (l : Launch) (dC : Nat → ClassId) (dI : Nat → Nat → Nat) (ct : Nat → ClassId) (A : Nat → Prop) (ex : va_W) (o : Nat) (q : Nat → Nat) (ql qs : Nat) (md : Int32) (qe n : Nat) (y : Nat → Nat) (g : Nat → Int32) (a : Nat → Nat → Int32) (x : Int32) (tk0 : Int32) (mn : Int32) (pp qn : Nat) (hn6 : n ≤ 6) (hn0 : 0 < n) (ex0 : x = nI pp) (et : tk0 = mset (tk (dg n qn pp) pp) n) (em : mn = nI (cn (isfV (a 3) (a 4)) (dg n qn pp) pp)) (hpn : pp ≤ n) (hdp : n ≤ pp + 3) (hpf : mpf n pp qn (a 20)) (hmx : mxP (mbV (a 3) (a 4) n) n (qn * n ^ (n - pp)) (g 20) (a 30)) : Met l yX0_matchFrom (ws_ yX0_matchFrom cX0_matchFrom 5 none) ({ frames := 7, cells := 0, slots := 0, locals := 159 }) (gPre dC dI ct A ex o q (ql, qs, md, qe, n) y g a [.ref o, .int x, .int tk0, .int mn]) (va_Qv (fun (u : (Nat → Int32) × (Nat → Nat → Int32)) => ∃ (ms : Int32), ∃ (D : Nat → Int32), ∃ (B : Nat → Int32), ∃ (hM : mxP (mbV (a 3) (a 4) n) n ((qn + 1) * n ^ (n - pp)) ms B), ∃ (hG : ∀ j, j < pp → D j = a 20 j), u = ((upd g 20 ms), (va_up (va_up a 20 D) 30 B))) (gB dC dI ct A ex o q (ql, qs, md, qe, n) y) A) 0 0 A := by
  refine Met.ofW (cc := cX0_matchFrom) (maxL := 5) (ret := none) (by decide) rfl ?_
  intro p e s m args below meth c s₁ B hml hv
  obtain ⟨rfl, hP, hK, hD, hE⟩ := hv
  have hx := B.exec
  have hb := B.bytes
  have hr := B.returns
  have hts := atoms_spec (ws := ws_ yX0_matchFrom cX0_matchFrom 5 none) B.pre
  have hts : ∀ w ∈ lw_all, w.before _ s = true := fun w h => hts w (List.mem_cons_of_mem _ h)
  have hown : s.vm.findClass RX0 = some m.cls := findClass_of_methodNamed B.named
  have hlocks := B.notSynchronized
  have hS : va_S A s.heap s.heap [] := va_S.rf
  have hl := lv_entry ([.ref o, .int x, .int tk0, .int mn]) (n := 5) (Nat.le_of_ble_eq_true rfl)
  rw [lg_entry_eq]
  generalize (lg_sl ([.ref o, .int x, .int tk0, .int mn]) ++ List.replicate (5 - (lg_sl ([.ref o, .int x, .int tk0, .int mn])).length) Slot.unset).toArray = ls at hl ⊢
  have hl : lv_has ls 5 [(0, .ref o), (1, .int x), (2, .int tk0), (3, .int mn)] := hl
  subst ex0
  subst et
  subst em
  have hcn := cn_le (isfV (a 3) (a 4)) (dg n qn pp) pp
  refine lv_iload_n hx hb dX0_matchFrom_0 rfl (lv_at hl 1 rfl) ?_
  refine lv_aload_n hx hb dX0_matchFrom_1 rfl (lv_at hl 0 rfl) ?_
  refine vp_callSi ((va_runV (As := []) (rest := [.int (nI pp)]) ⟨hx, hb, hml, hown, hts⟩ (metX0_people l dC dI ct A (peW ct o qe n y a ++ ex) o q ql qs md qe n g a  ) (cwV 0 hts (lw_V q593 q595 qs14 q69 q596) rfl rfl rfl (by decide +kernel) ⟨Nat.le_of_ble_eq_true rfl, Nat.le_of_ble_eq_true rfl⟩) (xPV hK hP hD hE _) rfl rfl hl.1 rfl (lv_room (Nat.le_of_ble_eq_true rfl)) dX0_matchFrom_2 ⟨Nat.zero_le _, Nat.zero_le _⟩)).run (fun r hw => ?_)
  have hw : r = (nI n) := hw
  subst hw
  refine lv_icmp_ne (tgt := 38) hx hb dX0_matchFrom_5 (by decide) (fun c_1 => ?_) (fun c_1 => ?_)
  · skip
    have hp2 : pp < n := Nat.lt_of_le_of_ne hpn (fun z => c_1 (by rw [z]))
    refine lv_iconst (v := 0) hx hb dX0_matchFrom_38 (by decide) ?_
    refine lv_istore (lv' := [(4, .int 0), (0, .ref o), (1, .int (nI pp)), (2, .int (mset (tk (dg n qn pp) pp) n)), (3, .int (nI (cn (isfV (a 3) (a 4)) (dg n qn pp) pp)))]) hx hb dX0_matchFrom_39 hl (by decide) rfl (fun ls hl => ?_)
    have loop1 : ∀ (f1 : Nat) (i : Nat) (ms : Int32) (D : Nat → Int32) (B : Nat → Int32), (i ≤ n) → (n + 1 ≤ i + f1) → (mxP (mbV (a 3) (a 4) n) n ((n * qn + i) * n ^ (n - (pp + 1))) ms B) → (∀ j, j < pp → D j = a 20 j) → ∀ (H : Heap) (locs : List Loc), va_P (dC, dI) clA (xG ct o q (ql, qs, md, qe, n) y (upd g 20 ms) (va_up (va_up a 20 D) 30 B) ex) H → va_D A (xG ct o q (ql, qs, md, qe, n) y (upd g 20 ms) (va_up (va_up a 20 D) 30 B) ex) → va_S A s.heap H locs → ∀ (ls : Array Slot), lv_has ls 5 [(4, .int (nI i)), (3, .int (nI (cn (isfV (a 3) (a 4)) (dg n qn pp) pp))), (2, .int (mset (tk (dg n qn pp) pp) n)), (1, .int (nI pp)), (0, .ref o)] → W p l e (headSpec (ws_ yX0_matchFrom cX0_matchFrom 5 none) ({ frames := 7, cells := 0, slots := 0, locals := 159 })).room s m ([.ref o, .int (nI pp), .int (mset (tk (dg n qn pp) pp) n), .int (nI (cn (isfV (a 3) (a 4)) (dg n qn pp) pp))] : List Value).toArray below meth c H locs 0 0 (MQ below (va_Qv (fun (u : (Nat → Int32) × (Nat → Nat → Int32)) => ∃ (ms : Int32), ∃ (D : Nat → Int32), ∃ (B : Nat → Int32), ∃ (hM : mxP (mbV (a 3) (a 4) n) n ((qn + 1) * n ^ (n - pp)) ms B), ∃ (hG : ∀ j, j < pp → D j = a 20 j), u = ((upd g 20 ms), (va_up (va_up a 20 D) 30 B))) (gB dC dI ct A ex o q (ql, qs, md, qe, n) y) A) ([.ref o, .int (nI pp), .int (mset (tk (dg n qn pp) pp) n), .int (nI (cn (isfV (a 3) (a 4)) (dg n qn pp) pp))] : List Value).toArray s 0 0 A) (F0 m 41 ls []) := by
      intro f1
      induction f1 with
      | zero => intro i ms D B hi hf hM1 hG1; exact False.elim (by omega)
      | succ f1 ih1 =>
        intro i ms D B hi hf hM1 hG1 H locs hP hD hS ls hl
        refine lv_iload hx hb dX0_matchFrom_41 (lv_at hl 0 rfl) ?_
        refine lv_aload_n hx hb dX0_matchFrom_43 rfl (lv_at hl 4 rfl) ?_
        refine vp_callSi ((va_runV (As := []) (rest := [.int (nI i)]) ⟨hx, hb, hml, hown, hts⟩ (metX0_people l dC dI ct A (peW ct o qe n y (va_up (va_up a 20 D) 30 B) ++ ex) o q ql qs md qe n (upd g 20 ms) (va_up (va_up a 20 D) 30 B)  ) (cwV 0 hts (lw_V q593 q595 qs14 q69 q596) rfl rfl rfl (by decide +kernel) ⟨Nat.le_of_ble_eq_true rfl, Nat.le_of_ble_eq_true rfl⟩) (xPV hK hP hD hE _) rfl rfl hl.1 rfl (lv_room (Nat.le_of_ble_eq_true rfl)) dX0_matchFrom_44 ⟨Nat.zero_le _, Nat.zero_le _⟩)).run (fun r hw => ?_)
        have hw : r = (nI n) := hw
        subst hw
        refine lv_icmp_ge (tgt := 106) hx hb dX0_matchFrom_47 (by decide) (fun c_2 => ?_) (fun c_2 => ?_)
        · skip
          have hge : i = n := by exact Nat.le_antisymm (by omega) ((nI_leI (by omega) (by omega)).mp c_2)
          exact W.vret hx hb hr (fun t ht hW => ⟨⟨((upd g 20 ms), (va_up (va_up a 20 D) 30 B)), rfl, ⟨ms, D, B, by rw [← mhi_eq hp2]; rw [hge] at hM1; exact hM1, hG1, rfl⟩, by rw [ht]; exact hP, va_K.moved hW.alike hK, hD⟩, hS.F ht⟩) hS.2.2 dX0_matchFrom_106
        · skip
          have hlt : i < n := by exact Nat.lt_of_not_le (fun z => c_2 ((nI_leI (by omega) (by omega)).mpr z))
          refine lv_iload_n hx hb dX0_matchFrom_50 rfl (lv_at hl 2 rfl) ?_
          refine lv_iload hx hb dX0_matchFrom_51 (lv_at hl 0 rfl) ?_
          refine vp_callSi ((va_runS (As := [.int (mset (tk (dg n qn pp) pp) n), .int (nI i)]) (rest := []) ⟨hx, hb, hml, hown, hts⟩ (metX0_isOf l (mset (tk (dg n qn pp) pp) n) (nI i) ) (va_cwS 2 hts (lw_S q723 q724 q69 q725) rfl rfl rfl (by decide +kernel) ⟨Nat.le_of_ble_eq_true rfl, Nat.le_of_ble_eq_true rfl⟩) (pcS _) rfl rfl hl.1 rfl (lv_room (Nat.le_of_ble_eq_true rfl)) dX0_matchFrom_53 ⟨Nat.zero_le _, Nat.zero_le _⟩)).run (fun r hw => ?_)
          have hw : r = (b2i (bq (mset (tk (dg n qn pp) pp) n) (nI i))) := hw
          subst hw
          refine bz_eq (tgt := 62) hx hb dX0_matchFrom_56 (by decide) (fun c_3 => ?_) (fun c_3 => ?_)
          · skip
            have hnt : tk (dg n qn pp) pp i = false := by rw [mset_bq _ (by omega) hlt] at c_3; exact c_3
            refine lv_aload_n hx hb dX0_matchFrom_62 rfl (lv_at hl 4 rfl) ?_
            refine g_get (v := .ref (q 20)) hx hb hts hown hK hP 18 (by decide) rfl q167 rfl dX0_matchFrom_63 ?_
            refine lv_iload_n hx hb dX0_matchFrom_66 rfl (lv_at hl 3 rfl) ?_
            refine lv_iload hx hb dX0_matchFrom_67 (lv_at hl 0 rfl) ?_
            refine g_ist (x := (nI i)) hx hb hK hP hD hS (gWa20 _ _ _ _ _ _ _ _ _ _ _ _) (gWs20 _ _ _ _ _ _ _ _ _ _ _ _) D rfl pp rfl (by omega) (by decide) dX0_matchFrom_69 (fun H locs hP hD hS => ?_)
            have eW_4 : ∀ (zg20 : Int32) (za20 : Nat → Int32) (za30 : Nat → Int32) (zn : Nat → Int32), xG ct o q (ql, qs, md, qe, n) y (upd g 20 zg20) (va_up (va_up (va_up a 20 za20) 30 za30) 20 zn) ex = xG ct o q (ql, qs, md, qe, n) y (upd g 20 zg20) (va_up (va_up a 20 zn) 30 za30) ex := fun _ _ _ _ => rfl
            have hP : va_P (dC, dI) clA (xG ct o q (ql, qs, md, qe, n) y (upd g 20 ms) (va_up (va_up a 20 (upd D pp (nI i))) 30 B) ex) H := Eq.mp (congrArg (fun w => va_P (dC, dI) clA w H) (eW_4 ms D B (upd D pp (nI i)))) hP
            have hD : va_D A (xG ct o q (ql, qs, md, qe, n) y (upd g 20 ms) (va_up (va_up a 20 (upd D pp (nI i))) 30 B) ex) := Eq.mp (congrArg (fun w => va_D A w) (eW_4 ms D B (upd D pp (nI i)))) hD
            refine lv_aload_n hx hb dX0_matchFrom_70 rfl (lv_at hl 4 rfl) ?_
            refine lv_iload_n hx hb dX0_matchFrom_71 rfl (lv_at hl 3 rfl) ?_
            refine lv_iconst (v := 1) hx hb dX0_matchFrom_72 (by decide) ?_
            refine lv_iadd hx hb dX0_matchFrom_73 ?_
            refine lv_iload_n hx hb dX0_matchFrom_74 rfl (lv_at hl 2 rfl) ?_
            refine lv_iconst (v := 1) hx hb dX0_matchFrom_75 (by decide) ?_
            refine lv_iload hx hb dX0_matchFrom_76 (lv_at hl 0 rfl) ?_
            refine lv_ishl hx hb dX0_matchFrom_78 ?_
            refine lv_ior hx hb dX0_matchFrom_79 ?_
            refine lv_iload_n hx hb dX0_matchFrom_80 rfl (lv_at hl 1 rfl) ?_
            refine lv_aload_n hx hb dX0_matchFrom_81 rfl (lv_at hl 4 rfl) ?_
            refine lv_iload_n hx hb dX0_matchFrom_82 rfl (lv_at hl 3 rfl) ?_
            refine lv_iload hx hb dX0_matchFrom_83 (lv_at hl 0 rfl) ?_
            refine vp_callSi ((va_runV (As := [.int (nI pp), .int (nI i)]) (rest := [.int (nI (cn (isfV (a 3) (a 4)) (dg n qn pp) pp)), .int ((mset (tk (dg n qn pp) pp) n) ||| (1 <<< ((nI i) &&& 31))), .int ((nI pp) + 1), .ref o]) ⟨hx, hb, hml, hown, hts⟩ (metX0_isMendedBy l dC dI ct A ex o q ql qs md qe n y (upd g 20 ms) (va_up (va_up a 20 (upd D pp (nI i))) 30 B) (nI pp) (nI i) pp i hp2 hlt rfl rfl hn6) (cwV 2 hts (lw_V q790 q792 qs32 q69 q793) rfl rfl rfl (by decide +kernel) ⟨Nat.le_of_ble_eq_true rfl, Nat.le_of_ble_eq_true rfl⟩) (gPV hK hP hD hE _) rfl rfl hl.1 rfl (lv_room (Nat.le_of_ble_eq_true rfl)) dX0_matchFrom_85 ⟨Nat.zero_le _, Nat.zero_le _⟩)).run (fun r hw => ?_)
            have hw : r = (b2i (isfV (a 3) (a 4) pp i)) := hw
            subst hw
            refine bz_eq (tgt := 95) hx hb dX0_matchFrom_88 (by decide) (fun c_5 => ?_) (fun c_5 => ?_)
            · skip
              refine lv_iconst (v := 0) hx hb dX0_matchFrom_95 (by decide) ?_
              refine lv_iadd hx hb dX0_matchFrom_96 ?_
              have em9 : (nI (cn (isfV (a 3) (a 4)) (dg n qn pp) pp)) + 0 = nI (cn (isfV (a 3) (a 4)) (dg n (n * qn + i) (pp + 1)) (pp + 1)) := by rw [cn_app hlt, if_neg (by rw [c_5]; decide)]; exact nI_add _ 0
              refine va_callv (va_runV (As := [.int ((nI pp) + 1), .int ((mset (tk (dg n qn pp) pp) n) ||| (1 <<< ((nI i) &&& 31))), .int ((nI (cn (isfV (a 3) (a 4)) (dg n qn pp) pp)) + 0)]) (rest := []) ⟨hx, hb, hml, hown, hts⟩ (metX0_matchFrom_2 l dC dI ct A ex o q ql qs md qe n y (upd g 20 ms) (va_up (va_up a 20 (upd D pp (nI i))) 30 B) ((nI pp) + 1) ((mset (tk (dg n qn pp) pp) n) ||| (1 <<< ((nI i) &&& 31))) ((nI (cn (isfV (a 3) (a 4)) (dg n qn pp) pp)) + 0) (pp + 1) (n * qn + i) hn6 hn0 (nI_1 pp) (tk_app (by omega) hlt) em9 (by omega) (by omega) (mpf_app hpf hG1 hlt hnt) hM1) (cwV 3 hts (lw_V q785 q787 qs31 q69 q788) rfl rfl rfl (by decide +kernel) ⟨Nat.le_of_ble_eq_true rfl, Nat.le_of_ble_eq_true rfl⟩) (gPV hK hP hD hE _) rfl rfl hl.1 rfl (lv_room (Nat.le_of_ble_eq_true rfl)) dX0_matchFrom_97 ⟨Nat.zero_le _, Nat.zero_le _⟩) hS (fun q _ h => h) (fun q h => h) (fun u t H1 locs ht hvm hw hB hz1 hk1 hS => ?_)
              obtain ⟨ms_6, D_7, B_8, hM_9, hG_10, hw⟩ := hw
              subst hw
              obtain ⟨hP, -, hD⟩ := hB
              rw [ht] at hP
              generalize H1 = H at hP hS ⊢
              have hP : va_P (dC, dI) clA (xG ct o q (ql, qs, md, qe, n) y (upd g 20 ms_6) (va_up (va_up a 20 D_7) 30 B_8) ex) H := hP
              have hD : va_D A (xG ct o q (ql, qs, md, qe, n) y (upd g 20 ms_6) (va_up (va_up a 20 D_7) 30 B_8) ex) := hD
              refine lv_iinc (v := (nI (i + 1))) (lv' := [(4, .int (nI (i + 1))), (3, .int (nI (cn (isfV (a 3) (a 4)) (dg n qn pp) pp))), (2, .int (mset (tk (dg n qn pp) pp) n)), (1, .int (nI pp)), (0, .ref o)]) hx hb dX0_matchFrom_100 hl (k := 0) rfl (nI_1 i) (by decide) rfl (fun ls hl => ?_)
              refine lv_goto (tgt := 41) hx hb dX0_matchFrom_103 (by decide) ?_
              exact ih1 (i + 1) ms_6 D_7 B_8 (by omega) (by omega) hM_9 (fun j hj => ((hG_10) j (by omega)).trans ((upd_n _ _ (by omega)).trans (hG1 j hj))) _ _ hP hD hS _ (lv_sub hl [0, 1, 2, 3, 4] rfl)
            · skip
              refine lv_iconst (v := 1) hx hb dX0_matchFrom_91 (by decide) ?_
              refine lv_goto (tgt := 96) hx hb dX0_matchFrom_92 (by decide) ?_
              refine lv_iadd hx hb dX0_matchFrom_96 ?_
              have em9 : (nI (cn (isfV (a 3) (a 4)) (dg n qn pp) pp)) + 1 = nI (cn (isfV (a 3) (a 4)) (dg n (n * qn + i) (pp + 1)) (pp + 1)) := by rw [cn_app hlt, if_pos c_5]; exact nI_1 _
              refine va_callv (va_runV (As := [.int ((nI pp) + 1), .int ((mset (tk (dg n qn pp) pp) n) ||| (1 <<< ((nI i) &&& 31))), .int ((nI (cn (isfV (a 3) (a 4)) (dg n qn pp) pp)) + 1)]) (rest := []) ⟨hx, hb, hml, hown, hts⟩ (metX0_matchFrom_2 l dC dI ct A ex o q ql qs md qe n y (upd g 20 ms) (va_up (va_up a 20 (upd D pp (nI i))) 30 B) ((nI pp) + 1) ((mset (tk (dg n qn pp) pp) n) ||| (1 <<< ((nI i) &&& 31))) ((nI (cn (isfV (a 3) (a 4)) (dg n qn pp) pp)) + 1) (pp + 1) (n * qn + i) hn6 hn0 (nI_1 pp) (tk_app (by omega) hlt) em9 (by omega) (by omega) (mpf_app hpf hG1 hlt hnt) hM1) (cwV 3 hts (lw_V q785 q787 qs31 q69 q788) rfl rfl rfl (by decide +kernel) ⟨Nat.le_of_ble_eq_true rfl, Nat.le_of_ble_eq_true rfl⟩) (gPV hK hP hD hE _) rfl rfl hl.1 rfl (lv_room (Nat.le_of_ble_eq_true rfl)) dX0_matchFrom_97 ⟨Nat.zero_le _, Nat.zero_le _⟩) hS (fun q _ h => h) (fun q h => h) (fun u t H1 locs ht hvm hw hB hz1 hk1 hS => ?_)
              obtain ⟨ms_11, D_12, B_13, hM_14, hG_15, hw⟩ := hw
              subst hw
              obtain ⟨hP, -, hD⟩ := hB
              rw [ht] at hP
              generalize H1 = H at hP hS ⊢
              have hP : va_P (dC, dI) clA (xG ct o q (ql, qs, md, qe, n) y (upd g 20 ms_11) (va_up (va_up a 20 D_12) 30 B_13) ex) H := hP
              have hD : va_D A (xG ct o q (ql, qs, md, qe, n) y (upd g 20 ms_11) (va_up (va_up a 20 D_12) 30 B_13) ex) := hD
              refine lv_iinc (v := (nI (i + 1))) (lv' := [(4, .int (nI (i + 1))), (3, .int (nI (cn (isfV (a 3) (a 4)) (dg n qn pp) pp))), (2, .int (mset (tk (dg n qn pp) pp) n)), (1, .int (nI pp)), (0, .ref o)]) hx hb dX0_matchFrom_100 hl (k := 0) rfl (nI_1 i) (by decide) rfl (fun ls hl => ?_)
              refine lv_goto (tgt := 41) hx hb dX0_matchFrom_103 (by decide) ?_
              exact ih1 (i + 1) ms_11 D_12 B_13 (by omega) (by omega) hM_14 (fun j hj => ((hG_15) j (by omega)).trans ((upd_n _ _ (by omega)).trans (hG1 j hj))) _ _ hP hD hS _ (lv_sub hl [0, 1, 2, 3, 4] rfl)
          · skip
            skip
            refine lv_goto (tgt := 100) hx hb dX0_matchFrom_59 (by decide) ?_
            refine lv_iinc (v := (nI (i + 1))) (lv' := [(4, .int (nI (i + 1))), (3, .int (nI (cn (isfV (a 3) (a 4)) (dg n qn pp) pp))), (2, .int (mset (tk (dg n qn pp) pp) n)), (1, .int (nI pp)), (0, .ref o)]) hx hb dX0_matchFrom_100 hl (k := 0) rfl (nI_1 i) (by decide) rfl (fun ls hl => ?_)
            refine lv_goto (tgt := 41) hx hb dX0_matchFrom_103 (by decide) ?_
            exact ih1 (i + 1) ms D B (by omega) (by omega) (mx_taken hn6 hp2 hlt (by rw [mset_bq _ (by omega) hlt] at c_3; exact c_3) hM1) hG1 _ _ hP hD hS _ (lv_sub hl [0, 1, 2, 3, 4] rfl)
    exact loop1 (n + 1) 0 (g 20) (a 20) (a 30) (by omega) (by omega) (by rw [mlo_eq hp2]; exact hmx) (fun _ _ => rfl) _ _ hP hD hS _ (lv_sub hl [0, 4, 3, 2, 1] rfl)
  · skip
    have hpe : n = pp := ((nI_eq (by omega) (by omega)).mp c_1).symm
    subst hpe
    refine lv_iload_n hx hb dX0_matchFrom_8 rfl (lv_at hl 3 rfl) ?_
    refine lv_aload_n hx hb dX0_matchFrom_9 rfl (lv_at hl 0 rfl) ?_
    refine g_get (v := .int (g 20)) hx hb hts hown hK hP 20 (by decide) rfl q169 rfl dX0_matchFrom_10 ?_
    refine lv_icmp_gt (tgt := 17) hx hb dX0_matchFrom_13 (by decide) (fun c_16 => ?_) (fun c_16 => ?_)
    · skip
      refine lv_aload_n hx hb dX0_matchFrom_17 rfl (lv_at hl 0 rfl) ?_
      refine lv_iload_n hx hb dX0_matchFrom_18 rfl (lv_at hl 3 rfl) ?_
      refine g_put (v := (nI (cn (isfV (a 3) (a 4)) (dg n qn n) n))) hx hb hts hown hK hP hD hS 20 20 (by decide) rfl q169 rfl rfl (by decide +kernel) dX0_matchFrom_19 (fun H locs hP hD hS => ?_)
      refine lv_aload_n hx hb dX0_matchFrom_22 rfl (lv_at hl 0 rfl) ?_
      refine g_get (v := .ref (q 20)) hx hb hts hown hK hP 18 (by decide) rfl q167 rfl dX0_matchFrom_23 ?_
      refine lv_iconst (v := 0) hx hb dX0_matchFrom_26 (by decide) ?_
      refine lv_aload_n hx hb dX0_matchFrom_27 rfl (lv_at hl 0 rfl) ?_
      refine g_get (v := .ref (q 30)) hx hb hts hown hK hP 19 (by decide) rfl q168 rfl dX0_matchFrom_28 ?_
      refine lv_iconst (v := 0) hx hb dX0_matchFrom_31 (by decide) ?_
      refine lv_bipush (v := 6) hx hb dX0_matchFrom_32 (by decide) ?_
      refine va_copyi (sp := 0) (dp := 0) (n := 6) hx hb (hml.trans hl.1.symm) hown (hts _ q789) (hts _ q578) (hts _ q577) (hts _ q90) hK hP hD hS 9 10 0 0 (gWa20 _ _ _ _ _ _ _ _ _ _ _ _) (gWa30 _ _ _ _ _ _ _ _ _ _ _ _) rfl rfl rfl (by decide) (by decide) (by decide) (by decide +kernel) (by decide +kernel) (fun _ _ => rfl) (Nat.le_of_ble_eq_true rfl) (Nat.le_of_ble_eq_true rfl) dX0_matchFrom_34 (fun H locs hP hD hS => ?_)
      rw [(gWs30 _ _ _ _ _ _ _ _ _ _ _ _ _)] at hP hD
      have hv9 : (mbV (a 3) (a 4) n) qn = nI (cn (isfV (a 3) (a 4)) (dg n qn n) n) := mbV_dst hn6 hn0 (fun k9 hk9 => (hpf k9 hk9).2)
      have hm9 : mxP (mbV (a 3) (a 4) n) n qn (g 20) (a 30) := by have h := hmx; rw [Nat.sub_self, Nat.pow_zero, Nat.mul_one] at h; exact h
      exact W.vret hx hb hr (fun t ht hW => ⟨⟨((upd g 20 (nI (cn (isfV (a 3) (a 4)) (dg n qn n) n))), (va_up a 30 (va_cpy (a 20) (a 30) (0 : Int32).toNatClampNeg (0 : Int32).toNatClampNeg (6 : Int32).toNatClampNeg))), rfl, ⟨_, a 20, _, by rw [Nat.sub_self, Nat.pow_zero, Nat.mul_one]; exact mx_gt hm9 (Nat.le_trans hcn hn6) hv9 (Int32.not_le.mpr c_16) (fun j9 hj9 => by rw [cpy6 (by omega)]; exact (hpf j9 hj9).1), fun _ _ => rfl, mf_id2 g a _ _⟩, by rw [ht]; exact hP, va_K.moved hW.alike hK, hD⟩, hS.F ht⟩) hS.2.2 dX0_matchFrom_37
    · skip
      have hv9 : (mbV (a 3) (a 4) n) qn = nI (cn (isfV (a 3) (a 4)) (dg n qn n) n) := mbV_dst hn6 hn0 (fun k9 hk9 => (hpf k9 hk9).2)
      have hm9 : mxP (mbV (a 3) (a 4) n) n qn (g 20) (a 30) := by have h := hmx; rw [Nat.sub_self, Nat.pow_zero, Nat.mul_one] at h; exact h
      exact W.vret hx hb hr (fun t ht hW => ⟨⟨(g, a), rfl, ⟨g 20, a 20, a 30, by rw [Nat.sub_self, Nat.pow_zero, Nat.mul_one]; exact mx_le hm9 (Nat.le_trans hcn hn6) hv9 (Int32.not_lt.mp c_16), fun _ _ => rfl, mf_id g a⟩, by rw [ht]; exact hP, va_K.moved hW.alike hK, hD⟩, hS.F ht⟩) hS.2.2 dX0_matchFrom_16
set_option maxHeartbeats 4000000 in
set_option maxRecDepth 100000 in
theorem metX0_matchFrom_4 (l : Launch) (dC : Nat → ClassId) (dI : Nat → Nat → Nat) (ct : Nat → ClassId) (A : Nat → Prop) (ex : va_W) (o : Nat) (q : Nat → Nat) (ql qs : Nat) (md : Int32) (qe n : Nat) (y : Nat → Nat) (g : Nat → Int32) (a : Nat → Nat → Int32) (x : Int32) (tk0 : Int32) (mn : Int32) (pp qn : Nat) (hn6 : n ≤ 6) (hn0 : 0 < n) (ex0 : x = nI pp) (et : tk0 = mset (tk (dg n qn pp) pp) n) (em : mn = nI (cn (isfV (a 3) (a 4)) (dg n qn pp) pp)) (hpn : pp ≤ n) (hdp : n ≤ pp + 4) (hpf : mpf n pp qn (a 20)) (hmx : mxP (mbV (a 3) (a 4) n) n (qn * n ^ (n - pp)) (g 20) (a 30)) : Met l yX0_matchFrom (ws_ yX0_matchFrom cX0_matchFrom 5 none) ({ frames := 8, cells := 0, slots := 0, locals := 183 }) (gPre dC dI ct A ex o q (ql, qs, md, qe, n) y g a [.ref o, .int x, .int tk0, .int mn]) (va_Qv (fun (u : (Nat → Int32) × (Nat → Nat → Int32)) => ∃ (ms : Int32), ∃ (D : Nat → Int32), ∃ (B : Nat → Int32), ∃ (hM : mxP (mbV (a 3) (a 4) n) n ((qn + 1) * n ^ (n - pp)) ms B), ∃ (hG : ∀ j, j < pp → D j = a 20 j), u = ((upd g 20 ms), (va_up (va_up a 20 D) 30 B))) (gB dC dI ct A ex o q (ql, qs, md, qe, n) y) A) 0 0 A := by
  refine Met.ofW (cc := cX0_matchFrom) (maxL := 5) (ret := none) (by decide) rfl ?_
  intro p e s m args below meth c s₁ B hml hv
  obtain ⟨rfl, hP, hK, hD, hE⟩ := hv
  have hx := B.exec
  have hb := B.bytes
  have hr := B.returns
  have hts := atoms_spec (ws := ws_ yX0_matchFrom cX0_matchFrom 5 none) B.pre
  have hts : ∀ w ∈ lw_all, w.before _ s = true := fun w h => hts w (List.mem_cons_of_mem _ h)
  have hown : s.vm.findClass RX0 = some m.cls := findClass_of_methodNamed B.named
  have hlocks := B.notSynchronized
  have hS : va_S A s.heap s.heap [] := va_S.rf
  have hl := lv_entry ([.ref o, .int x, .int tk0, .int mn]) (n := 5) (Nat.le_of_ble_eq_true rfl)
  rw [lg_entry_eq]
  generalize (lg_sl ([.ref o, .int x, .int tk0, .int mn]) ++ List.replicate (5 - (lg_sl ([.ref o, .int x, .int tk0, .int mn])).length) Slot.unset).toArray = ls at hl ⊢
  have hl : lv_has ls 5 [(0, .ref o), (1, .int x), (2, .int tk0), (3, .int mn)] := hl
  subst ex0
  subst et
  subst em
  have hcn := cn_le (isfV (a 3) (a 4)) (dg n qn pp) pp
  refine lv_iload_n hx hb dX0_matchFrom_0 rfl (lv_at hl 1 rfl) ?_
  refine lv_aload_n hx hb dX0_matchFrom_1 rfl (lv_at hl 0 rfl) ?_
  refine vp_callSi ((va_runV (As := []) (rest := [.int (nI pp)]) ⟨hx, hb, hml, hown, hts⟩ (metX0_people l dC dI ct A (peW ct o qe n y a ++ ex) o q ql qs md qe n g a  ) (cwV 0 hts (lw_V q593 q595 qs14 q69 q596) rfl rfl rfl (by decide +kernel) ⟨Nat.le_of_ble_eq_true rfl, Nat.le_of_ble_eq_true rfl⟩) (xPV hK hP hD hE _) rfl rfl hl.1 rfl (lv_room (Nat.le_of_ble_eq_true rfl)) dX0_matchFrom_2 ⟨Nat.zero_le _, Nat.zero_le _⟩)).run (fun r hw => ?_)
  have hw : r = (nI n) := hw
  subst hw
  refine lv_icmp_ne (tgt := 38) hx hb dX0_matchFrom_5 (by decide) (fun c_1 => ?_) (fun c_1 => ?_)
  · skip
    have hp2 : pp < n := Nat.lt_of_le_of_ne hpn (fun z => c_1 (by rw [z]))
    refine lv_iconst (v := 0) hx hb dX0_matchFrom_38 (by decide) ?_
    refine lv_istore (lv' := [(4, .int 0), (0, .ref o), (1, .int (nI pp)), (2, .int (mset (tk (dg n qn pp) pp) n)), (3, .int (nI (cn (isfV (a 3) (a 4)) (dg n qn pp) pp)))]) hx hb dX0_matchFrom_39 hl (by decide) rfl (fun ls hl => ?_)
    have loop1 : ∀ (f1 : Nat) (i : Nat) (ms : Int32) (D : Nat → Int32) (B : Nat → Int32), (i ≤ n) → (n + 1 ≤ i + f1) → (mxP (mbV (a 3) (a 4) n) n ((n * qn + i) * n ^ (n - (pp + 1))) ms B) → (∀ j, j < pp → D j = a 20 j) → ∀ (H : Heap) (locs : List Loc), va_P (dC, dI) clA (xG ct o q (ql, qs, md, qe, n) y (upd g 20 ms) (va_up (va_up a 20 D) 30 B) ex) H → va_D A (xG ct o q (ql, qs, md, qe, n) y (upd g 20 ms) (va_up (va_up a 20 D) 30 B) ex) → va_S A s.heap H locs → ∀ (ls : Array Slot), lv_has ls 5 [(4, .int (nI i)), (3, .int (nI (cn (isfV (a 3) (a 4)) (dg n qn pp) pp))), (2, .int (mset (tk (dg n qn pp) pp) n)), (1, .int (nI pp)), (0, .ref o)] → W p l e (headSpec (ws_ yX0_matchFrom cX0_matchFrom 5 none) ({ frames := 8, cells := 0, slots := 0, locals := 183 })).room s m ([.ref o, .int (nI pp), .int (mset (tk (dg n qn pp) pp) n), .int (nI (cn (isfV (a 3) (a 4)) (dg n qn pp) pp))] : List Value).toArray below meth c H locs 0 0 (MQ below (va_Qv (fun (u : (Nat → Int32) × (Nat → Nat → Int32)) => ∃ (ms : Int32), ∃ (D : Nat → Int32), ∃ (B : Nat → Int32), ∃ (hM : mxP (mbV (a 3) (a 4) n) n ((qn + 1) * n ^ (n - pp)) ms B), ∃ (hG : ∀ j, j < pp → D j = a 20 j), u = ((upd g 20 ms), (va_up (va_up a 20 D) 30 B))) (gB dC dI ct A ex o q (ql, qs, md, qe, n) y) A) ([.ref o, .int (nI pp), .int (mset (tk (dg n qn pp) pp) n), .int (nI (cn (isfV (a 3) (a 4)) (dg n qn pp) pp))] : List Value).toArray s 0 0 A) (F0 m 41 ls []) := by
      intro f1
      induction f1 with
      | zero => intro i ms D B hi hf hM1 hG1; exact False.elim (by omega)
      | succ f1 ih1 =>
        intro i ms D B hi hf hM1 hG1 H locs hP hD hS ls hl
        refine lv_iload hx hb dX0_matchFrom_41 (lv_at hl 0 rfl) ?_
        refine lv_aload_n hx hb dX0_matchFrom_43 rfl (lv_at hl 4 rfl) ?_
        refine vp_callSi ((va_runV (As := []) (rest := [.int (nI i)]) ⟨hx, hb, hml, hown, hts⟩ (metX0_people l dC dI ct A (peW ct o qe n y (va_up (va_up a 20 D) 30 B) ++ ex) o q ql qs md qe n (upd g 20 ms) (va_up (va_up a 20 D) 30 B)  ) (cwV 0 hts (lw_V q593 q595 qs14 q69 q596) rfl rfl rfl (by decide +kernel) ⟨Nat.le_of_ble_eq_true rfl, Nat.le_of_ble_eq_true rfl⟩) (xPV hK hP hD hE _) rfl rfl hl.1 rfl (lv_room (Nat.le_of_ble_eq_true rfl)) dX0_matchFrom_44 ⟨Nat.zero_le _, Nat.zero_le _⟩)).run (fun r hw => ?_)
        have hw : r = (nI n) := hw
        subst hw
        refine lv_icmp_ge (tgt := 106) hx hb dX0_matchFrom_47 (by decide) (fun c_2 => ?_) (fun c_2 => ?_)
        · skip
          have hge : i = n := by exact Nat.le_antisymm (by omega) ((nI_leI (by omega) (by omega)).mp c_2)
          exact W.vret hx hb hr (fun t ht hW => ⟨⟨((upd g 20 ms), (va_up (va_up a 20 D) 30 B)), rfl, ⟨ms, D, B, by rw [← mhi_eq hp2]; rw [hge] at hM1; exact hM1, hG1, rfl⟩, by rw [ht]; exact hP, va_K.moved hW.alike hK, hD⟩, hS.F ht⟩) hS.2.2 dX0_matchFrom_106
        · skip
          have hlt : i < n := by exact Nat.lt_of_not_le (fun z => c_2 ((nI_leI (by omega) (by omega)).mpr z))
          refine lv_iload_n hx hb dX0_matchFrom_50 rfl (lv_at hl 2 rfl) ?_
          refine lv_iload hx hb dX0_matchFrom_51 (lv_at hl 0 rfl) ?_
          refine vp_callSi ((va_runS (As := [.int (mset (tk (dg n qn pp) pp) n), .int (nI i)]) (rest := []) ⟨hx, hb, hml, hown, hts⟩ (metX0_isOf l (mset (tk (dg n qn pp) pp) n) (nI i) ) (va_cwS 2 hts (lw_S q723 q724 q69 q725) rfl rfl rfl (by decide +kernel) ⟨Nat.le_of_ble_eq_true rfl, Nat.le_of_ble_eq_true rfl⟩) (pcS _) rfl rfl hl.1 rfl (lv_room (Nat.le_of_ble_eq_true rfl)) dX0_matchFrom_53 ⟨Nat.zero_le _, Nat.zero_le _⟩)).run (fun r hw => ?_)
          have hw : r = (b2i (bq (mset (tk (dg n qn pp) pp) n) (nI i))) := hw
          subst hw
          refine bz_eq (tgt := 62) hx hb dX0_matchFrom_56 (by decide) (fun c_3 => ?_) (fun c_3 => ?_)
          · skip
            have hnt : tk (dg n qn pp) pp i = false := by rw [mset_bq _ (by omega) hlt] at c_3; exact c_3
            refine lv_aload_n hx hb dX0_matchFrom_62 rfl (lv_at hl 4 rfl) ?_
            refine g_get (v := .ref (q 20)) hx hb hts hown hK hP 18 (by decide) rfl q167 rfl dX0_matchFrom_63 ?_
            refine lv_iload_n hx hb dX0_matchFrom_66 rfl (lv_at hl 3 rfl) ?_
            refine lv_iload hx hb dX0_matchFrom_67 (lv_at hl 0 rfl) ?_
            refine g_ist (x := (nI i)) hx hb hK hP hD hS (gWa20 _ _ _ _ _ _ _ _ _ _ _ _) (gWs20 _ _ _ _ _ _ _ _ _ _ _ _) D rfl pp rfl (by omega) (by decide) dX0_matchFrom_69 (fun H locs hP hD hS => ?_)
            have eW_4 : ∀ (zg20 : Int32) (za20 : Nat → Int32) (za30 : Nat → Int32) (zn : Nat → Int32), xG ct o q (ql, qs, md, qe, n) y (upd g 20 zg20) (va_up (va_up (va_up a 20 za20) 30 za30) 20 zn) ex = xG ct o q (ql, qs, md, qe, n) y (upd g 20 zg20) (va_up (va_up a 20 zn) 30 za30) ex := fun _ _ _ _ => rfl
            have hP : va_P (dC, dI) clA (xG ct o q (ql, qs, md, qe, n) y (upd g 20 ms) (va_up (va_up a 20 (upd D pp (nI i))) 30 B) ex) H := Eq.mp (congrArg (fun w => va_P (dC, dI) clA w H) (eW_4 ms D B (upd D pp (nI i)))) hP
            have hD : va_D A (xG ct o q (ql, qs, md, qe, n) y (upd g 20 ms) (va_up (va_up a 20 (upd D pp (nI i))) 30 B) ex) := Eq.mp (congrArg (fun w => va_D A w) (eW_4 ms D B (upd D pp (nI i)))) hD
            refine lv_aload_n hx hb dX0_matchFrom_70 rfl (lv_at hl 4 rfl) ?_
            refine lv_iload_n hx hb dX0_matchFrom_71 rfl (lv_at hl 3 rfl) ?_
            refine lv_iconst (v := 1) hx hb dX0_matchFrom_72 (by decide) ?_
            refine lv_iadd hx hb dX0_matchFrom_73 ?_
            refine lv_iload_n hx hb dX0_matchFrom_74 rfl (lv_at hl 2 rfl) ?_
            refine lv_iconst (v := 1) hx hb dX0_matchFrom_75 (by decide) ?_
            refine lv_iload hx hb dX0_matchFrom_76 (lv_at hl 0 rfl) ?_
            refine lv_ishl hx hb dX0_matchFrom_78 ?_
            refine lv_ior hx hb dX0_matchFrom_79 ?_
            refine lv_iload_n hx hb dX0_matchFrom_80 rfl (lv_at hl 1 rfl) ?_
            refine lv_aload_n hx hb dX0_matchFrom_81 rfl (lv_at hl 4 rfl) ?_
            refine lv_iload_n hx hb dX0_matchFrom_82 rfl (lv_at hl 3 rfl) ?_
            refine lv_iload hx hb dX0_matchFrom_83 (lv_at hl 0 rfl) ?_
            refine vp_callSi ((va_runV (As := [.int (nI pp), .int (nI i)]) (rest := [.int (nI (cn (isfV (a 3) (a 4)) (dg n qn pp) pp)), .int ((mset (tk (dg n qn pp) pp) n) ||| (1 <<< ((nI i) &&& 31))), .int ((nI pp) + 1), .ref o]) ⟨hx, hb, hml, hown, hts⟩ (metX0_isMendedBy l dC dI ct A ex o q ql qs md qe n y (upd g 20 ms) (va_up (va_up a 20 (upd D pp (nI i))) 30 B) (nI pp) (nI i) pp i hp2 hlt rfl rfl hn6) (cwV 2 hts (lw_V q790 q792 qs32 q69 q793) rfl rfl rfl (by decide +kernel) ⟨Nat.le_of_ble_eq_true rfl, Nat.le_of_ble_eq_true rfl⟩) (gPV hK hP hD hE _) rfl rfl hl.1 rfl (lv_room (Nat.le_of_ble_eq_true rfl)) dX0_matchFrom_85 ⟨Nat.zero_le _, Nat.zero_le _⟩)).run (fun r hw => ?_)
            have hw : r = (b2i (isfV (a 3) (a 4) pp i)) := hw
            subst hw
            refine bz_eq (tgt := 95) hx hb dX0_matchFrom_88 (by decide) (fun c_5 => ?_) (fun c_5 => ?_)
            · skip
              refine lv_iconst (v := 0) hx hb dX0_matchFrom_95 (by decide) ?_
              refine lv_iadd hx hb dX0_matchFrom_96 ?_
              have em9 : (nI (cn (isfV (a 3) (a 4)) (dg n qn pp) pp)) + 0 = nI (cn (isfV (a 3) (a 4)) (dg n (n * qn + i) (pp + 1)) (pp + 1)) := by rw [cn_app hlt, if_neg (by rw [c_5]; decide)]; exact nI_add _ 0
              refine va_callv (va_runV (As := [.int ((nI pp) + 1), .int ((mset (tk (dg n qn pp) pp) n) ||| (1 <<< ((nI i) &&& 31))), .int ((nI (cn (isfV (a 3) (a 4)) (dg n qn pp) pp)) + 0)]) (rest := []) ⟨hx, hb, hml, hown, hts⟩ (metX0_matchFrom_3 l dC dI ct A ex o q ql qs md qe n y (upd g 20 ms) (va_up (va_up a 20 (upd D pp (nI i))) 30 B) ((nI pp) + 1) ((mset (tk (dg n qn pp) pp) n) ||| (1 <<< ((nI i) &&& 31))) ((nI (cn (isfV (a 3) (a 4)) (dg n qn pp) pp)) + 0) (pp + 1) (n * qn + i) hn6 hn0 (nI_1 pp) (tk_app (by omega) hlt) em9 (by omega) (by omega) (mpf_app hpf hG1 hlt hnt) hM1) (cwV 3 hts (lw_V q785 q787 qs31 q69 q788) rfl rfl rfl (by decide +kernel) ⟨Nat.le_of_ble_eq_true rfl, Nat.le_of_ble_eq_true rfl⟩) (gPV hK hP hD hE _) rfl rfl hl.1 rfl (lv_room (Nat.le_of_ble_eq_true rfl)) dX0_matchFrom_97 ⟨Nat.zero_le _, Nat.zero_le _⟩) hS (fun q _ h => h) (fun q h => h) (fun u t H1 locs ht hvm hw hB hz1 hk1 hS => ?_)
              obtain ⟨ms_6, D_7, B_8, hM_9, hG_10, hw⟩ := hw
              subst hw
              obtain ⟨hP, -, hD⟩ := hB
              rw [ht] at hP
              generalize H1 = H at hP hS ⊢
              have hP : va_P (dC, dI) clA (xG ct o q (ql, qs, md, qe, n) y (upd g 20 ms_6) (va_up (va_up a 20 D_7) 30 B_8) ex) H := hP
              have hD : va_D A (xG ct o q (ql, qs, md, qe, n) y (upd g 20 ms_6) (va_up (va_up a 20 D_7) 30 B_8) ex) := hD
              refine lv_iinc (v := (nI (i + 1))) (lv' := [(4, .int (nI (i + 1))), (3, .int (nI (cn (isfV (a 3) (a 4)) (dg n qn pp) pp))), (2, .int (mset (tk (dg n qn pp) pp) n)), (1, .int (nI pp)), (0, .ref o)]) hx hb dX0_matchFrom_100 hl (k := 0) rfl (nI_1 i) (by decide) rfl (fun ls hl => ?_)
              refine lv_goto (tgt := 41) hx hb dX0_matchFrom_103 (by decide) ?_
              exact ih1 (i + 1) ms_6 D_7 B_8 (by omega) (by omega) hM_9 (fun j hj => ((hG_10) j (by omega)).trans ((upd_n _ _ (by omega)).trans (hG1 j hj))) _ _ hP hD hS _ (lv_sub hl [0, 1, 2, 3, 4] rfl)
            · skip
              refine lv_iconst (v := 1) hx hb dX0_matchFrom_91 (by decide) ?_
              refine lv_goto (tgt := 96) hx hb dX0_matchFrom_92 (by decide) ?_
              refine lv_iadd hx hb dX0_matchFrom_96 ?_
              have em9 : (nI (cn (isfV (a 3) (a 4)) (dg n qn pp) pp)) + 1 = nI (cn (isfV (a 3) (a 4)) (dg n (n * qn + i) (pp + 1)) (pp + 1)) := by rw [cn_app hlt, if_pos c_5]; exact nI_1 _
              refine va_callv (va_runV (As := [.int ((nI pp) + 1), .int ((mset (tk (dg n qn pp) pp) n) ||| (1 <<< ((nI i) &&& 31))), .int ((nI (cn (isfV (a 3) (a 4)) (dg n qn pp) pp)) + 1)]) (rest := []) ⟨hx, hb, hml, hown, hts⟩ (metX0_matchFrom_3 l dC dI ct A ex o q ql qs md qe n y (upd g 20 ms) (va_up (va_up a 20 (upd D pp (nI i))) 30 B) ((nI pp) + 1) ((mset (tk (dg n qn pp) pp) n) ||| (1 <<< ((nI i) &&& 31))) ((nI (cn (isfV (a 3) (a 4)) (dg n qn pp) pp)) + 1) (pp + 1) (n * qn + i) hn6 hn0 (nI_1 pp) (tk_app (by omega) hlt) em9 (by omega) (by omega) (mpf_app hpf hG1 hlt hnt) hM1) (cwV 3 hts (lw_V q785 q787 qs31 q69 q788) rfl rfl rfl (by decide +kernel) ⟨Nat.le_of_ble_eq_true rfl, Nat.le_of_ble_eq_true rfl⟩) (gPV hK hP hD hE _) rfl rfl hl.1 rfl (lv_room (Nat.le_of_ble_eq_true rfl)) dX0_matchFrom_97 ⟨Nat.zero_le _, Nat.zero_le _⟩) hS (fun q _ h => h) (fun q h => h) (fun u t H1 locs ht hvm hw hB hz1 hk1 hS => ?_)
              obtain ⟨ms_11, D_12, B_13, hM_14, hG_15, hw⟩ := hw
              subst hw
              obtain ⟨hP, -, hD⟩ := hB
              rw [ht] at hP
              generalize H1 = H at hP hS ⊢
              have hP : va_P (dC, dI) clA (xG ct o q (ql, qs, md, qe, n) y (upd g 20 ms_11) (va_up (va_up a 20 D_12) 30 B_13) ex) H := hP
              have hD : va_D A (xG ct o q (ql, qs, md, qe, n) y (upd g 20 ms_11) (va_up (va_up a 20 D_12) 30 B_13) ex) := hD
              refine lv_iinc (v := (nI (i + 1))) (lv' := [(4, .int (nI (i + 1))), (3, .int (nI (cn (isfV (a 3) (a 4)) (dg n qn pp) pp))), (2, .int (mset (tk (dg n qn pp) pp) n)), (1, .int (nI pp)), (0, .ref o)]) hx hb dX0_matchFrom_100 hl (k := 0) rfl (nI_1 i) (by decide) rfl (fun ls hl => ?_)
              refine lv_goto (tgt := 41) hx hb dX0_matchFrom_103 (by decide) ?_
              exact ih1 (i + 1) ms_11 D_12 B_13 (by omega) (by omega) hM_14 (fun j hj => ((hG_15) j (by omega)).trans ((upd_n _ _ (by omega)).trans (hG1 j hj))) _ _ hP hD hS _ (lv_sub hl [0, 1, 2, 3, 4] rfl)
          · skip
            skip
            refine lv_goto (tgt := 100) hx hb dX0_matchFrom_59 (by decide) ?_
            refine lv_iinc (v := (nI (i + 1))) (lv' := [(4, .int (nI (i + 1))), (3, .int (nI (cn (isfV (a 3) (a 4)) (dg n qn pp) pp))), (2, .int (mset (tk (dg n qn pp) pp) n)), (1, .int (nI pp)), (0, .ref o)]) hx hb dX0_matchFrom_100 hl (k := 0) rfl (nI_1 i) (by decide) rfl (fun ls hl => ?_)
            refine lv_goto (tgt := 41) hx hb dX0_matchFrom_103 (by decide) ?_
            exact ih1 (i + 1) ms D B (by omega) (by omega) (mx_taken hn6 hp2 hlt (by rw [mset_bq _ (by omega) hlt] at c_3; exact c_3) hM1) hG1 _ _ hP hD hS _ (lv_sub hl [0, 1, 2, 3, 4] rfl)
    exact loop1 (n + 1) 0 (g 20) (a 20) (a 30) (by omega) (by omega) (by rw [mlo_eq hp2]; exact hmx) (fun _ _ => rfl) _ _ hP hD hS _ (lv_sub hl [0, 4, 3, 2, 1] rfl)
  · skip
    have hpe : n = pp := ((nI_eq (by omega) (by omega)).mp c_1).symm
    subst hpe
    refine lv_iload_n hx hb dX0_matchFrom_8 rfl (lv_at hl 3 rfl) ?_
    refine lv_aload_n hx hb dX0_matchFrom_9 rfl (lv_at hl 0 rfl) ?_
    refine g_get (v := .int (g 20)) hx hb hts hown hK hP 20 (by decide) rfl q169 rfl dX0_matchFrom_10 ?_
    refine lv_icmp_gt (tgt := 17) hx hb dX0_matchFrom_13 (by decide) (fun c_16 => ?_) (fun c_16 => ?_)
    · skip
      refine lv_aload_n hx hb dX0_matchFrom_17 rfl (lv_at hl 0 rfl) ?_
      refine lv_iload_n hx hb dX0_matchFrom_18 rfl (lv_at hl 3 rfl) ?_
      refine g_put (v := (nI (cn (isfV (a 3) (a 4)) (dg n qn n) n))) hx hb hts hown hK hP hD hS 20 20 (by decide) rfl q169 rfl rfl (by decide +kernel) dX0_matchFrom_19 (fun H locs hP hD hS => ?_)
      refine lv_aload_n hx hb dX0_matchFrom_22 rfl (lv_at hl 0 rfl) ?_
      refine g_get (v := .ref (q 20)) hx hb hts hown hK hP 18 (by decide) rfl q167 rfl dX0_matchFrom_23 ?_
      refine lv_iconst (v := 0) hx hb dX0_matchFrom_26 (by decide) ?_
      refine lv_aload_n hx hb dX0_matchFrom_27 rfl (lv_at hl 0 rfl) ?_
      refine g_get (v := .ref (q 30)) hx hb hts hown hK hP 19 (by decide) rfl q168 rfl dX0_matchFrom_28 ?_
      refine lv_iconst (v := 0) hx hb dX0_matchFrom_31 (by decide) ?_
      refine lv_bipush (v := 6) hx hb dX0_matchFrom_32 (by decide) ?_
      refine va_copyi (sp := 0) (dp := 0) (n := 6) hx hb (hml.trans hl.1.symm) hown (hts _ q789) (hts _ q578) (hts _ q577) (hts _ q90) hK hP hD hS 9 10 0 0 (gWa20 _ _ _ _ _ _ _ _ _ _ _ _) (gWa30 _ _ _ _ _ _ _ _ _ _ _ _) rfl rfl rfl (by decide) (by decide) (by decide) (by decide +kernel) (by decide +kernel) (fun _ _ => rfl) (Nat.le_of_ble_eq_true rfl) (Nat.le_of_ble_eq_true rfl) dX0_matchFrom_34 (fun H locs hP hD hS => ?_)
      rw [(gWs30 _ _ _ _ _ _ _ _ _ _ _ _ _)] at hP hD
      have hv9 : (mbV (a 3) (a 4) n) qn = nI (cn (isfV (a 3) (a 4)) (dg n qn n) n) := mbV_dst hn6 hn0 (fun k9 hk9 => (hpf k9 hk9).2)
      have hm9 : mxP (mbV (a 3) (a 4) n) n qn (g 20) (a 30) := by have h := hmx; rw [Nat.sub_self, Nat.pow_zero, Nat.mul_one] at h; exact h
      exact W.vret hx hb hr (fun t ht hW => ⟨⟨((upd g 20 (nI (cn (isfV (a 3) (a 4)) (dg n qn n) n))), (va_up a 30 (va_cpy (a 20) (a 30) (0 : Int32).toNatClampNeg (0 : Int32).toNatClampNeg (6 : Int32).toNatClampNeg))), rfl, ⟨_, a 20, _, by rw [Nat.sub_self, Nat.pow_zero, Nat.mul_one]; exact mx_gt hm9 (Nat.le_trans hcn hn6) hv9 (Int32.not_le.mpr c_16) (fun j9 hj9 => by rw [cpy6 (by omega)]; exact (hpf j9 hj9).1), fun _ _ => rfl, mf_id2 g a _ _⟩, by rw [ht]; exact hP, va_K.moved hW.alike hK, hD⟩, hS.F ht⟩) hS.2.2 dX0_matchFrom_37
    · skip
      have hv9 : (mbV (a 3) (a 4) n) qn = nI (cn (isfV (a 3) (a 4)) (dg n qn n) n) := mbV_dst hn6 hn0 (fun k9 hk9 => (hpf k9 hk9).2)
      have hm9 : mxP (mbV (a 3) (a 4) n) n qn (g 20) (a 30) := by have h := hmx; rw [Nat.sub_self, Nat.pow_zero, Nat.mul_one] at h; exact h
      exact W.vret hx hb hr (fun t ht hW => ⟨⟨(g, a), rfl, ⟨g 20, a 20, a 30, by rw [Nat.sub_self, Nat.pow_zero, Nat.mul_one]; exact mx_le hm9 (Nat.le_trans hcn hn6) hv9 (Int32.not_lt.mp c_16), fun _ _ => rfl, mf_id g a⟩, by rw [ht]; exact hP, va_K.moved hW.alike hK, hD⟩, hS.F ht⟩) hS.2.2 dX0_matchFrom_16
set_option maxHeartbeats 4000000 in
set_option maxRecDepth 100000 in
theorem metX0_matchFrom_5 (l : Launch) (dC : Nat → ClassId) (dI : Nat → Nat → Nat) (ct : Nat → ClassId) (A : Nat → Prop) (ex : va_W) (o : Nat) (q : Nat → Nat) (ql qs : Nat) (md : Int32) (qe n : Nat) (y : Nat → Nat) (g : Nat → Int32) (a : Nat → Nat → Int32) (x : Int32) (tk0 : Int32) (mn : Int32) (pp qn : Nat) (hn6 : n ≤ 6) (hn0 : 0 < n) (ex0 : x = nI pp) (et : tk0 = mset (tk (dg n qn pp) pp) n) (em : mn = nI (cn (isfV (a 3) (a 4)) (dg n qn pp) pp)) (hpn : pp ≤ n) (hdp : n ≤ pp + 5) (hpf : mpf n pp qn (a 20)) (hmx : mxP (mbV (a 3) (a 4) n) n (qn * n ^ (n - pp)) (g 20) (a 30)) : Met l yX0_matchFrom (ws_ yX0_matchFrom cX0_matchFrom 5 none) ({ frames := 9, cells := 0, slots := 0, locals := 207 }) (gPre dC dI ct A ex o q (ql, qs, md, qe, n) y g a [.ref o, .int x, .int tk0, .int mn]) (va_Qv (fun (u : (Nat → Int32) × (Nat → Nat → Int32)) => ∃ (ms : Int32), ∃ (D : Nat → Int32), ∃ (B : Nat → Int32), ∃ (hM : mxP (mbV (a 3) (a 4) n) n ((qn + 1) * n ^ (n - pp)) ms B), ∃ (hG : ∀ j, j < pp → D j = a 20 j), u = ((upd g 20 ms), (va_up (va_up a 20 D) 30 B))) (gB dC dI ct A ex o q (ql, qs, md, qe, n) y) A) 0 0 A := by
  refine Met.ofW (cc := cX0_matchFrom) (maxL := 5) (ret := none) (by decide) rfl ?_
  intro p e s m args below meth c s₁ B hml hv
  obtain ⟨rfl, hP, hK, hD, hE⟩ := hv
  have hx := B.exec
  have hb := B.bytes
  have hr := B.returns
  have hts := atoms_spec (ws := ws_ yX0_matchFrom cX0_matchFrom 5 none) B.pre
  have hts : ∀ w ∈ lw_all, w.before _ s = true := fun w h => hts w (List.mem_cons_of_mem _ h)
  have hown : s.vm.findClass RX0 = some m.cls := findClass_of_methodNamed B.named
  have hlocks := B.notSynchronized
  have hS : va_S A s.heap s.heap [] := va_S.rf
  have hl := lv_entry ([.ref o, .int x, .int tk0, .int mn]) (n := 5) (Nat.le_of_ble_eq_true rfl)
  rw [lg_entry_eq]
  generalize (lg_sl ([.ref o, .int x, .int tk0, .int mn]) ++ List.replicate (5 - (lg_sl ([.ref o, .int x, .int tk0, .int mn])).length) Slot.unset).toArray = ls at hl ⊢
  have hl : lv_has ls 5 [(0, .ref o), (1, .int x), (2, .int tk0), (3, .int mn)] := hl
  subst ex0
  subst et
  subst em
  have hcn := cn_le (isfV (a 3) (a 4)) (dg n qn pp) pp
  refine lv_iload_n hx hb dX0_matchFrom_0 rfl (lv_at hl 1 rfl) ?_
  refine lv_aload_n hx hb dX0_matchFrom_1 rfl (lv_at hl 0 rfl) ?_
  refine vp_callSi ((va_runV (As := []) (rest := [.int (nI pp)]) ⟨hx, hb, hml, hown, hts⟩ (metX0_people l dC dI ct A (peW ct o qe n y a ++ ex) o q ql qs md qe n g a  ) (cwV 0 hts (lw_V q593 q595 qs14 q69 q596) rfl rfl rfl (by decide +kernel) ⟨Nat.le_of_ble_eq_true rfl, Nat.le_of_ble_eq_true rfl⟩) (xPV hK hP hD hE _) rfl rfl hl.1 rfl (lv_room (Nat.le_of_ble_eq_true rfl)) dX0_matchFrom_2 ⟨Nat.zero_le _, Nat.zero_le _⟩)).run (fun r hw => ?_)
  have hw : r = (nI n) := hw
  subst hw
  refine lv_icmp_ne (tgt := 38) hx hb dX0_matchFrom_5 (by decide) (fun c_1 => ?_) (fun c_1 => ?_)
  · skip
    have hp2 : pp < n := Nat.lt_of_le_of_ne hpn (fun z => c_1 (by rw [z]))
    refine lv_iconst (v := 0) hx hb dX0_matchFrom_38 (by decide) ?_
    refine lv_istore (lv' := [(4, .int 0), (0, .ref o), (1, .int (nI pp)), (2, .int (mset (tk (dg n qn pp) pp) n)), (3, .int (nI (cn (isfV (a 3) (a 4)) (dg n qn pp) pp)))]) hx hb dX0_matchFrom_39 hl (by decide) rfl (fun ls hl => ?_)
    have loop1 : ∀ (f1 : Nat) (i : Nat) (ms : Int32) (D : Nat → Int32) (B : Nat → Int32), (i ≤ n) → (n + 1 ≤ i + f1) → (mxP (mbV (a 3) (a 4) n) n ((n * qn + i) * n ^ (n - (pp + 1))) ms B) → (∀ j, j < pp → D j = a 20 j) → ∀ (H : Heap) (locs : List Loc), va_P (dC, dI) clA (xG ct o q (ql, qs, md, qe, n) y (upd g 20 ms) (va_up (va_up a 20 D) 30 B) ex) H → va_D A (xG ct o q (ql, qs, md, qe, n) y (upd g 20 ms) (va_up (va_up a 20 D) 30 B) ex) → va_S A s.heap H locs → ∀ (ls : Array Slot), lv_has ls 5 [(4, .int (nI i)), (3, .int (nI (cn (isfV (a 3) (a 4)) (dg n qn pp) pp))), (2, .int (mset (tk (dg n qn pp) pp) n)), (1, .int (nI pp)), (0, .ref o)] → W p l e (headSpec (ws_ yX0_matchFrom cX0_matchFrom 5 none) ({ frames := 9, cells := 0, slots := 0, locals := 207 })).room s m ([.ref o, .int (nI pp), .int (mset (tk (dg n qn pp) pp) n), .int (nI (cn (isfV (a 3) (a 4)) (dg n qn pp) pp))] : List Value).toArray below meth c H locs 0 0 (MQ below (va_Qv (fun (u : (Nat → Int32) × (Nat → Nat → Int32)) => ∃ (ms : Int32), ∃ (D : Nat → Int32), ∃ (B : Nat → Int32), ∃ (hM : mxP (mbV (a 3) (a 4) n) n ((qn + 1) * n ^ (n - pp)) ms B), ∃ (hG : ∀ j, j < pp → D j = a 20 j), u = ((upd g 20 ms), (va_up (va_up a 20 D) 30 B))) (gB dC dI ct A ex o q (ql, qs, md, qe, n) y) A) ([.ref o, .int (nI pp), .int (mset (tk (dg n qn pp) pp) n), .int (nI (cn (isfV (a 3) (a 4)) (dg n qn pp) pp))] : List Value).toArray s 0 0 A) (F0 m 41 ls []) := by
      intro f1
      induction f1 with
      | zero => intro i ms D B hi hf hM1 hG1; exact False.elim (by omega)
      | succ f1 ih1 =>
        intro i ms D B hi hf hM1 hG1 H locs hP hD hS ls hl
        refine lv_iload hx hb dX0_matchFrom_41 (lv_at hl 0 rfl) ?_
        refine lv_aload_n hx hb dX0_matchFrom_43 rfl (lv_at hl 4 rfl) ?_
        refine vp_callSi ((va_runV (As := []) (rest := [.int (nI i)]) ⟨hx, hb, hml, hown, hts⟩ (metX0_people l dC dI ct A (peW ct o qe n y (va_up (va_up a 20 D) 30 B) ++ ex) o q ql qs md qe n (upd g 20 ms) (va_up (va_up a 20 D) 30 B)  ) (cwV 0 hts (lw_V q593 q595 qs14 q69 q596) rfl rfl rfl (by decide +kernel) ⟨Nat.le_of_ble_eq_true rfl, Nat.le_of_ble_eq_true rfl⟩) (xPV hK hP hD hE _) rfl rfl hl.1 rfl (lv_room (Nat.le_of_ble_eq_true rfl)) dX0_matchFrom_44 ⟨Nat.zero_le _, Nat.zero_le _⟩)).run (fun r hw => ?_)
        have hw : r = (nI n) := hw
        subst hw
        refine lv_icmp_ge (tgt := 106) hx hb dX0_matchFrom_47 (by decide) (fun c_2 => ?_) (fun c_2 => ?_)
        · skip
          have hge : i = n := by exact Nat.le_antisymm (by omega) ((nI_leI (by omega) (by omega)).mp c_2)
          exact W.vret hx hb hr (fun t ht hW => ⟨⟨((upd g 20 ms), (va_up (va_up a 20 D) 30 B)), rfl, ⟨ms, D, B, by rw [← mhi_eq hp2]; rw [hge] at hM1; exact hM1, hG1, rfl⟩, by rw [ht]; exact hP, va_K.moved hW.alike hK, hD⟩, hS.F ht⟩) hS.2.2 dX0_matchFrom_106
        · skip
          have hlt : i < n := by exact Nat.lt_of_not_le (fun z => c_2 ((nI_leI (by omega) (by omega)).mpr z))
          refine lv_iload_n hx hb dX0_matchFrom_50 rfl (lv_at hl 2 rfl) ?_
          refine lv_iload hx hb dX0_matchFrom_51 (lv_at hl 0 rfl) ?_
          refine vp_callSi ((va_runS (As := [.int (mset (tk (dg n qn pp) pp) n), .int (nI i)]) (rest := []) ⟨hx, hb, hml, hown, hts⟩ (metX0_isOf l (mset (tk (dg n qn pp) pp) n) (nI i) ) (va_cwS 2 hts (lw_S q723 q724 q69 q725) rfl rfl rfl (by decide +kernel) ⟨Nat.le_of_ble_eq_true rfl, Nat.le_of_ble_eq_true rfl⟩) (pcS _) rfl rfl hl.1 rfl (lv_room (Nat.le_of_ble_eq_true rfl)) dX0_matchFrom_53 ⟨Nat.zero_le _, Nat.zero_le _⟩)).run (fun r hw => ?_)
          have hw : r = (b2i (bq (mset (tk (dg n qn pp) pp) n) (nI i))) := hw
          subst hw
          refine bz_eq (tgt := 62) hx hb dX0_matchFrom_56 (by decide) (fun c_3 => ?_) (fun c_3 => ?_)
          · skip
            have hnt : tk (dg n qn pp) pp i = false := by rw [mset_bq _ (by omega) hlt] at c_3; exact c_3
            refine lv_aload_n hx hb dX0_matchFrom_62 rfl (lv_at hl 4 rfl) ?_
            refine g_get (v := .ref (q 20)) hx hb hts hown hK hP 18 (by decide) rfl q167 rfl dX0_matchFrom_63 ?_
            refine lv_iload_n hx hb dX0_matchFrom_66 rfl (lv_at hl 3 rfl) ?_
            refine lv_iload hx hb dX0_matchFrom_67 (lv_at hl 0 rfl) ?_
            refine g_ist (x := (nI i)) hx hb hK hP hD hS (gWa20 _ _ _ _ _ _ _ _ _ _ _ _) (gWs20 _ _ _ _ _ _ _ _ _ _ _ _) D rfl pp rfl (by omega) (by decide) dX0_matchFrom_69 (fun H locs hP hD hS => ?_)
            have eW_4 : ∀ (zg20 : Int32) (za20 : Nat → Int32) (za30 : Nat → Int32) (zn : Nat → Int32), xG ct o q (ql, qs, md, qe, n) y (upd g 20 zg20) (va_up (va_up (va_up a 20 za20) 30 za30) 20 zn) ex = xG ct o q (ql, qs, md, qe, n) y (upd g 20 zg20) (va_up (va_up a 20 zn) 30 za30) ex := fun _ _ _ _ => rfl
            have hP : va_P (dC, dI) clA (xG ct o q (ql, qs, md, qe, n) y (upd g 20 ms) (va_up (va_up a 20 (upd D pp (nI i))) 30 B) ex) H := Eq.mp (congrArg (fun w => va_P (dC, dI) clA w H) (eW_4 ms D B (upd D pp (nI i)))) hP
            have hD : va_D A (xG ct o q (ql, qs, md, qe, n) y (upd g 20 ms) (va_up (va_up a 20 (upd D pp (nI i))) 30 B) ex) := Eq.mp (congrArg (fun w => va_D A w) (eW_4 ms D B (upd D pp (nI i)))) hD
            refine lv_aload_n hx hb dX0_matchFrom_70 rfl (lv_at hl 4 rfl) ?_
            refine lv_iload_n hx hb dX0_matchFrom_71 rfl (lv_at hl 3 rfl) ?_
            refine lv_iconst (v := 1) hx hb dX0_matchFrom_72 (by decide) ?_
            refine lv_iadd hx hb dX0_matchFrom_73 ?_
            refine lv_iload_n hx hb dX0_matchFrom_74 rfl (lv_at hl 2 rfl) ?_
            refine lv_iconst (v := 1) hx hb dX0_matchFrom_75 (by decide) ?_
            refine lv_iload hx hb dX0_matchFrom_76 (lv_at hl 0 rfl) ?_
            refine lv_ishl hx hb dX0_matchFrom_78 ?_
            refine lv_ior hx hb dX0_matchFrom_79 ?_
            refine lv_iload_n hx hb dX0_matchFrom_80 rfl (lv_at hl 1 rfl) ?_
            refine lv_aload_n hx hb dX0_matchFrom_81 rfl (lv_at hl 4 rfl) ?_
            refine lv_iload_n hx hb dX0_matchFrom_82 rfl (lv_at hl 3 rfl) ?_
            refine lv_iload hx hb dX0_matchFrom_83 (lv_at hl 0 rfl) ?_
            refine vp_callSi ((va_runV (As := [.int (nI pp), .int (nI i)]) (rest := [.int (nI (cn (isfV (a 3) (a 4)) (dg n qn pp) pp)), .int ((mset (tk (dg n qn pp) pp) n) ||| (1 <<< ((nI i) &&& 31))), .int ((nI pp) + 1), .ref o]) ⟨hx, hb, hml, hown, hts⟩ (metX0_isMendedBy l dC dI ct A ex o q ql qs md qe n y (upd g 20 ms) (va_up (va_up a 20 (upd D pp (nI i))) 30 B) (nI pp) (nI i) pp i hp2 hlt rfl rfl hn6) (cwV 2 hts (lw_V q790 q792 qs32 q69 q793) rfl rfl rfl (by decide +kernel) ⟨Nat.le_of_ble_eq_true rfl, Nat.le_of_ble_eq_true rfl⟩) (gPV hK hP hD hE _) rfl rfl hl.1 rfl (lv_room (Nat.le_of_ble_eq_true rfl)) dX0_matchFrom_85 ⟨Nat.zero_le _, Nat.zero_le _⟩)).run (fun r hw => ?_)
            have hw : r = (b2i (isfV (a 3) (a 4) pp i)) := hw
            subst hw
            refine bz_eq (tgt := 95) hx hb dX0_matchFrom_88 (by decide) (fun c_5 => ?_) (fun c_5 => ?_)
            · skip
              refine lv_iconst (v := 0) hx hb dX0_matchFrom_95 (by decide) ?_
              refine lv_iadd hx hb dX0_matchFrom_96 ?_
              have em9 : (nI (cn (isfV (a 3) (a 4)) (dg n qn pp) pp)) + 0 = nI (cn (isfV (a 3) (a 4)) (dg n (n * qn + i) (pp + 1)) (pp + 1)) := by rw [cn_app hlt, if_neg (by rw [c_5]; decide)]; exact nI_add _ 0
              refine va_callv (va_runV (As := [.int ((nI pp) + 1), .int ((mset (tk (dg n qn pp) pp) n) ||| (1 <<< ((nI i) &&& 31))), .int ((nI (cn (isfV (a 3) (a 4)) (dg n qn pp) pp)) + 0)]) (rest := []) ⟨hx, hb, hml, hown, hts⟩ (metX0_matchFrom_4 l dC dI ct A ex o q ql qs md qe n y (upd g 20 ms) (va_up (va_up a 20 (upd D pp (nI i))) 30 B) ((nI pp) + 1) ((mset (tk (dg n qn pp) pp) n) ||| (1 <<< ((nI i) &&& 31))) ((nI (cn (isfV (a 3) (a 4)) (dg n qn pp) pp)) + 0) (pp + 1) (n * qn + i) hn6 hn0 (nI_1 pp) (tk_app (by omega) hlt) em9 (by omega) (by omega) (mpf_app hpf hG1 hlt hnt) hM1) (cwV 3 hts (lw_V q785 q787 qs31 q69 q788) rfl rfl rfl (by decide +kernel) ⟨Nat.le_of_ble_eq_true rfl, Nat.le_of_ble_eq_true rfl⟩) (gPV hK hP hD hE _) rfl rfl hl.1 rfl (lv_room (Nat.le_of_ble_eq_true rfl)) dX0_matchFrom_97 ⟨Nat.zero_le _, Nat.zero_le _⟩) hS (fun q _ h => h) (fun q h => h) (fun u t H1 locs ht hvm hw hB hz1 hk1 hS => ?_)
              obtain ⟨ms_6, D_7, B_8, hM_9, hG_10, hw⟩ := hw
              subst hw
              obtain ⟨hP, -, hD⟩ := hB
              rw [ht] at hP
              generalize H1 = H at hP hS ⊢
              have hP : va_P (dC, dI) clA (xG ct o q (ql, qs, md, qe, n) y (upd g 20 ms_6) (va_up (va_up a 20 D_7) 30 B_8) ex) H := hP
              have hD : va_D A (xG ct o q (ql, qs, md, qe, n) y (upd g 20 ms_6) (va_up (va_up a 20 D_7) 30 B_8) ex) := hD
              refine lv_iinc (v := (nI (i + 1))) (lv' := [(4, .int (nI (i + 1))), (3, .int (nI (cn (isfV (a 3) (a 4)) (dg n qn pp) pp))), (2, .int (mset (tk (dg n qn pp) pp) n)), (1, .int (nI pp)), (0, .ref o)]) hx hb dX0_matchFrom_100 hl (k := 0) rfl (nI_1 i) (by decide) rfl (fun ls hl => ?_)
              refine lv_goto (tgt := 41) hx hb dX0_matchFrom_103 (by decide) ?_
              exact ih1 (i + 1) ms_6 D_7 B_8 (by omega) (by omega) hM_9 (fun j hj => ((hG_10) j (by omega)).trans ((upd_n _ _ (by omega)).trans (hG1 j hj))) _ _ hP hD hS _ (lv_sub hl [0, 1, 2, 3, 4] rfl)
            · skip
              refine lv_iconst (v := 1) hx hb dX0_matchFrom_91 (by decide) ?_
              refine lv_goto (tgt := 96) hx hb dX0_matchFrom_92 (by decide) ?_
              refine lv_iadd hx hb dX0_matchFrom_96 ?_
              have em9 : (nI (cn (isfV (a 3) (a 4)) (dg n qn pp) pp)) + 1 = nI (cn (isfV (a 3) (a 4)) (dg n (n * qn + i) (pp + 1)) (pp + 1)) := by rw [cn_app hlt, if_pos c_5]; exact nI_1 _
              refine va_callv (va_runV (As := [.int ((nI pp) + 1), .int ((mset (tk (dg n qn pp) pp) n) ||| (1 <<< ((nI i) &&& 31))), .int ((nI (cn (isfV (a 3) (a 4)) (dg n qn pp) pp)) + 1)]) (rest := []) ⟨hx, hb, hml, hown, hts⟩ (metX0_matchFrom_4 l dC dI ct A ex o q ql qs md qe n y (upd g 20 ms) (va_up (va_up a 20 (upd D pp (nI i))) 30 B) ((nI pp) + 1) ((mset (tk (dg n qn pp) pp) n) ||| (1 <<< ((nI i) &&& 31))) ((nI (cn (isfV (a 3) (a 4)) (dg n qn pp) pp)) + 1) (pp + 1) (n * qn + i) hn6 hn0 (nI_1 pp) (tk_app (by omega) hlt) em9 (by omega) (by omega) (mpf_app hpf hG1 hlt hnt) hM1) (cwV 3 hts (lw_V q785 q787 qs31 q69 q788) rfl rfl rfl (by decide +kernel) ⟨Nat.le_of_ble_eq_true rfl, Nat.le_of_ble_eq_true rfl⟩) (gPV hK hP hD hE _) rfl rfl hl.1 rfl (lv_room (Nat.le_of_ble_eq_true rfl)) dX0_matchFrom_97 ⟨Nat.zero_le _, Nat.zero_le _⟩) hS (fun q _ h => h) (fun q h => h) (fun u t H1 locs ht hvm hw hB hz1 hk1 hS => ?_)
              obtain ⟨ms_11, D_12, B_13, hM_14, hG_15, hw⟩ := hw
              subst hw
              obtain ⟨hP, -, hD⟩ := hB
              rw [ht] at hP
              generalize H1 = H at hP hS ⊢
              have hP : va_P (dC, dI) clA (xG ct o q (ql, qs, md, qe, n) y (upd g 20 ms_11) (va_up (va_up a 20 D_12) 30 B_13) ex) H := hP
              have hD : va_D A (xG ct o q (ql, qs, md, qe, n) y (upd g 20 ms_11) (va_up (va_up a 20 D_12) 30 B_13) ex) := hD
              refine lv_iinc (v := (nI (i + 1))) (lv' := [(4, .int (nI (i + 1))), (3, .int (nI (cn (isfV (a 3) (a 4)) (dg n qn pp) pp))), (2, .int (mset (tk (dg n qn pp) pp) n)), (1, .int (nI pp)), (0, .ref o)]) hx hb dX0_matchFrom_100 hl (k := 0) rfl (nI_1 i) (by decide) rfl (fun ls hl => ?_)
              refine lv_goto (tgt := 41) hx hb dX0_matchFrom_103 (by decide) ?_
              exact ih1 (i + 1) ms_11 D_12 B_13 (by omega) (by omega) hM_14 (fun j hj => ((hG_15) j (by omega)).trans ((upd_n _ _ (by omega)).trans (hG1 j hj))) _ _ hP hD hS _ (lv_sub hl [0, 1, 2, 3, 4] rfl)
          · skip
            skip
            refine lv_goto (tgt := 100) hx hb dX0_matchFrom_59 (by decide) ?_
            refine lv_iinc (v := (nI (i + 1))) (lv' := [(4, .int (nI (i + 1))), (3, .int (nI (cn (isfV (a 3) (a 4)) (dg n qn pp) pp))), (2, .int (mset (tk (dg n qn pp) pp) n)), (1, .int (nI pp)), (0, .ref o)]) hx hb dX0_matchFrom_100 hl (k := 0) rfl (nI_1 i) (by decide) rfl (fun ls hl => ?_)
            refine lv_goto (tgt := 41) hx hb dX0_matchFrom_103 (by decide) ?_
            exact ih1 (i + 1) ms D B (by omega) (by omega) (mx_taken hn6 hp2 hlt (by rw [mset_bq _ (by omega) hlt] at c_3; exact c_3) hM1) hG1 _ _ hP hD hS _ (lv_sub hl [0, 1, 2, 3, 4] rfl)
    exact loop1 (n + 1) 0 (g 20) (a 20) (a 30) (by omega) (by omega) (by rw [mlo_eq hp2]; exact hmx) (fun _ _ => rfl) _ _ hP hD hS _ (lv_sub hl [0, 4, 3, 2, 1] rfl)
  · skip
    have hpe : n = pp := ((nI_eq (by omega) (by omega)).mp c_1).symm
    subst hpe
    refine lv_iload_n hx hb dX0_matchFrom_8 rfl (lv_at hl 3 rfl) ?_
    refine lv_aload_n hx hb dX0_matchFrom_9 rfl (lv_at hl 0 rfl) ?_
    refine g_get (v := .int (g 20)) hx hb hts hown hK hP 20 (by decide) rfl q169 rfl dX0_matchFrom_10 ?_
    refine lv_icmp_gt (tgt := 17) hx hb dX0_matchFrom_13 (by decide) (fun c_16 => ?_) (fun c_16 => ?_)
    · skip
      refine lv_aload_n hx hb dX0_matchFrom_17 rfl (lv_at hl 0 rfl) ?_
      refine lv_iload_n hx hb dX0_matchFrom_18 rfl (lv_at hl 3 rfl) ?_
      refine g_put (v := (nI (cn (isfV (a 3) (a 4)) (dg n qn n) n))) hx hb hts hown hK hP hD hS 20 20 (by decide) rfl q169 rfl rfl (by decide +kernel) dX0_matchFrom_19 (fun H locs hP hD hS => ?_)
      refine lv_aload_n hx hb dX0_matchFrom_22 rfl (lv_at hl 0 rfl) ?_
      refine g_get (v := .ref (q 20)) hx hb hts hown hK hP 18 (by decide) rfl q167 rfl dX0_matchFrom_23 ?_
      refine lv_iconst (v := 0) hx hb dX0_matchFrom_26 (by decide) ?_
      refine lv_aload_n hx hb dX0_matchFrom_27 rfl (lv_at hl 0 rfl) ?_
      refine g_get (v := .ref (q 30)) hx hb hts hown hK hP 19 (by decide) rfl q168 rfl dX0_matchFrom_28 ?_
      refine lv_iconst (v := 0) hx hb dX0_matchFrom_31 (by decide) ?_
      refine lv_bipush (v := 6) hx hb dX0_matchFrom_32 (by decide) ?_
      refine va_copyi (sp := 0) (dp := 0) (n := 6) hx hb (hml.trans hl.1.symm) hown (hts _ q789) (hts _ q578) (hts _ q577) (hts _ q90) hK hP hD hS 9 10 0 0 (gWa20 _ _ _ _ _ _ _ _ _ _ _ _) (gWa30 _ _ _ _ _ _ _ _ _ _ _ _) rfl rfl rfl (by decide) (by decide) (by decide) (by decide +kernel) (by decide +kernel) (fun _ _ => rfl) (Nat.le_of_ble_eq_true rfl) (Nat.le_of_ble_eq_true rfl) dX0_matchFrom_34 (fun H locs hP hD hS => ?_)
      rw [(gWs30 _ _ _ _ _ _ _ _ _ _ _ _ _)] at hP hD
      have hv9 : (mbV (a 3) (a 4) n) qn = nI (cn (isfV (a 3) (a 4)) (dg n qn n) n) := mbV_dst hn6 hn0 (fun k9 hk9 => (hpf k9 hk9).2)
      have hm9 : mxP (mbV (a 3) (a 4) n) n qn (g 20) (a 30) := by have h := hmx; rw [Nat.sub_self, Nat.pow_zero, Nat.mul_one] at h; exact h
      exact W.vret hx hb hr (fun t ht hW => ⟨⟨((upd g 20 (nI (cn (isfV (a 3) (a 4)) (dg n qn n) n))), (va_up a 30 (va_cpy (a 20) (a 30) (0 : Int32).toNatClampNeg (0 : Int32).toNatClampNeg (6 : Int32).toNatClampNeg))), rfl, ⟨_, a 20, _, by rw [Nat.sub_self, Nat.pow_zero, Nat.mul_one]; exact mx_gt hm9 (Nat.le_trans hcn hn6) hv9 (Int32.not_le.mpr c_16) (fun j9 hj9 => by rw [cpy6 (by omega)]; exact (hpf j9 hj9).1), fun _ _ => rfl, mf_id2 g a _ _⟩, by rw [ht]; exact hP, va_K.moved hW.alike hK, hD⟩, hS.F ht⟩) hS.2.2 dX0_matchFrom_37
    · skip
      have hv9 : (mbV (a 3) (a 4) n) qn = nI (cn (isfV (a 3) (a 4)) (dg n qn n) n) := mbV_dst hn6 hn0 (fun k9 hk9 => (hpf k9 hk9).2)
      have hm9 : mxP (mbV (a 3) (a 4) n) n qn (g 20) (a 30) := by have h := hmx; rw [Nat.sub_self, Nat.pow_zero, Nat.mul_one] at h; exact h
      exact W.vret hx hb hr (fun t ht hW => ⟨⟨(g, a), rfl, ⟨g 20, a 20, a 30, by rw [Nat.sub_self, Nat.pow_zero, Nat.mul_one]; exact mx_le hm9 (Nat.le_trans hcn hn6) hv9 (Int32.not_lt.mp c_16), fun _ _ => rfl, mf_id g a⟩, by rw [ht]; exact hP, va_K.moved hW.alike hK, hD⟩, hS.F ht⟩) hS.2.2 dX0_matchFrom_16
set_option maxHeartbeats 4000000 in
set_option maxRecDepth 100000 in
theorem metX0_matchFrom_6 (l : Launch) (dC : Nat → ClassId) (dI : Nat → Nat → Nat) (ct : Nat → ClassId) (A : Nat → Prop) (ex : va_W) (o : Nat) (q : Nat → Nat) (ql qs : Nat) (md : Int32) (qe n : Nat) (y : Nat → Nat) (g : Nat → Int32) (a : Nat → Nat → Int32) (x : Int32) (tk0 : Int32) (mn : Int32) (pp qn : Nat) (hn6 : n ≤ 6) (hn0 : 0 < n) (ex0 : x = nI pp) (et : tk0 = mset (tk (dg n qn pp) pp) n) (em : mn = nI (cn (isfV (a 3) (a 4)) (dg n qn pp) pp)) (hpn : pp ≤ n) (hdp : n ≤ pp + 6) (hpf : mpf n pp qn (a 20)) (hmx : mxP (mbV (a 3) (a 4) n) n (qn * n ^ (n - pp)) (g 20) (a 30)) : Met l yX0_matchFrom (ws_ yX0_matchFrom cX0_matchFrom 5 none) ({ frames := 10, cells := 0, slots := 0, locals := 231 }) (gPre dC dI ct A ex o q (ql, qs, md, qe, n) y g a [.ref o, .int x, .int tk0, .int mn]) (va_Qv (fun (u : (Nat → Int32) × (Nat → Nat → Int32)) => ∃ (ms : Int32), ∃ (D : Nat → Int32), ∃ (B : Nat → Int32), ∃ (hM : mxP (mbV (a 3) (a 4) n) n ((qn + 1) * n ^ (n - pp)) ms B), ∃ (hG : ∀ j, j < pp → D j = a 20 j), u = ((upd g 20 ms), (va_up (va_up a 20 D) 30 B))) (gB dC dI ct A ex o q (ql, qs, md, qe, n) y) A) 0 0 A := by
  refine Met.ofW (cc := cX0_matchFrom) (maxL := 5) (ret := none) (by decide) rfl ?_
  intro p e s m args below meth c s₁ B hml hv
  obtain ⟨rfl, hP, hK, hD, hE⟩ := hv
  have hx := B.exec
  have hb := B.bytes
  have hr := B.returns
  have hts := atoms_spec (ws := ws_ yX0_matchFrom cX0_matchFrom 5 none) B.pre
  have hts : ∀ w ∈ lw_all, w.before _ s = true := fun w h => hts w (List.mem_cons_of_mem _ h)
  have hown : s.vm.findClass RX0 = some m.cls := findClass_of_methodNamed B.named
  have hlocks := B.notSynchronized
  have hS : va_S A s.heap s.heap [] := va_S.rf
  have hl := lv_entry ([.ref o, .int x, .int tk0, .int mn]) (n := 5) (Nat.le_of_ble_eq_true rfl)
  rw [lg_entry_eq]
  generalize (lg_sl ([.ref o, .int x, .int tk0, .int mn]) ++ List.replicate (5 - (lg_sl ([.ref o, .int x, .int tk0, .int mn])).length) Slot.unset).toArray = ls at hl ⊢
  have hl : lv_has ls 5 [(0, .ref o), (1, .int x), (2, .int tk0), (3, .int mn)] := hl
  subst ex0
  subst et
  subst em
  have hcn := cn_le (isfV (a 3) (a 4)) (dg n qn pp) pp
  refine lv_iload_n hx hb dX0_matchFrom_0 rfl (lv_at hl 1 rfl) ?_
  refine lv_aload_n hx hb dX0_matchFrom_1 rfl (lv_at hl 0 rfl) ?_
  refine vp_callSi ((va_runV (As := []) (rest := [.int (nI pp)]) ⟨hx, hb, hml, hown, hts⟩ (metX0_people l dC dI ct A (peW ct o qe n y a ++ ex) o q ql qs md qe n g a  ) (cwV 0 hts (lw_V q593 q595 qs14 q69 q596) rfl rfl rfl (by decide +kernel) ⟨Nat.le_of_ble_eq_true rfl, Nat.le_of_ble_eq_true rfl⟩) (xPV hK hP hD hE _) rfl rfl hl.1 rfl (lv_room (Nat.le_of_ble_eq_true rfl)) dX0_matchFrom_2 ⟨Nat.zero_le _, Nat.zero_le _⟩)).run (fun r hw => ?_)
  have hw : r = (nI n) := hw
  subst hw
  refine lv_icmp_ne (tgt := 38) hx hb dX0_matchFrom_5 (by decide) (fun c_1 => ?_) (fun c_1 => ?_)
  · skip
    have hp2 : pp < n := Nat.lt_of_le_of_ne hpn (fun z => c_1 (by rw [z]))
    refine lv_iconst (v := 0) hx hb dX0_matchFrom_38 (by decide) ?_
    refine lv_istore (lv' := [(4, .int 0), (0, .ref o), (1, .int (nI pp)), (2, .int (mset (tk (dg n qn pp) pp) n)), (3, .int (nI (cn (isfV (a 3) (a 4)) (dg n qn pp) pp)))]) hx hb dX0_matchFrom_39 hl (by decide) rfl (fun ls hl => ?_)
    have loop1 : ∀ (f1 : Nat) (i : Nat) (ms : Int32) (D : Nat → Int32) (B : Nat → Int32), (i ≤ n) → (n + 1 ≤ i + f1) → (mxP (mbV (a 3) (a 4) n) n ((n * qn + i) * n ^ (n - (pp + 1))) ms B) → (∀ j, j < pp → D j = a 20 j) → ∀ (H : Heap) (locs : List Loc), va_P (dC, dI) clA (xG ct o q (ql, qs, md, qe, n) y (upd g 20 ms) (va_up (va_up a 20 D) 30 B) ex) H → va_D A (xG ct o q (ql, qs, md, qe, n) y (upd g 20 ms) (va_up (va_up a 20 D) 30 B) ex) → va_S A s.heap H locs → ∀ (ls : Array Slot), lv_has ls 5 [(4, .int (nI i)), (3, .int (nI (cn (isfV (a 3) (a 4)) (dg n qn pp) pp))), (2, .int (mset (tk (dg n qn pp) pp) n)), (1, .int (nI pp)), (0, .ref o)] → W p l e (headSpec (ws_ yX0_matchFrom cX0_matchFrom 5 none) ({ frames := 10, cells := 0, slots := 0, locals := 231 })).room s m ([.ref o, .int (nI pp), .int (mset (tk (dg n qn pp) pp) n), .int (nI (cn (isfV (a 3) (a 4)) (dg n qn pp) pp))] : List Value).toArray below meth c H locs 0 0 (MQ below (va_Qv (fun (u : (Nat → Int32) × (Nat → Nat → Int32)) => ∃ (ms : Int32), ∃ (D : Nat → Int32), ∃ (B : Nat → Int32), ∃ (hM : mxP (mbV (a 3) (a 4) n) n ((qn + 1) * n ^ (n - pp)) ms B), ∃ (hG : ∀ j, j < pp → D j = a 20 j), u = ((upd g 20 ms), (va_up (va_up a 20 D) 30 B))) (gB dC dI ct A ex o q (ql, qs, md, qe, n) y) A) ([.ref o, .int (nI pp), .int (mset (tk (dg n qn pp) pp) n), .int (nI (cn (isfV (a 3) (a 4)) (dg n qn pp) pp))] : List Value).toArray s 0 0 A) (F0 m 41 ls []) := by
      intro f1
      induction f1 with
      | zero => intro i ms D B hi hf hM1 hG1; exact False.elim (by omega)
      | succ f1 ih1 =>
        intro i ms D B hi hf hM1 hG1 H locs hP hD hS ls hl
        refine lv_iload hx hb dX0_matchFrom_41 (lv_at hl 0 rfl) ?_
        refine lv_aload_n hx hb dX0_matchFrom_43 rfl (lv_at hl 4 rfl) ?_
        refine vp_callSi ((va_runV (As := []) (rest := [.int (nI i)]) ⟨hx, hb, hml, hown, hts⟩ (metX0_people l dC dI ct A (peW ct o qe n y (va_up (va_up a 20 D) 30 B) ++ ex) o q ql qs md qe n (upd g 20 ms) (va_up (va_up a 20 D) 30 B)  ) (cwV 0 hts (lw_V q593 q595 qs14 q69 q596) rfl rfl rfl (by decide +kernel) ⟨Nat.le_of_ble_eq_true rfl, Nat.le_of_ble_eq_true rfl⟩) (xPV hK hP hD hE _) rfl rfl hl.1 rfl (lv_room (Nat.le_of_ble_eq_true rfl)) dX0_matchFrom_44 ⟨Nat.zero_le _, Nat.zero_le _⟩)).run (fun r hw => ?_)
        have hw : r = (nI n) := hw
        subst hw
        refine lv_icmp_ge (tgt := 106) hx hb dX0_matchFrom_47 (by decide) (fun c_2 => ?_) (fun c_2 => ?_)
        · skip
          have hge : i = n := by exact Nat.le_antisymm (by omega) ((nI_leI (by omega) (by omega)).mp c_2)
          exact W.vret hx hb hr (fun t ht hW => ⟨⟨((upd g 20 ms), (va_up (va_up a 20 D) 30 B)), rfl, ⟨ms, D, B, by rw [← mhi_eq hp2]; rw [hge] at hM1; exact hM1, hG1, rfl⟩, by rw [ht]; exact hP, va_K.moved hW.alike hK, hD⟩, hS.F ht⟩) hS.2.2 dX0_matchFrom_106
        · skip
          have hlt : i < n := by exact Nat.lt_of_not_le (fun z => c_2 ((nI_leI (by omega) (by omega)).mpr z))
          refine lv_iload_n hx hb dX0_matchFrom_50 rfl (lv_at hl 2 rfl) ?_
          refine lv_iload hx hb dX0_matchFrom_51 (lv_at hl 0 rfl) ?_
          refine vp_callSi ((va_runS (As := [.int (mset (tk (dg n qn pp) pp) n), .int (nI i)]) (rest := []) ⟨hx, hb, hml, hown, hts⟩ (metX0_isOf l (mset (tk (dg n qn pp) pp) n) (nI i) ) (va_cwS 2 hts (lw_S q723 q724 q69 q725) rfl rfl rfl (by decide +kernel) ⟨Nat.le_of_ble_eq_true rfl, Nat.le_of_ble_eq_true rfl⟩) (pcS _) rfl rfl hl.1 rfl (lv_room (Nat.le_of_ble_eq_true rfl)) dX0_matchFrom_53 ⟨Nat.zero_le _, Nat.zero_le _⟩)).run (fun r hw => ?_)
          have hw : r = (b2i (bq (mset (tk (dg n qn pp) pp) n) (nI i))) := hw
          subst hw
          refine bz_eq (tgt := 62) hx hb dX0_matchFrom_56 (by decide) (fun c_3 => ?_) (fun c_3 => ?_)
          · skip
            have hnt : tk (dg n qn pp) pp i = false := by rw [mset_bq _ (by omega) hlt] at c_3; exact c_3
            refine lv_aload_n hx hb dX0_matchFrom_62 rfl (lv_at hl 4 rfl) ?_
            refine g_get (v := .ref (q 20)) hx hb hts hown hK hP 18 (by decide) rfl q167 rfl dX0_matchFrom_63 ?_
            refine lv_iload_n hx hb dX0_matchFrom_66 rfl (lv_at hl 3 rfl) ?_
            refine lv_iload hx hb dX0_matchFrom_67 (lv_at hl 0 rfl) ?_
            refine g_ist (x := (nI i)) hx hb hK hP hD hS (gWa20 _ _ _ _ _ _ _ _ _ _ _ _) (gWs20 _ _ _ _ _ _ _ _ _ _ _ _) D rfl pp rfl (by omega) (by decide) dX0_matchFrom_69 (fun H locs hP hD hS => ?_)
            have eW_4 : ∀ (zg20 : Int32) (za20 : Nat → Int32) (za30 : Nat → Int32) (zn : Nat → Int32), xG ct o q (ql, qs, md, qe, n) y (upd g 20 zg20) (va_up (va_up (va_up a 20 za20) 30 za30) 20 zn) ex = xG ct o q (ql, qs, md, qe, n) y (upd g 20 zg20) (va_up (va_up a 20 zn) 30 za30) ex := fun _ _ _ _ => rfl
            have hP : va_P (dC, dI) clA (xG ct o q (ql, qs, md, qe, n) y (upd g 20 ms) (va_up (va_up a 20 (upd D pp (nI i))) 30 B) ex) H := Eq.mp (congrArg (fun w => va_P (dC, dI) clA w H) (eW_4 ms D B (upd D pp (nI i)))) hP
            have hD : va_D A (xG ct o q (ql, qs, md, qe, n) y (upd g 20 ms) (va_up (va_up a 20 (upd D pp (nI i))) 30 B) ex) := Eq.mp (congrArg (fun w => va_D A w) (eW_4 ms D B (upd D pp (nI i)))) hD
            refine lv_aload_n hx hb dX0_matchFrom_70 rfl (lv_at hl 4 rfl) ?_
            refine lv_iload_n hx hb dX0_matchFrom_71 rfl (lv_at hl 3 rfl) ?_
            refine lv_iconst (v := 1) hx hb dX0_matchFrom_72 (by decide) ?_
            refine lv_iadd hx hb dX0_matchFrom_73 ?_
            refine lv_iload_n hx hb dX0_matchFrom_74 rfl (lv_at hl 2 rfl) ?_
            refine lv_iconst (v := 1) hx hb dX0_matchFrom_75 (by decide) ?_
            refine lv_iload hx hb dX0_matchFrom_76 (lv_at hl 0 rfl) ?_
            refine lv_ishl hx hb dX0_matchFrom_78 ?_
            refine lv_ior hx hb dX0_matchFrom_79 ?_
            refine lv_iload_n hx hb dX0_matchFrom_80 rfl (lv_at hl 1 rfl) ?_
            refine lv_aload_n hx hb dX0_matchFrom_81 rfl (lv_at hl 4 rfl) ?_
            refine lv_iload_n hx hb dX0_matchFrom_82 rfl (lv_at hl 3 rfl) ?_
            refine lv_iload hx hb dX0_matchFrom_83 (lv_at hl 0 rfl) ?_
            refine vp_callSi ((va_runV (As := [.int (nI pp), .int (nI i)]) (rest := [.int (nI (cn (isfV (a 3) (a 4)) (dg n qn pp) pp)), .int ((mset (tk (dg n qn pp) pp) n) ||| (1 <<< ((nI i) &&& 31))), .int ((nI pp) + 1), .ref o]) ⟨hx, hb, hml, hown, hts⟩ (metX0_isMendedBy l dC dI ct A ex o q ql qs md qe n y (upd g 20 ms) (va_up (va_up a 20 (upd D pp (nI i))) 30 B) (nI pp) (nI i) pp i hp2 hlt rfl rfl hn6) (cwV 2 hts (lw_V q790 q792 qs32 q69 q793) rfl rfl rfl (by decide +kernel) ⟨Nat.le_of_ble_eq_true rfl, Nat.le_of_ble_eq_true rfl⟩) (gPV hK hP hD hE _) rfl rfl hl.1 rfl (lv_room (Nat.le_of_ble_eq_true rfl)) dX0_matchFrom_85 ⟨Nat.zero_le _, Nat.zero_le _⟩)).run (fun r hw => ?_)
            have hw : r = (b2i (isfV (a 3) (a 4) pp i)) := hw
            subst hw
            refine bz_eq (tgt := 95) hx hb dX0_matchFrom_88 (by decide) (fun c_5 => ?_) (fun c_5 => ?_)
            · skip
              refine lv_iconst (v := 0) hx hb dX0_matchFrom_95 (by decide) ?_
              refine lv_iadd hx hb dX0_matchFrom_96 ?_
              have em9 : (nI (cn (isfV (a 3) (a 4)) (dg n qn pp) pp)) + 0 = nI (cn (isfV (a 3) (a 4)) (dg n (n * qn + i) (pp + 1)) (pp + 1)) := by rw [cn_app hlt, if_neg (by rw [c_5]; decide)]; exact nI_add _ 0
              refine va_callv (va_runV (As := [.int ((nI pp) + 1), .int ((mset (tk (dg n qn pp) pp) n) ||| (1 <<< ((nI i) &&& 31))), .int ((nI (cn (isfV (a 3) (a 4)) (dg n qn pp) pp)) + 0)]) (rest := []) ⟨hx, hb, hml, hown, hts⟩ (metX0_matchFrom_5 l dC dI ct A ex o q ql qs md qe n y (upd g 20 ms) (va_up (va_up a 20 (upd D pp (nI i))) 30 B) ((nI pp) + 1) ((mset (tk (dg n qn pp) pp) n) ||| (1 <<< ((nI i) &&& 31))) ((nI (cn (isfV (a 3) (a 4)) (dg n qn pp) pp)) + 0) (pp + 1) (n * qn + i) hn6 hn0 (nI_1 pp) (tk_app (by omega) hlt) em9 (by omega) (by omega) (mpf_app hpf hG1 hlt hnt) hM1) (cwV 3 hts (lw_V q785 q787 qs31 q69 q788) rfl rfl rfl (by decide +kernel) ⟨Nat.le_of_ble_eq_true rfl, Nat.le_of_ble_eq_true rfl⟩) (gPV hK hP hD hE _) rfl rfl hl.1 rfl (lv_room (Nat.le_of_ble_eq_true rfl)) dX0_matchFrom_97 ⟨Nat.zero_le _, Nat.zero_le _⟩) hS (fun q _ h => h) (fun q h => h) (fun u t H1 locs ht hvm hw hB hz1 hk1 hS => ?_)
              obtain ⟨ms_6, D_7, B_8, hM_9, hG_10, hw⟩ := hw
              subst hw
              obtain ⟨hP, -, hD⟩ := hB
              rw [ht] at hP
              generalize H1 = H at hP hS ⊢
              have hP : va_P (dC, dI) clA (xG ct o q (ql, qs, md, qe, n) y (upd g 20 ms_6) (va_up (va_up a 20 D_7) 30 B_8) ex) H := hP
              have hD : va_D A (xG ct o q (ql, qs, md, qe, n) y (upd g 20 ms_6) (va_up (va_up a 20 D_7) 30 B_8) ex) := hD
              refine lv_iinc (v := (nI (i + 1))) (lv' := [(4, .int (nI (i + 1))), (3, .int (nI (cn (isfV (a 3) (a 4)) (dg n qn pp) pp))), (2, .int (mset (tk (dg n qn pp) pp) n)), (1, .int (nI pp)), (0, .ref o)]) hx hb dX0_matchFrom_100 hl (k := 0) rfl (nI_1 i) (by decide) rfl (fun ls hl => ?_)
              refine lv_goto (tgt := 41) hx hb dX0_matchFrom_103 (by decide) ?_
              exact ih1 (i + 1) ms_6 D_7 B_8 (by omega) (by omega) hM_9 (fun j hj => ((hG_10) j (by omega)).trans ((upd_n _ _ (by omega)).trans (hG1 j hj))) _ _ hP hD hS _ (lv_sub hl [0, 1, 2, 3, 4] rfl)
            · skip
              refine lv_iconst (v := 1) hx hb dX0_matchFrom_91 (by decide) ?_
              refine lv_goto (tgt := 96) hx hb dX0_matchFrom_92 (by decide) ?_
              refine lv_iadd hx hb dX0_matchFrom_96 ?_
              have em9 : (nI (cn (isfV (a 3) (a 4)) (dg n qn pp) pp)) + 1 = nI (cn (isfV (a 3) (a 4)) (dg n (n * qn + i) (pp + 1)) (pp + 1)) := by rw [cn_app hlt, if_pos c_5]; exact nI_1 _
              refine va_callv (va_runV (As := [.int ((nI pp) + 1), .int ((mset (tk (dg n qn pp) pp) n) ||| (1 <<< ((nI i) &&& 31))), .int ((nI (cn (isfV (a 3) (a 4)) (dg n qn pp) pp)) + 1)]) (rest := []) ⟨hx, hb, hml, hown, hts⟩ (metX0_matchFrom_5 l dC dI ct A ex o q ql qs md qe n y (upd g 20 ms) (va_up (va_up a 20 (upd D pp (nI i))) 30 B) ((nI pp) + 1) ((mset (tk (dg n qn pp) pp) n) ||| (1 <<< ((nI i) &&& 31))) ((nI (cn (isfV (a 3) (a 4)) (dg n qn pp) pp)) + 1) (pp + 1) (n * qn + i) hn6 hn0 (nI_1 pp) (tk_app (by omega) hlt) em9 (by omega) (by omega) (mpf_app hpf hG1 hlt hnt) hM1) (cwV 3 hts (lw_V q785 q787 qs31 q69 q788) rfl rfl rfl (by decide +kernel) ⟨Nat.le_of_ble_eq_true rfl, Nat.le_of_ble_eq_true rfl⟩) (gPV hK hP hD hE _) rfl rfl hl.1 rfl (lv_room (Nat.le_of_ble_eq_true rfl)) dX0_matchFrom_97 ⟨Nat.zero_le _, Nat.zero_le _⟩) hS (fun q _ h => h) (fun q h => h) (fun u t H1 locs ht hvm hw hB hz1 hk1 hS => ?_)
              obtain ⟨ms_11, D_12, B_13, hM_14, hG_15, hw⟩ := hw
              subst hw
              obtain ⟨hP, -, hD⟩ := hB
              rw [ht] at hP
              generalize H1 = H at hP hS ⊢
              have hP : va_P (dC, dI) clA (xG ct o q (ql, qs, md, qe, n) y (upd g 20 ms_11) (va_up (va_up a 20 D_12) 30 B_13) ex) H := hP
              have hD : va_D A (xG ct o q (ql, qs, md, qe, n) y (upd g 20 ms_11) (va_up (va_up a 20 D_12) 30 B_13) ex) := hD
              refine lv_iinc (v := (nI (i + 1))) (lv' := [(4, .int (nI (i + 1))), (3, .int (nI (cn (isfV (a 3) (a 4)) (dg n qn pp) pp))), (2, .int (mset (tk (dg n qn pp) pp) n)), (1, .int (nI pp)), (0, .ref o)]) hx hb dX0_matchFrom_100 hl (k := 0) rfl (nI_1 i) (by decide) rfl (fun ls hl => ?_)
              refine lv_goto (tgt := 41) hx hb dX0_matchFrom_103 (by decide) ?_
              exact ih1 (i + 1) ms_11 D_12 B_13 (by omega) (by omega) hM_14 (fun j hj => ((hG_15) j (by omega)).trans ((upd_n _ _ (by omega)).trans (hG1 j hj))) _ _ hP hD hS _ (lv_sub hl [0, 1, 2, 3, 4] rfl)
          · skip
            skip
            refine lv_goto (tgt := 100) hx hb dX0_matchFrom_59 (by decide) ?_
            refine lv_iinc (v := (nI (i + 1))) (lv' := [(4, .int (nI (i + 1))), (3, .int (nI (cn (isfV (a 3) (a 4)) (dg n qn pp) pp))), (2, .int (mset (tk (dg n qn pp) pp) n)), (1, .int (nI pp)), (0, .ref o)]) hx hb dX0_matchFrom_100 hl (k := 0) rfl (nI_1 i) (by decide) rfl (fun ls hl => ?_)
            refine lv_goto (tgt := 41) hx hb dX0_matchFrom_103 (by decide) ?_
            exact ih1 (i + 1) ms D B (by omega) (by omega) (mx_taken hn6 hp2 hlt (by rw [mset_bq _ (by omega) hlt] at c_3; exact c_3) hM1) hG1 _ _ hP hD hS _ (lv_sub hl [0, 1, 2, 3, 4] rfl)
    exact loop1 (n + 1) 0 (g 20) (a 20) (a 30) (by omega) (by omega) (by rw [mlo_eq hp2]; exact hmx) (fun _ _ => rfl) _ _ hP hD hS _ (lv_sub hl [0, 4, 3, 2, 1] rfl)
  · skip
    have hpe : n = pp := ((nI_eq (by omega) (by omega)).mp c_1).symm
    subst hpe
    refine lv_iload_n hx hb dX0_matchFrom_8 rfl (lv_at hl 3 rfl) ?_
    refine lv_aload_n hx hb dX0_matchFrom_9 rfl (lv_at hl 0 rfl) ?_
    refine g_get (v := .int (g 20)) hx hb hts hown hK hP 20 (by decide) rfl q169 rfl dX0_matchFrom_10 ?_
    refine lv_icmp_gt (tgt := 17) hx hb dX0_matchFrom_13 (by decide) (fun c_16 => ?_) (fun c_16 => ?_)
    · skip
      refine lv_aload_n hx hb dX0_matchFrom_17 rfl (lv_at hl 0 rfl) ?_
      refine lv_iload_n hx hb dX0_matchFrom_18 rfl (lv_at hl 3 rfl) ?_
      refine g_put (v := (nI (cn (isfV (a 3) (a 4)) (dg n qn n) n))) hx hb hts hown hK hP hD hS 20 20 (by decide) rfl q169 rfl rfl (by decide +kernel) dX0_matchFrom_19 (fun H locs hP hD hS => ?_)
      refine lv_aload_n hx hb dX0_matchFrom_22 rfl (lv_at hl 0 rfl) ?_
      refine g_get (v := .ref (q 20)) hx hb hts hown hK hP 18 (by decide) rfl q167 rfl dX0_matchFrom_23 ?_
      refine lv_iconst (v := 0) hx hb dX0_matchFrom_26 (by decide) ?_
      refine lv_aload_n hx hb dX0_matchFrom_27 rfl (lv_at hl 0 rfl) ?_
      refine g_get (v := .ref (q 30)) hx hb hts hown hK hP 19 (by decide) rfl q168 rfl dX0_matchFrom_28 ?_
      refine lv_iconst (v := 0) hx hb dX0_matchFrom_31 (by decide) ?_
      refine lv_bipush (v := 6) hx hb dX0_matchFrom_32 (by decide) ?_
      refine va_copyi (sp := 0) (dp := 0) (n := 6) hx hb (hml.trans hl.1.symm) hown (hts _ q789) (hts _ q578) (hts _ q577) (hts _ q90) hK hP hD hS 9 10 0 0 (gWa20 _ _ _ _ _ _ _ _ _ _ _ _) (gWa30 _ _ _ _ _ _ _ _ _ _ _ _) rfl rfl rfl (by decide) (by decide) (by decide) (by decide +kernel) (by decide +kernel) (fun _ _ => rfl) (Nat.le_of_ble_eq_true rfl) (Nat.le_of_ble_eq_true rfl) dX0_matchFrom_34 (fun H locs hP hD hS => ?_)
      rw [(gWs30 _ _ _ _ _ _ _ _ _ _ _ _ _)] at hP hD
      have hv9 : (mbV (a 3) (a 4) n) qn = nI (cn (isfV (a 3) (a 4)) (dg n qn n) n) := mbV_dst hn6 hn0 (fun k9 hk9 => (hpf k9 hk9).2)
      have hm9 : mxP (mbV (a 3) (a 4) n) n qn (g 20) (a 30) := by have h := hmx; rw [Nat.sub_self, Nat.pow_zero, Nat.mul_one] at h; exact h
      exact W.vret hx hb hr (fun t ht hW => ⟨⟨((upd g 20 (nI (cn (isfV (a 3) (a 4)) (dg n qn n) n))), (va_up a 30 (va_cpy (a 20) (a 30) (0 : Int32).toNatClampNeg (0 : Int32).toNatClampNeg (6 : Int32).toNatClampNeg))), rfl, ⟨_, a 20, _, by rw [Nat.sub_self, Nat.pow_zero, Nat.mul_one]; exact mx_gt hm9 (Nat.le_trans hcn hn6) hv9 (Int32.not_le.mpr c_16) (fun j9 hj9 => by rw [cpy6 (by omega)]; exact (hpf j9 hj9).1), fun _ _ => rfl, mf_id2 g a _ _⟩, by rw [ht]; exact hP, va_K.moved hW.alike hK, hD⟩, hS.F ht⟩) hS.2.2 dX0_matchFrom_37
    · skip
      have hv9 : (mbV (a 3) (a 4) n) qn = nI (cn (isfV (a 3) (a 4)) (dg n qn n) n) := mbV_dst hn6 hn0 (fun k9 hk9 => (hpf k9 hk9).2)
      have hm9 : mxP (mbV (a 3) (a 4) n) n qn (g 20) (a 30) := by have h := hmx; rw [Nat.sub_self, Nat.pow_zero, Nat.mul_one] at h; exact h
      exact W.vret hx hb hr (fun t ht hW => ⟨⟨(g, a), rfl, ⟨g 20, a 20, a 30, by rw [Nat.sub_self, Nat.pow_zero, Nat.mul_one]; exact mx_le hm9 (Nat.le_trans hcn hn6) hv9 (Int32.not_lt.mp c_16), fun _ _ => rfl, mf_id g a⟩, by rw [ht]; exact hP, va_K.moved hW.alike hK, hD⟩, hS.F ht⟩) hS.2.2 dX0_matchFrom_16
set_option maxHeartbeats 4000000 in
set_option maxRecDepth 100000 in
theorem metX0_match (l : Launch) (dC : Nat → ClassId) (dI : Nat → Nat → Nat) (ct : Nat → ClassId) (A : Nat → Prop) (ex : va_W) (o : Nat) (q : Nat → Nat) (ql qs : Nat) (md : Int32) (qe n : Nat) (y : Nat → Nat) (g : Nat → Int32) (a : Nat → Nat → Int32) (x : Int32) (hn6 : n ≤ 6) : Met l yX0_match (ws_ yX0_match cX0_match 2 (some .int)) ({ frames := 11, cells := 0, slots := 0, locals := 255 }) (gPre dC dI ct A ex o q (ql, qs, md, qe, n) y g a [.ref o, .int x]) (va_Qi (fun (r : Int32) (u : (Nat → Int32) × (Nat → Nat → Int32)) => r = (M_match n a x) ∧ ∃ (ms : Int32), ∃ (D : Nat → Int32), ∃ (B : Nat → Int32), u = ((upd g 20 ms), (va_up (va_up a 20 D) 30 B))) (gB dC dI ct A ex o q (ql, qs, md, qe, n) y) A) 0 0 A := by
  refine Met.ofW (cc := cX0_match) (maxL := 2) (ret := (some .int)) (by decide) rfl ?_
  intro p e s m args below meth c s₁ B hml hv
  obtain ⟨rfl, hP, hK, hD, hE⟩ := hv
  have hx := B.exec
  have hb := B.bytes
  have hr := B.returns
  have hts := atoms_spec (ws := ws_ yX0_match cX0_match 2 (some .int)) B.pre
  have hts : ∀ w ∈ lw_all, w.before _ s = true := fun w h => hts w (List.mem_cons_of_mem _ h)
  have hown : s.vm.findClass RX0 = some m.cls := findClass_of_methodNamed B.named
  have hlocks := B.notSynchronized
  have hS : va_S A s.heap s.heap [] := va_S.rf
  have hl := lv_entry ([.ref o, .int x]) (n := 2) (Nat.le_of_ble_eq_true rfl)
  rw [lg_entry_eq]
  generalize (lg_sl ([.ref o, .int x]) ++ List.replicate (2 - (lg_sl ([.ref o, .int x])).length) Slot.unset).toArray = ls at hl ⊢
  have hl : lv_has ls 2 [(0, .ref o), (1, .int x)] := hl
  refine lv_iload_n hx hb dX0_match_0 rfl (lv_at hl 1 rfl) ?_
  refine lv_iconst (v := (-1)) hx hb dX0_match_1 (by decide) ?_
  refine lv_icmp_ge (tgt := 7) hx hb dX0_match_2 (by decide) (fun c_1 => ?_) (fun c_1 => ?_)
  · skip
    refine lv_aload_n hx hb dX0_match_7 rfl (lv_at hl 0 rfl) ?_
    refine vp_callSi ((va_runV (As := []) (rest := []) ⟨hx, hb, hml, hown, hts⟩ (metX0_isCounter l dC dI ct A (peW ct o qe n y a ++ ex) o q ql qs md qe n g a  hn6) (cwV 0 hts (lw_V q672 q674 qs15 q69 q675) rfl rfl rfl (by decide +kernel) ⟨Nat.le_of_ble_eq_true rfl, Nat.le_of_ble_eq_true rfl⟩) (xPV hK hP hD hE _) rfl rfl hl.1 rfl (lv_room (Nat.le_of_ble_eq_true rfl)) dX0_match_8 ⟨Nat.zero_le _, Nat.zero_le _⟩)).run (fun r hw => ?_)
    have hw : r = (b2i (!(decide (n = 0)))) := hw
    subst hw
    refine bz_ne (tgt := 17) hx hb dX0_match_11 (by decide) (fun c_2 => ?_) (fun c_2 => ?_)
    · skip
      have hn0 : ¬ n = 0 := by simpa using c_2
      refine lv_aload_n hx hb dX0_match_17 rfl (lv_at hl 0 rfl) ?_
      refine lv_bipush (v := (-9)) hx hb dX0_match_18 (by decide) ?_
      refine g_put (v := (-9)) hx hb hts hown hK hP hD hS 20 20 (by decide) rfl q169 rfl rfl (by decide +kernel) dX0_match_20 (fun H locs hP hD hS => ?_)
      refine lv_aload_n hx hb dX0_match_23 rfl (lv_at hl 0 rfl) ?_
      refine lv_iconst (v := 0) hx hb dX0_match_24 (by decide) ?_
      refine lv_iconst (v := 0) hx hb dX0_match_25 (by decide) ?_
      refine lv_iconst (v := 0) hx hb dX0_match_26 (by decide) ?_
      refine va_callv (va_runV (As := [.int 0, .int 0, .int 0]) (rest := []) ⟨hx, hb, hml, hown, hts⟩ (metX0_matchFrom_6 l dC dI ct A ex o q ql qs md qe n y (upd g 20 (-9)) a 0 0 0 0 0 hn6 (by omega) rfl (mset_F n).symm rfl (by omega) (by omega) (mpf_0 _ _) (Or.inl ⟨rfl, by rw [Nat.zero_mul]; rfl⟩)) (cwV 3 hts (lw_V q785 q787 qs31 q69 q788) rfl rfl rfl (by decide +kernel) ⟨Nat.le_of_ble_eq_true rfl, Nat.le_of_ble_eq_true rfl⟩) (gPV hK hP hD hE _) rfl rfl hl.1 rfl (lv_room (Nat.le_of_ble_eq_true rfl)) dX0_match_27 ⟨Nat.zero_le _, Nat.zero_le _⟩) hS (fun q _ h => h) (fun q h => h) (fun u t H1 locs ht hvm hw hB hz1 hk1 hS => ?_)
      obtain ⟨ms_3, D_4, B_5, hM_6, hG_7, hw⟩ := hw
      subst hw
      obtain ⟨hP, -, hD⟩ := hB
      rw [ht] at hP
      generalize H1 = H at hP hS ⊢
      have hP : va_P (dC, dI) clA (xG ct o q (ql, qs, md, qe, n) y (upd g 20 ms_3) (va_up (va_up a 20 D_4) 30 B_5) ex) H := hP
      have hD : va_D A (xG ct o q (ql, qs, md, qe, n) y (upd g 20 ms_3) (va_up (va_up a 20 D_4) 30 B_5) ex) := hD
      refine lv_iload_n hx hb dX0_match_30 rfl (lv_at hl 1 rfl) ?_
      refine lv_iconst (v := (-1)) hx hb dX0_match_31 (by decide) ?_
      refine lv_icmp_ne (tgt := 42) hx hb dX0_match_32 (by decide) (fun c_8 => ?_) (fun c_8 => ?_)
      · skip
        refine lv_aload_n hx hb dX0_match_42 rfl (lv_at hl 0 rfl) ?_
        refine lv_iload_n hx hb dX0_match_43 rfl (lv_at hl 1 rfl) ?_
        refine vp_callSi ((va_runV (As := [.int x]) (rest := []) ⟨hx, hb, hml, hown, hts⟩ (metX0_isPerson l dC dI ct A (peW ct o qe n y (va_up (va_up a 20 D_4) 30 B_5) ++ ex) o q ql qs md qe n (upd g 20 ms_3) (va_up (va_up a 20 D_4) 30 B_5) x hn6) (cwV 1 hts (lw_V q589 q591 qs13 q69 q592) rfl rfl rfl (by decide +kernel) ⟨Nat.le_of_ble_eq_true rfl, Nat.le_of_ble_eq_true rfl⟩) (xPV hK hP hD hE _) rfl rfl hl.1 rfl (lv_room (Nat.le_of_ble_eq_true rfl)) dX0_match_44 ⟨Nat.zero_le _, Nat.zero_le _⟩)).run (fun r hw => ?_)
        have hw : r = (b2i (inP x n)) := hw
        subst hw
        refine bz_eq (tgt := 59) hx hb dX0_match_47 (by decide) (fun c_9 => ?_) (fun c_9 => ?_)
        · skip
          refine lv_bipush (v := (-9)) hx hb dX0_match_59 (by decide) ?_
          obtain ⟨r9, hr9, hr0⟩ := mb_some (sc := a 3) (wa := a 4) hn6 (by omega : 0 < n)
          have hM9 : mxP (mbV (a 3) (a 4) n) n (n ^ n) ms_3 B_5 := by have h := hM_6; rw [Nat.zero_add, Nat.one_mul, Nat.sub_zero] at h; exact h
          obtain ⟨m1, m2⟩ := mx_pos hM9 hr9 hr0
          exact W.iret (v := (-9)) hx hb hr (fun t ht hW => ⟨⟨(-9), ((upd g 20 ms_3), (va_up (va_up a 20 D_4) 30 B_5)), rfl, ⟨(by rw [M_match, if_pos c_1, if_neg hn0, if_pos (Decidable.byContradiction (fun h0 => c_8 (m1_of c_1 h0))), if_neg (by rw [c_9]; decide)]), ⟨ms_3, D_4, B_5, rfl⟩⟩, by rw [ht]; exact hP, va_K.moved hW.alike hK, hD⟩, hS.F ht⟩) hS.2.2 dX0_match_61
        · skip
          have bp : inP x n = true := c_9
          obtain ⟨ex1, hxn⟩ := inP_e (by omega) bp
          refine lv_aload_n hx hb dX0_match_50 rfl (lv_at hl 0 rfl) ?_
          refine g_get (v := .ref (q 30)) hx hb hts hown hK hP 19 (by decide) rfl q168 rfl dX0_match_51 ?_
          refine lv_iload_n hx hb dX0_match_54 rfl (lv_at hl 1 rfl) ?_
          refine g_ild hx hb hK hP (gWa30 _ _ _ _ _ _ _ _ _ _ _ _) B_5 rfl (cix x) ex1 (by omega) (by decide) dX0_match_55 ?_
          refine lv_goto (tgt := 61) hx hb dX0_match_56 (by decide) ?_
          obtain ⟨r9, hr9, hr0⟩ := mb_some (sc := a 3) (wa := a 4) hn6 (by omega : 0 < n)
          have hM9 : mxP (mbV (a 3) (a 4) n) n (n ^ n) ms_3 B_5 := by have h := hM_6; rw [Nat.zero_add, Nat.one_mul, Nat.sub_zero] at h; exact h
          obtain ⟨m1, m2⟩ := mx_pos hM9 hr9 hr0
          exact W.iret (v := (B_5 (cix x))) hx hb hr (fun t ht hW => ⟨⟨(B_5 (cix x)), ((upd g 20 ms_3), (va_up (va_up a 20 D_4) 30 B_5)), rfl, ⟨(by rw [M_match, if_pos c_1, if_neg hn0, if_pos (show 0 ≤ x by rw [ex1]; exact nI_pos' (by omega)), if_pos bp]; exact m2 _ hxn), ⟨ms_3, D_4, B_5, rfl⟩⟩, by rw [ht]; exact hP, va_K.moved hW.alike hK, hD⟩, hS.F ht⟩) hS.2.2 dX0_match_61
      · skip
        refine lv_aload_n hx hb dX0_match_35 rfl (lv_at hl 0 rfl) ?_
        refine g_get (v := .int ms_3) hx hb hts hown hK hP 20 (by decide) rfl q169 rfl dX0_match_36 ?_
        refine lv_goto (tgt := 61) hx hb dX0_match_39 (by decide) ?_
        obtain ⟨r9, hr9, hr0⟩ := mb_some (sc := a 3) (wa := a 4) hn6 (by omega : 0 < n)
        have hM9 : mxP (mbV (a 3) (a 4) n) n (n ^ n) ms_3 B_5 := by have h := hM_6; rw [Nat.zero_add, Nat.one_mul, Nat.sub_zero] at h; exact h
        obtain ⟨m1, m2⟩ := mx_pos hM9 hr9 hr0
        exact W.iret (v := ms_3) hx hb hr (fun t ht hW => ⟨⟨ms_3, ((upd g 20 ms_3), (va_up (va_up a 20 D_4) 30 B_5)), rfl, ⟨(by rw [M_match, if_pos c_1, if_neg hn0, if_neg (by rw [c_8]; decide)]; exact m1), ⟨ms_3, D_4, B_5, rfl⟩⟩, by rw [ht]; exact hP, va_K.moved hW.alike hK, hD⟩, hS.F ht⟩) hS.2.2 dX0_match_61
    · skip
      refine lv_bipush (v := (-3)) hx hb dX0_match_14 (by decide) ?_
      exact W.iret (v := (-3)) hx hb hr (fun t ht hW => ⟨⟨(-3), (g, a), rfl, ⟨(by rw [M_match, if_pos c_1, if_pos (by simpa using c_2)]), ⟨g 20, a 20, a 30, mf_id g a⟩⟩, by rw [ht]; exact hP, va_K.moved hW.alike hK, hD⟩, hS.F ht⟩) hS.2.2 dX0_match_16
  · skip
    refine lv_iconst (v := (-1)) hx hb dX0_match_5 (by decide) ?_
    exact W.iret (v := (-1)) hx hb hr (fun t ht hW => ⟨⟨(-1), (g, a), rfl, ⟨(by rw [M_match, if_neg c_1]), ⟨g 20, a 20, a 30, mf_id g a⟩⟩, by rw [ht]; exact hP, va_K.moved hW.alike hK, hD⟩, hS.F ht⟩) hS.2.2 dX0_match_6
