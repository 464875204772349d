/-! CHILDHOODS' METHODS -/
set_option maxHeartbeats 4000000 in
set_option maxRecDepth 100000 in
theorem metX3_kind (l : Launch) (dC : Nat → ClassId) (dI : Nat → Nat → Nat) (ct : Nat → ClassId) (A : Nat → Prop) (ex : va_W) (o : Nat) (q : Nat → Nat) (ql qs : Nat) (md : Int32) (qe n : Nat) (y : Nat → Nat) (g : Nat → Int32) (a : Nat → Nat → Int32) (x : Nat) (hxn : x < n)   : Met l yX3_kind (ws_ yX3_kind cX3_kind 1 (some .int)) ({ frames := 0, cells := 0, slots := 0, locals := 0 }) (gPre dC dI ct A ex o q (ql, qs, md, qe, n) y g a [.ref (y x)]) (vp_Si (fun r => r = 0)) 0 0 (fun _ => False) := by
  refine Met.ofW (cc := cX3_kind) (maxL := 1) (ret := (some .int)) (by decide) rfl ?_
  intro p e s m args below meth c s₁ B hml hv
  obtain ⟨rfl, hP, hK, hD, hE⟩ := hv
  have hx := B.exec
  have hb := B.bytes
  have hr := B.returns
  have hts := atoms_spec (ws := ws_ yX3_kind cX3_kind 1 (some .int)) B.pre
  have hts : ∀ w ∈ lw_all, w.before _ s = true := fun w h => hts w (List.mem_cons_of_mem _ h)
  have hown : s.vm.findClass RX3 = some m.cls := findClass_of_methodNamed B.named
  have hlocks := B.notSynchronized
  have hS : va_S A s.heap s.heap [] := va_S.rf
  have hl := lv_entry ([.ref (y x)]) (n := 1) (Nat.le_of_ble_eq_true rfl)
  rw [lg_entry_eq]
  generalize (lg_sl ([.ref (y x)]) ++ List.replicate (1 - (lg_sl ([.ref (y x)])).length) Slot.unset).toArray = ls at hl ⊢
  have hl : lv_has ls 1 [(0, .ref (y x))] := hl
  refine lv_iconst (v := 0) hx hb dX3_kind_0 (by decide) ?_
  exact W.iret (v := 0) hx hb hr (fun t ht hW => ⟨0, rfl, (by first | rfl | (simp []; done)), ht⟩) (fun q h => by cases h) dX3_kind_1
set_option maxHeartbeats 4000000 in
set_option maxRecDepth 100000 in
theorem metX4_kind (l : Launch) (dC : Nat → ClassId) (dI : Nat → Nat → Nat) (ct : Nat → ClassId) (A : Nat → Prop) (ex : va_W) (o : Nat) (q : Nat → Nat) (ql qs : Nat) (md : Int32) (qe n : Nat) (y : Nat → Nat) (g : Nat → Int32) (a : Nat → Nat → Int32) (x : Nat) (hxn : x < n) (hk : kdN (a 2 x) = 1 ∨ kdN (a 2 x) = 2)   : Met l yX4_kind (ws_ yX4_kind cX4_kind 1 (some .int)) ({ frames := 0, cells := 0, slots := 0, locals := 0 }) (gPre dC dI ct A ex o q (ql, qs, md, qe, n) y g a [.ref (y x)]) (vp_Si (fun r => r = 1)) 0 0 (fun _ => False) := by
  refine Met.ofW (cc := cX4_kind) (maxL := 1) (ret := (some .int)) (by decide) rfl ?_
  intro p e s m args below meth c s₁ B hml hv
  obtain ⟨rfl, hP, hK, hD, hE⟩ := hv
  have hx := B.exec
  have hb := B.bytes
  have hr := B.returns
  have hts := atoms_spec (ws := ws_ yX4_kind cX4_kind 1 (some .int)) B.pre
  have hts : ∀ w ∈ lw_all, w.before _ s = true := fun w h => hts w (List.mem_cons_of_mem _ h)
  have hown : s.vm.findClass RX4 = some m.cls := findClass_of_methodNamed B.named
  have hlocks := B.notSynchronized
  have hS : va_S A s.heap s.heap [] := va_S.rf
  have hl := lv_entry ([.ref (y x)]) (n := 1) (Nat.le_of_ble_eq_true rfl)
  rw [lg_entry_eq]
  generalize (lg_sl ([.ref (y x)]) ++ List.replicate (1 - (lg_sl ([.ref (y x)])).length) Slot.unset).toArray = ls at hl ⊢
  have hl : lv_has ls 1 [(0, .ref (y x))] := hl
  refine lv_iconst (v := 1) hx hb dX4_kind_0 (by decide) ?_
  exact W.iret (v := 1) hx hb hr (fun t ht hW => ⟨1, rfl, (by first | rfl | (simp []; done)), ht⟩) (fun q h => by cases h) dX4_kind_1
set_option maxHeartbeats 4000000 in
set_option maxRecDepth 100000 in
theorem metX5_kind (l : Launch) (dC : Nat → ClassId) (dI : Nat → Nat → Nat) (ct : Nat → ClassId) (A : Nat → Prop) (ex : va_W) (o : Nat) (q : Nat → Nat) (ql qs : Nat) (md : Int32) (qe n : Nat) (y : Nat → Nat) (g : Nat → Int32) (a : Nat → Nat → Int32) (x : Nat) (hxn : x < n) (hk : kdN (a 2 x) = 2)   : Met l yX5_kind (ws_ yX5_kind cX5_kind 1 (some .int)) ({ frames := 0, cells := 0, slots := 0, locals := 0 }) (gPre dC dI ct A ex o q (ql, qs, md, qe, n) y g a [.ref (y x)]) (vp_Si (fun r => r = 2)) 0 0 (fun _ => False) := by
  refine Met.ofW (cc := cX5_kind) (maxL := 1) (ret := (some .int)) (by decide) rfl ?_
  intro p e s m args below meth c s₁ B hml hv
  obtain ⟨rfl, hP, hK, hD, hE⟩ := hv
  have hx := B.exec
  have hb := B.bytes
  have hr := B.returns
  have hts := atoms_spec (ws := ws_ yX5_kind cX5_kind 1 (some .int)) B.pre
  have hts : ∀ w ∈ lw_all, w.before _ s = true := fun w h => hts w (List.mem_cons_of_mem _ h)
  have hown : s.vm.findClass RX5 = some m.cls := findClass_of_methodNamed B.named
  have hlocks := B.notSynchronized
  have hS : va_S A s.heap s.heap [] := va_S.rf
  have hl := lv_entry ([.ref (y x)]) (n := 1) (Nat.le_of_ble_eq_true rfl)
  rw [lg_entry_eq]
  generalize (lg_sl ([.ref (y x)]) ++ List.replicate (1 - (lg_sl ([.ref (y x)])).length) Slot.unset).toArray = ls at hl ⊢
  have hl : lv_has ls 1 [(0, .ref (y x))] := hl
  refine lv_iconst (v := 2) hx hb dX5_kind_0 (by decide) ?_
  exact W.iret (v := 2) hx hb hr (fun t ht hW => ⟨2, rfl, (by first | rfl | (simp []; done)), ht⟩) (fun q h => by cases h) dX5_kind_1
set_option maxHeartbeats 4000000 in
set_option maxRecDepth 100000 in
theorem metX3_lasts (l : Launch) (dC : Nat → ClassId) (dI : Nat → Nat → Nat) (ct : Nat → ClassId) (A : Nat → Prop) (ex : va_W) (o : Nat) (q : Nat → Nat) (ql qs : Nat) (md : Int32) (qe n : Nat) (y : Nat → Nat) (g : Nat → Int32) (a : Nat → Nat → Int32) (x : Nat) (hxn : x < n)   : Met l yX3_lasts (ws_ yX3_lasts cX3_lasts 1 (some .int)) ({ frames := 0, cells := 0, slots := 0, locals := 0 }) (gPre dC dI ct A ex o q (ql, qs, md, qe, n) y g a [.ref (y x)]) (vp_Si (fun r => r = ((a 5) x))) 0 0 (fun _ => False) := by
  refine Met.ofW (cc := cX3_lasts) (maxL := 1) (ret := (some .int)) (by decide) rfl ?_
  intro p e s m args below meth c s₁ B hml hv
  obtain ⟨rfl, hP, hK, hD, hE⟩ := hv
  have hx := B.exec
  have hb := B.bytes
  have hr := B.returns
  have hts := atoms_spec (ws := ws_ yX3_lasts cX3_lasts 1 (some .int)) B.pre
  have hts : ∀ w ∈ lw_all, w.before _ s = true := fun w h => hts w (List.mem_cons_of_mem _ h)
  have hown : s.vm.findClass RX3 = some m.cls := findClass_of_methodNamed B.named
  have hlocks := B.notSynchronized
  have hS : va_S A s.heap s.heap [] := va_S.rf
  have hl := lv_entry ([.ref (y x)]) (n := 1) (Nat.le_of_ble_eq_true rfl)
  rw [lg_entry_eq]
  generalize (lg_sl ([.ref (y x)]) ++ List.replicate (1 - (lg_sl ([.ref (y x)])).length) Slot.unset).toArray = ls at hl ⊢
  have hl : lv_has ls 1 [(0, .ref (y x))] := hl
  refine lv_aload_n hx hb dX3_lasts_0 rfl (lv_at hl 0 rfl) ?_
  refine c_get (v := .int ((a 5) x)) hx hb hts hown hK hP hxn 3 (by decide) rfl q463 dX3_lasts_1 ?_
  exact W.iret (v := ((a 5) x)) hx hb hr (fun t ht hW => ⟨((a 5) x), rfl, (by first | rfl | (simp []; done)), ht⟩) (fun q h => by cases h) dX3_lasts_4
set_option maxHeartbeats 4000000 in
set_option maxRecDepth 100000 in
theorem metX4_lasts (l : Launch) (dC : Nat → ClassId) (dI : Nat → Nat → Nat) (ct : Nat → ClassId) (A : Nat → Prop) (ex : va_W) (o : Nat) (q : Nat → Nat) (ql qs : Nat) (md : Int32) (qe n : Nat) (y : Nat → Nat) (g : Nat → Int32) (a : Nat → Nat → Int32) (x : Nat) (hxn : x < n) (hk : kdN (a 2 x) = 1 ∨ kdN (a 2 x) = 2)   : Met l yX4_lasts (ws_ yX4_lasts cX4_lasts 1 (some .int)) ({ frames := 1, cells := 0, slots := 0, locals := 20 }) (gPre dC dI ct A ex o q (ql, qs, md, qe, n) y g a [.ref (y x)]) (vp_Si (fun r => r = (((a 5) x) + 1))) 0 0 (fun _ => False) := by
  refine Met.ofW (cc := cX4_lasts) (maxL := 1) (ret := (some .int)) (by decide) rfl ?_
  intro p e s m args below meth c s₁ B hml hv
  obtain ⟨rfl, hP, hK, hD, hE⟩ := hv
  have hx := B.exec
  have hb := B.bytes
  have hr := B.returns
  have hts := atoms_spec (ws := ws_ yX4_lasts cX4_lasts 1 (some .int)) B.pre
  have hts : ∀ w ∈ lw_all, w.before _ s = true := fun w h => hts w (List.mem_cons_of_mem _ h)
  have hown : s.vm.findClass RX4 = some m.cls := findClass_of_methodNamed B.named
  have hlocks := B.notSynchronized
  have hS : va_S A s.heap s.heap [] := va_S.rf
  have hl := lv_entry ([.ref (y x)]) (n := 1) (Nat.le_of_ble_eq_true rfl)
  rw [lg_entry_eq]
  generalize (lg_sl ([.ref (y x)]) ++ List.replicate (1 - (lg_sl ([.ref (y x)])).length) Slot.unset).toArray = ls at hl ⊢
  have hl : lv_has ls 1 [(0, .ref (y x))] := hl
  refine lv_aload_n hx hb dX4_lasts_0 rfl (lv_at hl 0 rfl) ?_
  refine vp_callSi (post := fun r => r = ((a 5) x)) (a := ([.ref (y x)] : List Value).toArray) (rest := []) (va_Run.run ?_) (fun r hw => ?_)
  · skip
    rcases hk with hk | hk
    · exact va_runSU (As := []) (rest := []) (cAt1 hK) ⟨hx, hb, hml, hown, hts⟩ (metX3_lasts l dC dI ct A ex o q ql qs md qe n y g a x hxn ) (va_cwSU 0 hts (lw_SU q643 q639 q500 q637 q85 q648) rfl rfl rfl (by decide +kernel) ⟨Nat.le_of_ble_eq_true rfl, Nat.le_of_ble_eq_true rfl⟩) (cPV1 (a := a) hxn hk hK hP hD hE _) rfl rfl hl.1 rfl (lv_room (Nat.le_of_ble_eq_true rfl)) dX4_lasts_1 ⟨Nat.zero_le _, Nat.zero_le _⟩
    · exact va_runSU (As := []) (rest := []) (cAt2 hK) ⟨hx, hb, hml, hown, hts⟩ (metX3_lasts l dC dI ct A ex o q ql qs md qe n y g a x hxn ) (va_cwSU 0 hts (lw_SU q643 q639 q500 q637 q85 q648) rfl rfl rfl (by decide +kernel) ⟨Nat.le_of_ble_eq_true rfl, Nat.le_of_ble_eq_true rfl⟩) (cPV2 (a := a) hxn hk hK hP hD hE _) rfl rfl hl.1 rfl (lv_room (Nat.le_of_ble_eq_true rfl)) dX4_lasts_1 ⟨Nat.zero_le _, Nat.zero_le _⟩
  have hw : r = ((a 5) x) := hw
  subst hw
  refine lv_iconst (v := 1) hx hb dX4_lasts_4 (by decide) ?_
  refine lv_iadd hx hb dX4_lasts_5 ?_
  exact W.iret (v := (((a 5) x) + 1)) hx hb hr (fun t ht hW => ⟨(((a 5) x) + 1), rfl, (by first | rfl | (simp []; done)), ht⟩) (fun q h => by cases h) dX4_lasts_6
set_option maxHeartbeats 4000000 in
set_option maxRecDepth 100000 in
theorem metX5_lasts (l : Launch) (dC : Nat → ClassId) (dI : Nat → Nat → Nat) (ct : Nat → ClassId) (A : Nat → Prop) (ex : va_W) (o : Nat) (q : Nat → Nat) (ql qs : Nat) (md : Int32) (qe n : Nat) (y : Nat → Nat) (g : Nat → Int32) (a : Nat → Nat → Int32) (x : Nat) (hxn : x < n) (hk : kdN (a 2 x) = 2)   : Met l yX5_lasts (ws_ yX5_lasts cX5_lasts 1 (some .int)) ({ frames := 2, cells := 0, slots := 0, locals := 40 }) (gPre dC dI ct A ex o q (ql, qs, md, qe, n) y g a [.ref (y x)]) (vp_Si (fun r => r = (2 * (((a 5) x) + 1)))) 0 0 (fun _ => False) := by
  refine Met.ofW (cc := cX5_lasts) (maxL := 1) (ret := (some .int)) (by decide) rfl ?_
  intro p e s m args below meth c s₁ B hml hv
  obtain ⟨rfl, hP, hK, hD, hE⟩ := hv
  have hx := B.exec
  have hb := B.bytes
  have hr := B.returns
  have hts := atoms_spec (ws := ws_ yX5_lasts cX5_lasts 1 (some .int)) B.pre
  have hts : ∀ w ∈ lw_all, w.before _ s = true := fun w h => hts w (List.mem_cons_of_mem _ h)
  have hown : s.vm.findClass RX5 = some m.cls := findClass_of_methodNamed B.named
  have hlocks := B.notSynchronized
  have hS : va_S A s.heap s.heap [] := va_S.rf
  have hl := lv_entry ([.ref (y x)]) (n := 1) (Nat.le_of_ble_eq_true rfl)
  rw [lg_entry_eq]
  generalize (lg_sl ([.ref (y x)]) ++ List.replicate (1 - (lg_sl ([.ref (y x)])).length) Slot.unset).toArray = ls at hl ⊢
  have hl : lv_has ls 1 [(0, .ref (y x))] := hl
  refine lv_iconst (v := 2) hx hb dX5_lasts_0 (by decide) ?_
  refine lv_aload_n hx hb dX5_lasts_1 rfl (lv_at hl 0 rfl) ?_
  refine vp_callSi (post := fun r => r = (((a 5) x) + 1)) (a := ([.ref (y x)] : List Value).toArray) (rest := [.int 2]) (va_Run.run ?_) (fun r hw => ?_)
  · skip
    exact va_runSU (As := []) (rest := [.int 2]) (cAt2 hK) ⟨hx, hb, hml, hown, hts⟩ (metX4_lasts l dC dI ct A ex o q ql qs md qe n y g a x hxn (Or.inr hk)) (va_cwSU 0 hts (lw_SU q647 q1312 q518 q641 q86 q642) rfl rfl rfl (by decide +kernel) ⟨Nat.le_of_ble_eq_true rfl, Nat.le_of_ble_eq_true rfl⟩) (cPV2 (a := a) hxn hk hK hP hD hE _) rfl rfl hl.1 rfl (lv_room (Nat.le_of_ble_eq_true rfl)) dX5_lasts_2 ⟨Nat.zero_le _, Nat.zero_le _⟩
  have hw : r = (((a 5) x) + 1) := hw
  subst hw
  refine lv_imul hx hb dX5_lasts_5 ?_
  exact W.iret (v := (2 * (((a 5) x) + 1))) hx hb hr (fun t ht hW => ⟨(2 * (((a 5) x) + 1)), rfl, (by first | rfl | (simp []; done)), ht⟩) (fun q h => by cases h) dX5_lasts_6
set_option maxHeartbeats 4000000 in
set_option maxRecDepth 100000 in
theorem metX3_lastsNow (l : Launch) (dC : Nat → ClassId) (dI : Nat → Nat → Nat) (ct : Nat → ClassId) (A : Nat → Prop) (ex : va_W) (o : Nat) (q : Nat → Nat) (ql qs : Nat) (md : Int32) (qe n : Nat) (y : Nat → Nat) (g : Nat → Int32) (a : Nat → Nat → Int32) (x : Nat) (hxn : x < n)   : Met l yX3_lastsNow (ws_ yX3_lastsNow cX3_lastsNow 1 (some .int)) ({ frames := 3, cells := 0, slots := 0, locals := 60 }) (gPre dC dI ct A ex o q (ql, qs, md, qe, n) y g a [.ref (y x)]) (vp_Si (fun r => r = ((laX (g 3) (g 4) (a 2) (a 5)) x))) 0 0 (fun _ => False) := by
  refine Met.ofW (cc := cX3_lastsNow) (maxL := 1) (ret := (some .int)) (by decide) rfl ?_
  intro p e s m args below meth c s₁ B hml hv
  obtain ⟨rfl, hP, hK, hD, hE⟩ := hv
  have hx := B.exec
  have hb := B.bytes
  have hr := B.returns
  have hts := atoms_spec (ws := ws_ yX3_lastsNow cX3_lastsNow 1 (some .int)) B.pre
  have hts : ∀ w ∈ lw_all, w.before _ s = true := fun w h => hts w (List.mem_cons_of_mem _ h)
  have hown : s.vm.findClass RX3 = some m.cls := findClass_of_methodNamed B.named
  have hlocks := B.notSynchronized
  have hS : va_S A s.heap s.heap [] := va_S.rf
  have hl := lv_entry ([.ref (y x)]) (n := 1) (Nat.le_of_ble_eq_true rfl)
  rw [lg_entry_eq]
  generalize (lg_sl ([.ref (y x)]) ++ List.replicate (1 - (lg_sl ([.ref (y x)])).length) Slot.unset).toArray = ls at hl ⊢
  have hl : lv_has ls 1 [(0, .ref (y x))] := hl
  refine lv_aload_n hx hb dX3_lastsNow_0 rfl (lv_at hl 0 rfl) ?_
  refine c_get (v := .int (nI x)) hx hb hts hown hK hP hxn 0 (by decide) rfl q457 dX3_lastsNow_1 ?_
  refine lv_aload_n hx hb dX3_lastsNow_4 rfl (lv_at hl 0 rfl) ?_
  refine c_get (v := .ref o) hx hb hts hown hK hP hxn 6 (by decide) rfl q468 dX3_lastsNow_5 ?_
  refine g_getN (v := .int (g 3)) hx hb hts hown hK hP 3 (by decide) rfl (xE_q148 hE) rfl dX3_lastsNow_8 ?_
  refine lv_icmp_ne (tgt := 31) hx hb dX3_lastsNow_11 (by decide) (fun c_1 => ?_) (fun c_1 => ?_)
  · skip
    refine lv_aload_n hx hb dX3_lastsNow_31 rfl (lv_at hl 0 rfl) ?_
    refine vp_callSi (post := fun r => r = (lastsV ((a 2) x) ((a 5) x))) (a := ([.ref (y x)] : List Value).toArray) (rest := []) (va_Run.run ?_) (fun r hw => ?_)
    · skip
      rcases kdN_cases ((a 2) x) with hk | hk | hk
      · rw [lastsV_0 hk]; exact va_runU (As := []) (rest := []) ⟨hx, hb, hml, hown, hts⟩ (metX3_lasts l dC dI ct A ex o q ql qs md qe n y g a x hxn ) (va_cwU 0 hts (lw_U q755 q639 q638 q637 q85 q648) rfl rfl rfl rfl (by decide +kernel) ⟨Nat.le_of_ble_eq_true rfl, Nat.le_of_ble_eq_true rfl⟩) (cPV0 (a := a) hxn hk hK hP hD hE _) rfl rfl hl.1 rfl (lv_room (Nat.le_of_ble_eq_true rfl)) dX3_lastsNow_32 ⟨Nat.zero_le _, Nat.zero_le _⟩
      · rw [lastsV_1 hk]; exact va_runU (As := []) (rest := []) ⟨hx, hb, hml, hown, hts⟩ (metX4_lasts l dC dI ct A ex o q ql qs md qe n y g a x hxn (Or.inl hk)) (va_cwO 0 hts (lw_O q755 q639 q637 q640 q641 q86 q642) rfl rfl rfl q648 (by decide +kernel) ⟨Nat.le_of_ble_eq_true rfl, Nat.le_of_ble_eq_true rfl⟩) (cPV1 (a := a) hxn hk hK hP hD hE _) rfl rfl hl.1 rfl (lv_room (Nat.le_of_ble_eq_true rfl)) dX3_lastsNow_32 ⟨Nat.zero_le _, Nat.zero_le _⟩
      · rw [lastsV_2 hk]; exact va_runU (As := []) (rest := []) ⟨hx, hb, hml, hown, hts⟩ (metX5_lasts l dC dI ct A ex o q ql qs md qe n y g a x hxn hk) (va_cwO 0 hts (lw_O q755 q639 q637 q644 q645 q87 q646) rfl rfl rfl q648 (by decide +kernel) ⟨Nat.le_of_ble_eq_true rfl, Nat.le_of_ble_eq_true rfl⟩) (cPV2 (a := a) hxn hk hK hP hD hE _) rfl rfl hl.1 rfl (lv_room (Nat.le_of_ble_eq_true rfl)) dX3_lastsNow_32 ⟨Nat.zero_le _, Nat.zero_le _⟩
    have hw : r = (lastsV ((a 2) x) ((a 5) x)) := hw
    subst hw
    exact W.iret (v := (lastsV ((a 2) x) ((a 5) x))) hx hb hr (fun t ht hW => ⟨(lastsV ((a 2) x) ((a 5) x)), rfl, (by unfold laX; rw [if_neg c_1]), ht⟩) (fun q h => by cases h) dX3_lastsNow_35
  · skip
    refine lv_aload_n hx hb dX3_lastsNow_14 rfl (lv_at hl 0 rfl) ?_
    refine c_get (v := .int ((a 5) x)) hx hb hts hown hK hP hxn 3 (by decide) rfl q463 dX3_lastsNow_15 ?_
    refine lv_aload_n hx hb dX3_lastsNow_18 rfl (lv_at hl 0 rfl) ?_
    refine c_get (v := .ref o) hx hb hts hown hK hP hxn 6 (by decide) rfl q468 dX3_lastsNow_19 ?_
    refine g_getN (v := .int (g 4)) hx hb hts hown hK hP 4 (by decide) rfl (xE_q149 hE) rfl dX3_lastsNow_22 ?_
    refine vp_callSi (va_Run.run (va_runSN (As := [.int ((a 5) x), .int (g 4)]) (rest := []) ⟨hx, hb, hml, hown, hts⟩ (metX0_asKind l ((a 5) x) (g 4) ) ⟨(va_cnB 2 hts (lw_meth q754) rfl rfl rfl (xE_q752 hE) (hts _ q69) (by decide +kernel) ⟨Nat.le_of_ble_eq_true rfl, Nat.le_of_ble_eq_true rfl⟩), hts _ q753, trivial⟩ (pcS _) rfl rfl hl.1 rfl (lv_room (Nat.le_of_ble_eq_true rfl)) dX3_lastsNow_25 ⟨Nat.zero_le _, Nat.zero_le _⟩)) (fun r hw => ?_)
    have hw : r = (lastsV (g 4) ((a 5) x)) := hw
    subst hw
    refine lv_goto (tgt := 35) hx hb dX3_lastsNow_28 (by decide) ?_
    exact W.iret (v := (lastsV (g 4) ((a 5) x))) hx hb hr (fun t ht hW => ⟨(lastsV (g 4) ((a 5) x)), rfl, (by unfold laX; rw [if_pos c_1]), ht⟩) (fun q h => by cases h) dX3_lastsNow_35
set_option maxHeartbeats 4000000 in
set_option maxRecDepth 100000 in
theorem metX3_begin (l : Launch) (dC : Nat → ClassId) (dI : Nat → Nat → Nat) (ct : Nat → ClassId) (A : Nat → Prop) (ex : va_W) (o : Nat) (q : Nat → Nat) (ql qs : Nat) (md : Int32) (qe n : Nat) (y : Nat → Nat) (g : Nat → Int32) (a : Nat → Nat → Int32) (x : Nat) (hxn : x < n)   : Met l yX3_begin (ws_ yX3_begin cX3_begin 1 none) ({ frames := 0, cells := 0, slots := 0, locals := 0 }) (gPre dC dI ct A ex o q (ql, qs, md, qe, n) y g a [.ref (y x)]) (va_Qv (fun (u : (Nat → Int32) × (Nat → Nat → Int32)) => u = (g, (va_up (va_up a 13 (upd (a 13) x ((a 3) x))) 14 (upd (a 14) x 0)))) (gB dC dI ct A ex o q (ql, qs, md, qe, n) y) A) 0 0 A := by
  refine Met.ofW (cc := cX3_begin) (maxL := 1) (ret := none) (by decide) rfl ?_
  intro p e s m args below meth c s₁ B hml hv
  obtain ⟨rfl, hP, hK, hD, hE⟩ := hv
  have hx := B.exec
  have hb := B.bytes
  have hr := B.returns
  have hts := atoms_spec (ws := ws_ yX3_begin cX3_begin 1 none) B.pre
  have hts : ∀ w ∈ lw_all, w.before _ s = true := fun w h => hts w (List.mem_cons_of_mem _ h)
  have hown : s.vm.findClass RX3 = some m.cls := findClass_of_methodNamed B.named
  have hlocks := B.notSynchronized
  have hS : va_S A s.heap s.heap [] := va_S.rf
  have hl := lv_entry ([.ref (y x)]) (n := 1) (Nat.le_of_ble_eq_true rfl)
  rw [lg_entry_eq]
  generalize (lg_sl ([.ref (y x)]) ++ List.replicate (1 - (lg_sl ([.ref (y x)])).length) Slot.unset).toArray = ls at hl ⊢
  have hl : lv_has ls 1 [(0, .ref (y x))] := hl
  refine lv_aload_n hx hb dX3_begin_0 rfl (lv_at hl 0 rfl) ?_
  refine lv_aload_n hx hb dX3_begin_1 rfl (lv_at hl 0 rfl) ?_
  refine c_get (v := .int ((a 3) x)) hx hb hts hown hK hP hxn 1 (by decide) rfl q459 dX3_begin_2 ?_
  refine c_put (v := ((a 3) x)) hx hb hts hown hK hP hD hS hxn 4 13 (by unfold chK; decide) q465 dX3_begin_5 (fun H locs hP hD hS => ?_)
  have hP : va_P (dC, dI) clA (xG ct o q (ql, qs, md, qe, n) y g (va_up a 13 (upd (a 13) x ((a 3) x))) ex) H := hP
  have hD : va_D A (xG ct o q (ql, qs, md, qe, n) y g (va_up a 13 (upd (a 13) x ((a 3) x))) ex) := hD
  refine lv_aload_n hx hb dX3_begin_8 rfl (lv_at hl 0 rfl) ?_
  refine lv_iconst (v := 0) hx hb dX3_begin_9 (by decide) ?_
  refine c_put (v := 0) hx hb hts hown hK hP hD hS hxn 5 14 (by unfold chK; decide) q467 dX3_begin_10 (fun H locs hP hD hS => ?_)
  have hP : va_P (dC, dI) clA (xG ct o q (ql, qs, md, qe, n) y g (va_up (va_up a 13 (upd (a 13) x ((a 3) x))) 14 (upd (a 14) x 0)) ex) H := hP
  have hD : va_D A (xG ct o q (ql, qs, md, qe, n) y g (va_up (va_up a 13 (upd (a 13) x ((a 3) x))) 14 (upd (a 14) x 0)) ex) := hD
  exact W.vret hx hb hr (fun t ht hW => ⟨⟨(g, (va_up (va_up a 13 (upd (a 13) x ((a 3) x))) 14 (upd (a 14) x 0))), rfl, rfl, by rw [ht]; exact hP, va_K.moved hW.alike hK, hD⟩, hS.F ht⟩) hS.2.2 dX3_begin_13
set_option maxHeartbeats 4000000 in
set_option maxRecDepth 100000 in
theorem metX3_lend (l : Launch) (dC : Nat → ClassId) (dI : Nat → Nat → Nat) (ct : Nat → ClassId) (A : Nat → Prop) (ex : va_W) (o : Nat) (q : Nat → Nat) (ql qs : Nat) (md : Int32) (qe n : Nat) (y : Nat → Nat) (g : Nat → Int32) (a : Nat → Nat → Int32) (x : Nat) (hxn : x < n)   : Met l yX3_lend (ws_ yX3_lend cX3_lend 1 none) ({ frames := 4, cells := 0, slots := 0, locals := 80 }) (gPre dC dI ct A ex o q (ql, qs, md, qe, n) y g a [.ref (y x)]) (va_Qv (fun (u : (Nat → Int32) × (Nat → Nat → Int32)) => u = (g, (va_up (va_up a 13 ((lwear (laX (g 3) (g 4) (a 2) (a 5)) x ((a 12), (a 13), (a 14), (a 15), (a 16))).2.1)) 14 ((lwear (laX (g 3) (g 4) (a 2) (a 5)) x ((a 12), (a 13), (a 14), (a 15), (a 16))).2.2.1)))) (gB dC dI ct A ex o q (ql, qs, md, qe, n) y) A) 0 0 A := by
  refine Met.ofW (cc := cX3_lend) (maxL := 1) (ret := none) (by decide) rfl ?_
  intro p e s m args below meth c s₁ B hml hv
  obtain ⟨rfl, hP, hK, hD, hE⟩ := hv
  have hx := B.exec
  have hb := B.bytes
  have hr := B.returns
  have hts := atoms_spec (ws := ws_ yX3_lend cX3_lend 1 none) B.pre
  have hts : ∀ w ∈ lw_all, w.before _ s = true := fun w h => hts w (List.mem_cons_of_mem _ h)
  have hown : s.vm.findClass RX3 = some m.cls := findClass_of_methodNamed B.named
  have hlocks := B.notSynchronized
  have hS : va_S A s.heap s.heap [] := va_S.rf
  have hl := lv_entry ([.ref (y x)]) (n := 1) (Nat.le_of_ble_eq_true rfl)
  rw [lg_entry_eq]
  generalize (lg_sl ([.ref (y x)]) ++ List.replicate (1 - (lg_sl ([.ref (y x)])).length) Slot.unset).toArray = ls at hl ⊢
  have hl : lv_has ls 1 [(0, .ref (y x))] := hl
  refine lv_aload_n hx hb dX3_lend_0 rfl (lv_at hl 0 rfl) ?_
  refine lv_dup hx hb dX3_lend_1 rfl ?_
  refine c_get (v := .int ((a 14) x)) hx hb hts hown hK hP hxn 5 (by decide) rfl q467 dX3_lend_2 ?_
  refine lv_iconst (v := 1) hx hb dX3_lend_5 (by decide) ?_
  refine lv_iadd hx hb dX3_lend_6 ?_
  refine c_put (v := (((a 14) x) + 1)) hx hb hts hown hK hP hD hS hxn 5 14 (by unfold chK; decide) q467 dX3_lend_7 (fun H locs hP hD hS => ?_)
  have hP : va_P (dC, dI) clA (xG ct o q (ql, qs, md, qe, n) y g (va_up a 14 (upd (a 14) x (((a 14) x) + 1))) ex) H := hP
  have hD : va_D A (xG ct o q (ql, qs, md, qe, n) y g (va_up a 14 (upd (a 14) x (((a 14) x) + 1))) ex) := hD
  refine lv_aload_n hx hb dX3_lend_10 rfl (lv_at hl 0 rfl) ?_
  refine c_get (v := .int ((upd (a 14) x (((a 14) x) + 1)) x)) hx hb hts hown hK hP hxn 5 (by decide) rfl q467 dX3_lend_11 ?_
  refine lv_aload_n hx hb dX3_lend_14 rfl (lv_at hl 0 rfl) ?_
  refine vp_callSi (post := fun r => r = ((laX (g 3) (g 4) ((va_up a 14 (upd (a 14) x (((a 14) x) + 1))) 2) ((va_up a 14 (upd (a 14) x (((a 14) x) + 1))) 5)) x)) (a := ([.ref (y x)] : List Value).toArray) (rest := [.int ((upd (a 14) x (((a 14) x) + 1)) x)]) (va_Run.run ?_) (fun r hw => ?_)
  · skip
    rcases kdN_cases ((a 2) x) with hk | hk | hk
    · exact va_runU (As := []) (rest := [.int ((upd (a 14) x (((a 14) x) + 1)) x)]) ⟨hx, hb, hml, hown, hts⟩ (metX3_lastsNow l dC dI ct A ex o q ql qs md qe n y g (va_up a 14 (upd (a 14) x (((a 14) x) + 1))) x hxn ) (va_cwU 0 hts (lw_U q745 q748 q747 q746 q85 q751) rfl rfl rfl rfl (by decide +kernel) ⟨Nat.le_of_ble_eq_true rfl, Nat.le_of_ble_eq_true rfl⟩) (cPV0 (a := (va_up a 14 (upd (a 14) x (((a 14) x) + 1)))) hxn hk hK hP hD hE _) rfl rfl hl.1 rfl (lv_room (Nat.le_of_ble_eq_true rfl)) dX3_lend_15 ⟨Nat.zero_le _, Nat.zero_le _⟩
    · exact va_runU (As := []) (rest := [.int ((upd (a 14) x (((a 14) x) + 1)) x)]) ⟨hx, hb, hml, hown, hts⟩ (metX3_lastsNow l dC dI ct A ex o q ql qs md qe n y g (va_up a 14 (upd (a 14) x (((a 14) x) + 1))) x hxn ) (va_cwU 0 hts (lw_U q745 q748 q749 q746 q85 q751) rfl rfl rfl rfl (by decide +kernel) ⟨Nat.le_of_ble_eq_true rfl, Nat.le_of_ble_eq_true rfl⟩) (cPV1 (a := (va_up a 14 (upd (a 14) x (((a 14) x) + 1)))) hxn hk hK hP hD hE _) rfl rfl hl.1 rfl (lv_room (Nat.le_of_ble_eq_true rfl)) dX3_lend_15 ⟨Nat.zero_le _, Nat.zero_le _⟩
    · exact va_runU (As := []) (rest := [.int ((upd (a 14) x (((a 14) x) + 1)) x)]) ⟨hx, hb, hml, hown, hts⟩ (metX3_lastsNow l dC dI ct A ex o q ql qs md qe n y g (va_up a 14 (upd (a 14) x (((a 14) x) + 1))) x hxn ) (va_cwU 0 hts (lw_U q745 q748 q750 q746 q85 q751) rfl rfl rfl rfl (by decide +kernel) ⟨Nat.le_of_ble_eq_true rfl, Nat.le_of_ble_eq_true rfl⟩) (cPV2 (a := (va_up a 14 (upd (a 14) x (((a 14) x) + 1)))) hxn hk hK hP hD hE _) rfl rfl hl.1 rfl (lv_room (Nat.le_of_ble_eq_true rfl)) dX3_lend_15 ⟨Nat.zero_le _, Nat.zero_le _⟩
  have hw : r = ((laX (g 3) (g 4) (a 2) (a 5)) x) := hw
  subst hw
  refine lv_icmp_le (tgt := 36) hx hb dX3_lend_18 (by decide) (fun c_1 => ?_) (fun c_1 => ?_)
  · skip
    rw [upd_s] at c_1
    have c_1 : a 14 x + 1 ≤ laX (g 3) (g 4) (a 2) (a 5) x := c_1
    exact W.vret hx hb hr (fun t ht hW => ⟨⟨(g, (va_up a 14 (upd (a 14) x (((a 14) x) + 1)))), rfl, (by simp only [lwear]; rw [if_pos c_1, va_up_id]), by rw [ht]; exact hP, va_K.moved hW.alike hK, hD⟩, hS.F ht⟩) hS.2.2 dX3_lend_36
  · skip
    rw [upd_s] at c_1
    have c_1 : ¬ (a 14 x + 1 ≤ laX (g 3) (g 4) (a 2) (a 5) x) := c_1
    refine lv_aload_n hx hb dX3_lend_21 rfl (lv_at hl 0 rfl) ?_
    refine lv_dup hx hb dX3_lend_22 rfl ?_
    refine c_get (v := .int ((a 13) x)) hx hb hts hown hK hP hxn 4 (by decide) rfl q465 dX3_lend_23 ?_
    refine lv_aload_n hx hb dX3_lend_26 rfl (lv_at hl 0 rfl) ?_
    refine c_get (v := .int ((a 13) x)) hx hb hts hown hK hP hxn 4 (by decide) rfl q465 dX3_lend_27 ?_
    refine lv_iconst (v := 1) hx hb dX3_lend_30 (by decide) ?_
    refine lv_isub hx hb dX3_lend_31 ?_
    refine lv_iand hx hb dX3_lend_32 ?_
    refine c_put (v := (((a 13) x) &&& (((a 13) x) - 1))) hx hb hts hown hK hP hD hS hxn 4 13 (by unfold chK; decide) q465 dX3_lend_33 (fun H locs hP hD hS => ?_)
    have hP : va_P (dC, dI) clA (xG ct o q (ql, qs, md, qe, n) y g (va_up (va_up a 14 (upd (a 14) x (((a 14) x) + 1))) 13 (upd (a 13) x (((a 13) x) &&& (((a 13) x) - 1)))) ex) H := hP
    have hD : va_D A (xG ct o q (ql, qs, md, qe, n) y g (va_up (va_up a 14 (upd (a 14) x (((a 14) x) + 1))) 13 (upd (a 13) x (((a 13) x) &&& (((a 13) x) - 1)))) ex) := hD
    have eW_2 : ∀  (za14 : Nat → Int32) (zn : Nat → Int32), xG ct o q (ql, qs, md, qe, n) y g (va_up (va_up a 14 za14) 13 zn) ex = xG ct o q (ql, qs, md, qe, n) y g (va_up (va_up a 13 zn) 14 za14) ex := fun _ _ => rfl
    have hP : va_P (dC, dI) clA (xG ct o q (ql, qs, md, qe, n) y g (va_up (va_up a 13 (upd (a 13) x (((a 13) x) &&& (((a 13) x) - 1)))) 14 (upd (a 14) x (((a 14) x) + 1))) ex) H := Eq.mp (congrArg (fun w => va_P (dC, dI) clA w H) (eW_2 (upd (a 14) x (((a 14) x) + 1)) (upd (a 13) x (((a 13) x) &&& (((a 13) x) - 1))))) hP
    have hD : va_D A (xG ct o q (ql, qs, md, qe, n) y g (va_up (va_up a 13 (upd (a 13) x (((a 13) x) &&& (((a 13) x) - 1)))) 14 (upd (a 14) x (((a 14) x) + 1))) ex) := Eq.mp (congrArg (fun w => va_D A w) (eW_2 (upd (a 14) x (((a 14) x) + 1)) (upd (a 13) x (((a 13) x) &&& (((a 13) x) - 1))))) hD
    exact W.vret hx hb hr (fun t ht hW => ⟨⟨(g, (va_up (va_up a 13 (upd (a 13) x (((a 13) x) &&& (((a 13) x) - 1)))) 14 (upd (a 14) x (((a 14) x) + 1)))), rfl, (by simp only [lwear]; rw [if_neg c_1]), by rw [ht]; exact hP, va_K.moved hW.alike hK, hD⟩, hS.F ht⟩) hS.2.2 dX3_lend_36
set_option maxHeartbeats 4000000 in
set_option maxRecDepth 100000 in
theorem metX3_plain (l : Launch) (dC : Nat → ClassId) (dI : Nat → Nat → Nat) (ct : Nat → ClassId) (A : Nat → Prop) (ex : va_W) (o : Nat) (q : Nat → Nat) (ql qs : Nat) (md : Int32) (qe n : Nat) (y : Nat → Nat) (g : Nat → Int32) (a : Nat → Nat → Int32) (x : Nat) (hxn : x < n)   : Met l yX3_plain (ws_ yX3_plain cX3_plain 1 (some .int)) ({ frames := 1, cells := 0, slots := 0, locals := 21 }) (gPre dC dI ct A ex o q (ql, qs, md, qe, n) y g a [.ref (y x)]) (va_Qi (fun (r : Int32) (u : (Nat → Int32) × (Nat → Nat → Int32)) => r = ((a 5) x) ∧ u = ((upd g 29 (31 * (g 29) + 1)), a)) (gB dC dI ct A ex o q (ql, qs, md, qe, n) y) A) 0 0 A := by
  refine Met.ofW (cc := cX3_plain) (maxL := 1) (ret := (some .int)) (by decide) rfl ?_
  intro p e s m args below meth c s₁ B hml hv
  obtain ⟨rfl, hP, hK, hD, hE⟩ := hv
  have hx := B.exec
  have hb := B.bytes
  have hr := B.returns
  have hts := atoms_spec (ws := ws_ yX3_plain cX3_plain 1 (some .int)) B.pre
  have hts : ∀ w ∈ lw_all, w.before _ s = true := fun w h => hts w (List.mem_cons_of_mem _ h)
  have hown : s.vm.findClass RX3 = some m.cls := findClass_of_methodNamed B.named
  have hlocks := B.notSynchronized
  have hS : va_S A s.heap s.heap [] := va_S.rf
  have hl := lv_entry ([.ref (y x)]) (n := 1) (Nat.le_of_ble_eq_true rfl)
  rw [lg_entry_eq]
  generalize (lg_sl ([.ref (y x)]) ++ List.replicate (1 - (lg_sl ([.ref (y x)])).length) Slot.unset).toArray = ls at hl ⊢
  have hl : lv_has ls 1 [(0, .ref (y x))] := hl
  refine lv_aload_n hx hb dX3_plain_0 rfl (lv_at hl 0 rfl) ?_
  refine c_get (v := .ref o) hx hb hts hown hK hP hxn 6 (by decide) rfl q468 dX3_plain_1 ?_
  refine lv_iconst (v := 1) hx hb dX3_plain_4 (by decide) ?_
  refine va_callv (va_runVN (As := [.int 1]) (rest := []) ⟨hx, hb, hml, hown, hts⟩ (metX0_begins l dC dI ct A (peW ct o qe n y a ++ ex) o q ql qs md qe n g a 1 ) ⟨(va_cnB 1 hts (lw_meth q905) rfl rfl rfl (xE_q918 hE) (hts _ q69) (by decide +kernel) ⟨Nat.le_of_ble_eq_true rfl, Nat.le_of_ble_eq_true rfl⟩), hts _ q904, hts _ qs40⟩ (xPV hK hP hD hE _) rfl rfl hl.1 rfl (lv_room (Nat.le_of_ble_eq_true rfl)) dX3_plain_5 ⟨Nat.zero_le _, Nat.zero_le _⟩) hS (fun q _ h => h) (fun q h => h) (fun u t H1 locs ht hvm hw hB hz1 hk1 hS => ?_)
  subst hw
  obtain ⟨hP, -, hD⟩ := hB
  rw [ht] at hP
  generalize H1 = H at hP hS ⊢
  have hP : va_P (dC, dI) clA (xG ct o q (ql, qs, md, qe, n) y (upd g 29 (31 * (g 29) + 1)) a ex) H := hP
  have hD : va_D A (xG ct o q (ql, qs, md, qe, n) y (upd g 29 (31 * (g 29) + 1)) a ex) := hD
  refine lv_aload_n hx hb dX3_plain_8 rfl (lv_at hl 0 rfl) ?_
  refine c_get (v := .int ((a 5) x)) hx hb hts hown hK hP hxn 3 (by decide) rfl q463 dX3_plain_9 ?_
  exact W.iret (v := ((a 5) x)) hx hb hr (fun t ht hW => ⟨⟨((a 5) x), ((upd g 29 (31 * (g 29) + 1)), a), rfl, ⟨(by first | rfl | (simp []; done)), rfl⟩, by rw [ht]; exact hP, va_K.moved hW.alike hK, hD⟩, hS.F ht⟩) hS.2.2 dX3_plain_12
set_option maxHeartbeats 4000000 in
set_option maxRecDepth 100000 in
theorem metX3_tell (l : Launch) (dC : Nat → ClassId) (dI : Nat → Nat → Nat) (ct : Nat → ClassId) (A : Nat → Prop) (ex : va_W) (o : Nat) (q : Nat → Nat) (ql qs : Nat) (md : Int32) (qe n : Nat) (y : Nat → Nat) (g : Nat → Int32) (a : Nat → Nat → Int32) (x : Nat) (hxn : x < n)   : Met l yX3_tell (ws_ yX3_tell cX3_tell 1 (some .int)) ({ frames := 2, cells := 0, slots := 0, locals := 41 }) (gPre dC dI ct A ex o q (ql, qs, md, qe, n) y g a [.ref (y x)]) (va_Qi (fun (r : Int32) (u : (Nat → Int32) × (Nat → Nat → Int32)) => r = ((a 5) x) ∧ u = ((upd g 29 (31 * (g 29) + 1)), a)) (gB dC dI ct A ex o q (ql, qs, md, qe, n) y) A) 0 0 A := by
  refine Met.ofW (cc := cX3_tell) (maxL := 1) (ret := (some .int)) (by decide) rfl ?_
  intro p e s m args below meth c s₁ B hml hv
  obtain ⟨rfl, hP, hK, hD, hE⟩ := hv
  have hx := B.exec
  have hb := B.bytes
  have hr := B.returns
  have hts := atoms_spec (ws := ws_ yX3_tell cX3_tell 1 (some .int)) B.pre
  have hts : ∀ w ∈ lw_all, w.before _ s = true := fun w h => hts w (List.mem_cons_of_mem _ h)
  have hown : s.vm.findClass RX3 = some m.cls := findClass_of_methodNamed B.named
  have hlocks := B.notSynchronized
  have hS : va_S A s.heap s.heap [] := va_S.rf
  have hl := lv_entry ([.ref (y x)]) (n := 1) (Nat.le_of_ble_eq_true rfl)
  rw [lg_entry_eq]
  generalize (lg_sl ([.ref (y x)]) ++ List.replicate (1 - (lg_sl ([.ref (y x)])).length) Slot.unset).toArray = ls at hl ⊢
  have hl : lv_has ls 1 [(0, .ref (y x))] := hl
  refine lv_aload_n hx hb dX3_tell_0 rfl (lv_at hl 0 rfl) ?_
  refine va_calli (post := fun (r : Int32) (u : MS) => r = ((a 5) x) ∧ u = ((upd g 29 (31 * (g 29) + 1)), a)) (B := gB dC dI ct A ex o q (ql, qs, md, qe, n) y) (A1 := A) (mc := 0) (ms := 0) (free := A) (a := ([.ref (y x)] : List Value).toArray) (rest := []) ?_ hS (fun q _ h => h) (fun q h => h) (fun r u t H1 locs ht hvm hw hB hz1 hk1 hS => ?_)
  · skip
    rcases kdN_cases ((a 2) x) with hk | hk | hk
    · exact va_runU (As := []) (rest := []) ⟨hx, hb, hml, hown, hts⟩ (metX3_plain l dC dI ct A ex o q ql qs md qe n y g a x hxn ) (va_cwU 0 hts (lw_U q920 q1314 q1315 q916 q85 q917) rfl rfl rfl rfl (by decide +kernel) ⟨Nat.le_of_ble_eq_true rfl, Nat.le_of_ble_eq_true rfl⟩) (cPV0 (a := a) hxn hk hK hP hD hE _) rfl rfl hl.1 rfl (lv_room (Nat.le_of_ble_eq_true rfl)) dX3_tell_1 ⟨Nat.zero_le _, Nat.zero_le _⟩
    · exact va_runU (As := []) (rest := []) ⟨hx, hb, hml, hown, hts⟩ (metX3_plain l dC dI ct A ex o q ql qs md qe n y g a x hxn ) (va_cwU 0 hts (lw_U q920 q1314 q1316 q916 q85 q917) rfl rfl rfl rfl (by decide +kernel) ⟨Nat.le_of_ble_eq_true rfl, Nat.le_of_ble_eq_true rfl⟩) (cPV1 (a := a) hxn hk hK hP hD hE _) rfl rfl hl.1 rfl (lv_room (Nat.le_of_ble_eq_true rfl)) dX3_tell_1 ⟨Nat.zero_le _, Nat.zero_le _⟩
    · exact va_runU (As := []) (rest := []) ⟨hx, hb, hml, hown, hts⟩ (metX3_plain l dC dI ct A ex o q ql qs md qe n y g a x hxn ) (va_cwU 0 hts (lw_U q920 q1314 q1317 q916 q85 q917) rfl rfl rfl rfl (by decide +kernel) ⟨Nat.le_of_ble_eq_true rfl, Nat.le_of_ble_eq_true rfl⟩) (cPV2 (a := a) hxn hk hK hP hD hE _) rfl rfl hl.1 rfl (lv_room (Nat.le_of_ble_eq_true rfl)) dX3_tell_1 ⟨Nat.zero_le _, Nat.zero_le _⟩
  obtain ⟨hw, hw2⟩ := hw
  have hw : r = ((a 5) x) := hw
  subst hw
  subst hw2
  obtain ⟨hP, -, hD⟩ := hB
  rw [ht] at hP
  generalize H1 = H at hP hS ⊢
  have hP : va_P (dC, dI) clA (xG ct o q (ql, qs, md, qe, n) y (upd g 29 (31 * (g 29) + 1)) a ex) H := hP
  have hD : va_D A (xG ct o q (ql, qs, md, qe, n) y (upd g 29 (31 * (g 29) + 1)) a ex) := hD
  exact W.iret (v := ((a 5) x)) hx hb hr (fun t ht hW => ⟨⟨((a 5) x), ((upd g 29 (31 * (g 29) + 1)), a), rfl, ⟨(by first | rfl | (simp []; done)), rfl⟩, by rw [ht]; exact hP, va_K.moved hW.alike hK, hD⟩, hS.F ht⟩) hS.2.2 dX3_tell_4
set_option maxHeartbeats 4000000 in
set_option maxRecDepth 100000 in
theorem metX4_tell (l : Launch) (dC : Nat → ClassId) (dI : Nat → Nat → Nat) (ct : Nat → ClassId) (A : Nat → Prop) (ex : va_W) (o : Nat) (q : Nat → Nat) (ql qs : Nat) (md : Int32) (qe n : Nat) (y : Nat → Nat) (g : Nat → Int32) (a : Nat → Nat → Int32) (x : Nat) (hxn : x < n) (hk : kdN (a 2 x) = 1 ∨ kdN (a 2 x) = 2)   : Met l yX4_tell (ws_ yX4_tell cX4_tell 1 (some .int)) ({ frames := 3, cells := 0, slots := 0, locals := 61 }) (gPre dC dI ct A ex o q (ql, qs, md, qe, n) y g a [.ref (y x)]) (va_Qi (fun (r : Int32) (u : (Nat → Int32) × (Nat → Nat → Int32)) => r = (((a 5) x) + 100) ∧ u = ((upd g 29 (31 * (31 * (g 29) + 2) + 1)), a)) (gB dC dI ct A ex o q (ql, qs, md, qe, n) y) A) 0 0 A := by
  refine Met.ofW (cc := cX4_tell) (maxL := 1) (ret := (some .int)) (by decide) rfl ?_
  intro p e s m args below meth c s₁ B hml hv
  obtain ⟨rfl, hP, hK, hD, hE⟩ := hv
  have hx := B.exec
  have hb := B.bytes
  have hr := B.returns
  have hts := atoms_spec (ws := ws_ yX4_tell cX4_tell 1 (some .int)) B.pre
  have hts : ∀ w ∈ lw_all, w.before _ s = true := fun w h => hts w (List.mem_cons_of_mem _ h)
  have hown : s.vm.findClass RX4 = some m.cls := findClass_of_methodNamed B.named
  have hlocks := B.notSynchronized
  have hS : va_S A s.heap s.heap [] := va_S.rf
  have hl := lv_entry ([.ref (y x)]) (n := 1) (Nat.le_of_ble_eq_true rfl)
  rw [lg_entry_eq]
  generalize (lg_sl ([.ref (y x)]) ++ List.replicate (1 - (lg_sl ([.ref (y x)])).length) Slot.unset).toArray = ls at hl ⊢
  have hl : lv_has ls 1 [(0, .ref (y x))] := hl
  refine lv_aload_n hx hb dX4_tell_0 rfl (lv_at hl 0 rfl) ?_
  refine c_sad hx hb hts hown hK hP hxn hk q490 dX4_tell_1 ?_
  refine lv_iconst (v := 2) hx hb dX4_tell_4 (by decide) ?_
  refine va_callv (va_runVN (As := [.int 2]) (rest := []) ⟨hx, hb, hml, hown, hts⟩ (metX0_begins l dC dI ct A (peW ct o qe n y a ++ ex) o q ql qs md qe n g a 2 ) ⟨(va_cnB 1 hts (lw_meth q905) rfl rfl rfl (xE_q902 hE) (hts _ q69) (by decide +kernel) ⟨Nat.le_of_ble_eq_true rfl, Nat.le_of_ble_eq_true rfl⟩), hts _ q904, hts _ qs40⟩ (xPV hK hP hD hE _) rfl rfl hl.1 rfl (lv_room (Nat.le_of_ble_eq_true rfl)) dX4_tell_5 ⟨Nat.zero_le _, Nat.zero_le _⟩) hS (fun q _ h => h) (fun q h => h) (fun u t H1 locs ht hvm hw hB hz1 hk1 hS => ?_)
  subst hw
  obtain ⟨hP, -, hD⟩ := hB
  rw [ht] at hP
  generalize H1 = H at hP hS ⊢
  have hP : va_P (dC, dI) clA (xG ct o q (ql, qs, md, qe, n) y (upd g 29 (31 * (g 29) + 2)) a ex) H := hP
  have hD : va_D A (xG ct o q (ql, qs, md, qe, n) y (upd g 29 (31 * (g 29) + 2)) a ex) := hD
  refine lv_aload_n hx hb dX4_tell_8 rfl (lv_at hl 0 rfl) ?_
  refine va_calli (post := fun (r : Int32) (u : MS) => r = ((a 5) x) ∧ u = ((upd (upd g 29 (31 * (g 29) + 2)) 29 (31 * ((upd g 29 (31 * (g 29) + 2)) 29) + 1)), a)) (B := gB dC dI ct A ex o q (ql, qs, md, qe, n) y) (A1 := A) (mc := 0) (ms := 0) (free := A) (a := ([.ref (y x)] : List Value).toArray) (rest := []) ?_ hS (fun q _ h => h) (fun q h => h) (fun r u t H1 locs ht hvm hw hB hz1 hk1 hS => ?_)
  · skip
    rcases hk with hk | hk
    · exact va_runSU (As := []) (rest := []) (cAt1 hK) ⟨hx, hb, hml, hown, hts⟩ (metX3_tell l dC dI ct A ex o q ql qs md qe n y (upd g 29 (31 * (g 29) + 2)) a x hxn ) (va_cwSU 0 hts (lw_SU q906 q898 q500 q896 q85 q919) rfl rfl rfl (by decide +kernel) ⟨Nat.le_of_ble_eq_true rfl, Nat.le_of_ble_eq_true rfl⟩) (cPV1 (a := a) hxn hk hK hP hD hE _) rfl rfl hl.1 rfl (lv_room (Nat.le_of_ble_eq_true rfl)) dX4_tell_9 ⟨Nat.zero_le _, Nat.zero_le _⟩
    · exact va_runSU (As := []) (rest := []) (cAt2 hK) ⟨hx, hb, hml, hown, hts⟩ (metX3_tell l dC dI ct A ex o q ql qs md qe n y (upd g 29 (31 * (g 29) + 2)) a x hxn ) (va_cwSU 0 hts (lw_SU q906 q898 q500 q896 q85 q919) rfl rfl rfl (by decide +kernel) ⟨Nat.le_of_ble_eq_true rfl, Nat.le_of_ble_eq_true rfl⟩) (cPV2 (a := a) hxn hk hK hP hD hE _) rfl rfl hl.1 rfl (lv_room (Nat.le_of_ble_eq_true rfl)) dX4_tell_9 ⟨Nat.zero_le _, Nat.zero_le _⟩
  obtain ⟨hw, hw2⟩ := hw
  have hw : r = ((a 5) x) := hw
  subst hw
  subst hw2
  obtain ⟨hP, -, hD⟩ := hB
  rw [ht] at hP
  generalize H1 = H at hP hS ⊢
  have hP : va_P (dC, dI) clA (xG ct o q (ql, qs, md, qe, n) y (upd g 29 (31 * (31 * (g 29) + 2) + 1)) a ex) H := hP
  have hD : va_D A (xG ct o q (ql, qs, md, qe, n) y (upd g 29 (31 * (31 * (g 29) + 2) + 1)) a ex) := hD
  refine lv_bipush (v := 100) hx hb dX4_tell_12 (by decide) ?_
  refine lv_iadd hx hb dX4_tell_14 ?_
  exact W.iret (v := (((a 5) x) + 100)) hx hb hr (fun t ht hW => ⟨⟨(((a 5) x) + 100), ((upd g 29 (31 * (31 * (g 29) + 2) + 1)), a), rfl, ⟨(by first | rfl | (simp []; done)), rfl⟩, by rw [ht]; exact hP, va_K.moved hW.alike hK, hD⟩, hS.F ht⟩) hS.2.2 dX4_tell_15
set_option maxHeartbeats 4000000 in
set_option maxRecDepth 100000 in
theorem metX5_tell (l : Launch) (dC : Nat → ClassId) (dI : Nat → Nat → Nat) (ct : Nat → ClassId) (A : Nat → Prop) (ex : va_W) (o : Nat) (q : Nat → Nat) (ql qs : Nat) (md : Int32) (qe n : Nat) (y : Nat → Nat) (g : Nat → Int32) (a : Nat → Nat → Int32) (x : Nat) (hxn : x < n) (hk : kdN (a 2 x) = 2)   : Met l yX5_tell (ws_ yX5_tell cX5_tell 1 (some .int)) ({ frames := 4, cells := 0, slots := 0, locals := 81 }) (gPre dC dI ct A ex o q (ql, qs, md, qe, n) y g a [.ref (y x)]) (va_Qi (fun (r : Int32) (u : (Nat → Int32) × (Nat → Nat → Int32)) => r = (((a 5) x) + 100 + ((a 5) x)) ∧ u = ((upd g 29 (31 * (31 * (31 * (31 * (g 29) + 3) + 2) + 1) + 1)), a)) (gB dC dI ct A ex o q (ql, qs, md, qe, n) y) A) 0 0 A := by
  refine Met.ofW (cc := cX5_tell) (maxL := 1) (ret := (some .int)) (by decide) rfl ?_
  intro p e s m args below meth c s₁ B hml hv
  obtain ⟨rfl, hP, hK, hD, hE⟩ := hv
  have hx := B.exec
  have hb := B.bytes
  have hr := B.returns
  have hts := atoms_spec (ws := ws_ yX5_tell cX5_tell 1 (some .int)) B.pre
  have hts : ∀ w ∈ lw_all, w.before _ s = true := fun w h => hts w (List.mem_cons_of_mem _ h)
  have hown : s.vm.findClass RX5 = some m.cls := findClass_of_methodNamed B.named
  have hlocks := B.notSynchronized
  have hS : va_S A s.heap s.heap [] := va_S.rf
  have hl := lv_entry ([.ref (y x)]) (n := 1) (Nat.le_of_ble_eq_true rfl)
  rw [lg_entry_eq]
  generalize (lg_sl ([.ref (y x)]) ++ List.replicate (1 - (lg_sl ([.ref (y x)])).length) Slot.unset).toArray = ls at hl ⊢
  have hl : lv_has ls 1 [(0, .ref (y x))] := hl
  refine lv_aload_n hx hb dX5_tell_0 rfl (lv_at hl 0 rfl) ?_
  refine c_twin hx hb hts hown hK hP hxn hk q507 dX5_tell_1 ?_
  refine lv_iconst (v := 3) hx hb dX5_tell_4 (by decide) ?_
  refine va_callv (va_runVN (As := [.int 3]) (rest := []) ⟨hx, hb, hml, hown, hts⟩ (metX0_begins l dC dI ct A (peW ct o qe n y a ++ ex) o q ql qs md qe n g a 3 ) ⟨(va_cnB 1 hts (lw_meth q905) rfl rfl rfl (xE_q910 hE) (hts _ q69) (by decide +kernel) ⟨Nat.le_of_ble_eq_true rfl, Nat.le_of_ble_eq_true rfl⟩), hts _ q904, hts _ qs40⟩ (xPV hK hP hD hE _) rfl rfl hl.1 rfl (lv_room (Nat.le_of_ble_eq_true rfl)) dX5_tell_5 ⟨Nat.zero_le _, Nat.zero_le _⟩) hS (fun q _ h => h) (fun q h => h) (fun u t H1 locs ht hvm hw hB hz1 hk1 hS => ?_)
  subst hw
  obtain ⟨hP, -, hD⟩ := hB
  rw [ht] at hP
  generalize H1 = H at hP hS ⊢
  have hP : va_P (dC, dI) clA (xG ct o q (ql, qs, md, qe, n) y (upd g 29 (31 * (g 29) + 3)) a ex) H := hP
  have hD : va_D A (xG ct o q (ql, qs, md, qe, n) y (upd g 29 (31 * (g 29) + 3)) a ex) := hD
  refine lv_aload_n hx hb dX5_tell_8 rfl (lv_at hl 0 rfl) ?_
  refine va_calli (post := fun (r : Int32) (u : MS) => r = (((a 5) x) + 100) ∧ u = ((upd (upd g 29 (31 * (g 29) + 3)) 29 (31 * (31 * ((upd g 29 (31 * (g 29) + 3)) 29) + 2) + 1)), a)) (B := gB dC dI ct A ex o q (ql, qs, md, qe, n) y) (A1 := A) (mc := 0) (ms := 0) (free := A) (a := ([.ref (y x)] : List Value).toArray) (rest := []) ?_ hS (fun q _ h => h) (fun q h => h) (fun r u t H1 locs ht hvm hw hB hz1 hk1 hS => ?_)
  · skip
    exact va_runSU (As := []) (rest := []) (cAt2 hK) ⟨hx, hb, hml, hown, hts⟩ (metX4_tell l dC dI ct A ex o q ql qs md qe n y (upd g 29 (31 * (g 29) + 3)) a x hxn (Or.inr hk)) (va_cwSU 0 hts (lw_SU q911 q1313 q518 q900 q86 q901) rfl rfl rfl (by decide +kernel) ⟨Nat.le_of_ble_eq_true rfl, Nat.le_of_ble_eq_true rfl⟩) (cPV2 (a := a) hxn hk hK hP hD hE _) rfl rfl hl.1 rfl (lv_room (Nat.le_of_ble_eq_true rfl)) dX5_tell_9 ⟨Nat.zero_le _, Nat.zero_le _⟩
  obtain ⟨hw, hw2⟩ := hw
  have hw : r = (((a 5) x) + 100) := hw
  subst hw
  subst hw2
  obtain ⟨hP, -, hD⟩ := hB
  rw [ht] at hP
  generalize H1 = H at hP hS ⊢
  have hP : va_P (dC, dI) clA (xG ct o q (ql, qs, md, qe, n) y (upd g 29 (31 * (31 * (31 * (g 29) + 3) + 2) + 1)) a ex) H := hP
  have hD : va_D A (xG ct o q (ql, qs, md, qe, n) y (upd g 29 (31 * (31 * (31 * (g 29) + 3) + 2) + 1)) a ex) := hD
  refine lv_aload_n hx hb dX5_tell_12 rfl (lv_at hl 0 rfl) ?_
  refine va_calli (post := fun (r : Int32) (u : MS) => r = ((a 5) x) ∧ u = ((upd (upd g 29 (31 * (31 * (31 * (g 29) + 3) + 2) + 1)) 29 (31 * ((upd g 29 (31 * (31 * (31 * (g 29) + 3) + 2) + 1)) 29) + 1)), a)) (B := gB dC dI ct A ex o q (ql, qs, md, qe, n) y) (A1 := A) (mc := 0) (ms := 0) (free := A) (a := ([.ref (y x)] : List Value).toArray) (rest := [.int (((a 5) x) + 100)]) ?_ hS (fun q _ h => h) (fun q h => h) (fun r u t H1 locs ht hvm hw hB hz1 hk1 hS => ?_)
  · skip
    exact va_runU (As := []) (rest := [.int (((a 5) x) + 100)]) ⟨hx, hb, hml, hown, hts⟩ (metX3_plain l dC dI ct A ex o q ql qs md qe n y (upd g 29 (31 * (31 * (31 * (g 29) + 3) + 2) + 1)) a x hxn ) (va_cwU 0 hts (lw_U q912 q913 q915 q916 q85 q917) rfl rfl rfl rfl (by decide +kernel) ⟨Nat.le_of_ble_eq_true rfl, Nat.le_of_ble_eq_true rfl⟩) (cPV2 (a := a) hxn hk hK hP hD hE _) rfl rfl hl.1 rfl (lv_room (Nat.le_of_ble_eq_true rfl)) dX5_tell_13 ⟨Nat.zero_le _, Nat.zero_le _⟩
  obtain ⟨hw, hw2⟩ := hw
  have hw : r = ((a 5) x) := hw
  subst hw
  subst hw2
  obtain ⟨hP, -, hD⟩ := hB
  rw [ht] at hP
  generalize H1 = H at hP hS ⊢
  have hP : va_P (dC, dI) clA (xG ct o q (ql, qs, md, qe, n) y (upd g 29 (31 * (31 * (31 * (31 * (g 29) + 3) + 2) + 1) + 1)) a ex) H := hP
  have hD : va_D A (xG ct o q (ql, qs, md, qe, n) y (upd g 29 (31 * (31 * (31 * (31 * (g 29) + 3) + 2) + 1) + 1)) a ex) := hD
  refine lv_iadd hx hb dX5_tell_16 ?_
  exact W.iret (v := ((((a 5) x) + 100) + ((a 5) x))) hx hb hr (fun t ht hW => ⟨⟨((((a 5) x) + 100) + ((a 5) x)), ((upd g 29 (31 * (31 * (31 * (31 * (g 29) + 3) + 2) + 1) + 1)), a), rfl, ⟨(by first | rfl | (simp []; done)), rfl⟩, by rw [ht]; exact hP, va_K.moved hW.alike hK, hD⟩, hS.F ht⟩) hS.2.2 dX5_tell_17
set_option maxHeartbeats 4000000 in
set_option maxRecDepth 100000 in
theorem metX3_usual (l : Launch) (dC : Nat → ClassId) (dI : Nat → Nat → Nat) (ct : Nat → ClassId) (A : Nat → Prop) (ex : va_W) (o : Nat) (q : Nat → Nat) (ql qs : Nat) (md : Int32) (qe n : Nat) (y : Nat → Nat) (g : Nat → Int32) (a : Nat → Nat → Int32) (x : Nat) (hxn : x < n)   : Met l yX3_usual (ws_ yX3_usual cX3_usual 1 (some .int)) ({ frames := 1, cells := 0, slots := 0, locals := 21 }) (gPre dC dI ct A ex o q (ql, qs, md, qe, n) y g a [.ref (y x)]) (va_Qi (fun (r : Int32) (u : (Nat → Int32) × (Nat → Nat → Int32)) => r = (nI x) ∧ u = ((upd g 29 (31 * (g 29) + 4)), a)) (gB dC dI ct A ex o q (ql, qs, md, qe, n) y) A) 0 0 A := by
  refine Met.ofW (cc := cX3_usual) (maxL := 1) (ret := (some .int)) (by decide) rfl ?_
  intro p e s m args below meth c s₁ B hml hv
  obtain ⟨rfl, hP, hK, hD, hE⟩ := hv
  have hx := B.exec
  have hb := B.bytes
  have hr := B.returns
  have hts := atoms_spec (ws := ws_ yX3_usual cX3_usual 1 (some .int)) B.pre
  have hts : ∀ w ∈ lw_all, w.before _ s = true := fun w h => hts w (List.mem_cons_of_mem _ h)
  have hown : s.vm.findClass RX3 = some m.cls := findClass_of_methodNamed B.named
  have hlocks := B.notSynchronized
  have hS : va_S A s.heap s.heap [] := va_S.rf
  have hl := lv_entry ([.ref (y x)]) (n := 1) (Nat.le_of_ble_eq_true rfl)
  rw [lg_entry_eq]
  generalize (lg_sl ([.ref (y x)]) ++ List.replicate (1 - (lg_sl ([.ref (y x)])).length) Slot.unset).toArray = ls at hl ⊢
  have hl : lv_has ls 1 [(0, .ref (y x))] := hl
  refine lv_aload_n hx hb dX3_usual_0 rfl (lv_at hl 0 rfl) ?_
  refine c_get (v := .ref o) hx hb hts hown hK hP hxn 6 (by decide) rfl q468 dX3_usual_1 ?_
  refine lv_iconst (v := 4) hx hb dX3_usual_4 (by decide) ?_
  refine va_callv (va_runVN (As := [.int 4]) (rest := []) ⟨hx, hb, hml, hown, hts⟩ (metX0_begins l dC dI ct A (peW ct o qe n y a ++ ex) o q ql qs md qe n g a 4 ) ⟨(va_cnB 1 hts (lw_meth q905) rfl rfl rfl (xE_q918 hE) (hts _ q69) (by decide +kernel) ⟨Nat.le_of_ble_eq_true rfl, Nat.le_of_ble_eq_true rfl⟩), hts _ q904, hts _ qs40⟩ (xPV hK hP hD hE _) rfl rfl hl.1 rfl (lv_room (Nat.le_of_ble_eq_true rfl)) dX3_usual_5 ⟨Nat.zero_le _, Nat.zero_le _⟩) hS (fun q _ h => h) (fun q h => h) (fun u t H1 locs ht hvm hw hB hz1 hk1 hS => ?_)
  subst hw
  obtain ⟨hP, -, hD⟩ := hB
  rw [ht] at hP
  generalize H1 = H at hP hS ⊢
  have hP : va_P (dC, dI) clA (xG ct o q (ql, qs, md, qe, n) y (upd g 29 (31 * (g 29) + 4)) a ex) H := hP
  have hD : va_D A (xG ct o q (ql, qs, md, qe, n) y (upd g 29 (31 * (g 29) + 4)) a ex) := hD
  refine lv_aload_n hx hb dX3_usual_8 rfl (lv_at hl 0 rfl) ?_
  refine c_get (v := .int (nI x)) hx hb hts hown hK hP hxn 0 (by decide) rfl q457 dX3_usual_9 ?_
  exact W.iret (v := (nI x)) hx hb hr (fun t ht hW => ⟨⟨(nI x), ((upd g 29 (31 * (g 29) + 4)), a), rfl, ⟨(by first | rfl | (simp []; done)), rfl⟩, by rw [ht]; exact hP, va_K.moved hW.alike hK, hD⟩, hS.F ht⟩) hS.2.2 dX3_usual_12
set_option maxHeartbeats 4000000 in
set_option maxRecDepth 100000 in
theorem metX5_hand (l : Launch) (dC : Nat → ClassId) (dI : Nat → Nat → Nat) (ct : Nat → ClassId) (A : Nat → Prop) (ex : va_W) (o : Nat) (q : Nat → Nat) (ql qs : Nat) (md : Int32) (qe n : Nat) (y : Nat → Nat) (g : Nat → Int32) (a : Nat → Nat → Int32) (x : Nat) (hxn : x < n) (hk : kdN (a 2 x) = 2)   : Met l yX5_hand (ws_ yX5_hand cX5_hand 1 (some .int)) ({ frames := 1, cells := 0, slots := 0, locals := 21 }) (gPre dC dI ct A ex o q (ql, qs, md, qe, n) y g a [.ref (y x)]) (va_Qi (fun (r : Int32) (u : (Nat → Int32) × (Nat → Nat → Int32)) => r = 40 ∧ u = ((upd g 29 (31 * (g 29) + 5)), a)) (gB dC dI ct A ex o q (ql, qs, md, qe, n) y) A) 0 0 A := by
  refine Met.ofW (cc := cX5_hand) (maxL := 1) (ret := (some .int)) (by decide) rfl ?_
  intro p e s m args below meth c s₁ B hml hv
  obtain ⟨rfl, hP, hK, hD, hE⟩ := hv
  have hx := B.exec
  have hb := B.bytes
  have hr := B.returns
  have hts := atoms_spec (ws := ws_ yX5_hand cX5_hand 1 (some .int)) B.pre
  have hts : ∀ w ∈ lw_all, w.before _ s = true := fun w h => hts w (List.mem_cons_of_mem _ h)
  have hown : s.vm.findClass RX5 = some m.cls := findClass_of_methodNamed B.named
  have hlocks := B.notSynchronized
  have hS : va_S A s.heap s.heap [] := va_S.rf
  have hl := lv_entry ([.ref (y x)]) (n := 1) (Nat.le_of_ble_eq_true rfl)
  rw [lg_entry_eq]
  generalize (lg_sl ([.ref (y x)]) ++ List.replicate (1 - (lg_sl ([.ref (y x)])).length) Slot.unset).toArray = ls at hl ⊢
  have hl : lv_has ls 1 [(0, .ref (y x))] := hl
  refine lv_aload_n hx hb dX5_hand_0 rfl (lv_at hl 0 rfl) ?_
  refine c_twin hx hb hts hown hK hP hxn hk q507 dX5_hand_1 ?_
  refine lv_iconst (v := 5) hx hb dX5_hand_4 (by decide) ?_
  refine va_callv (va_runVN (As := [.int 5]) (rest := []) ⟨hx, hb, hml, hown, hts⟩ (metX0_begins l dC dI ct A (peW ct o qe n y a ++ ex) o q ql qs md qe n g a 5 ) ⟨(va_cnB 1 hts (lw_meth q905) rfl rfl rfl (xE_q910 hE) (hts _ q69) (by decide +kernel) ⟨Nat.le_of_ble_eq_true rfl, Nat.le_of_ble_eq_true rfl⟩), hts _ q904, hts _ qs40⟩ (xPV hK hP hD hE _) rfl rfl hl.1 rfl (lv_room (Nat.le_of_ble_eq_true rfl)) dX5_hand_5 ⟨Nat.zero_le _, Nat.zero_le _⟩) hS (fun q _ h => h) (fun q h => h) (fun u t H1 locs ht hvm hw hB hz1 hk1 hS => ?_)
  subst hw
  obtain ⟨hP, -, hD⟩ := hB
  rw [ht] at hP
  generalize H1 = H at hP hS ⊢
  have hP : va_P (dC, dI) clA (xG ct o q (ql, qs, md, qe, n) y (upd g 29 (31 * (g 29) + 5)) a ex) H := hP
  have hD : va_D A (xG ct o q (ql, qs, md, qe, n) y (upd g 29 (31 * (g 29) + 5)) a ex) := hD
  refine lv_bipush (v := 40) hx hb dX5_hand_8 (by decide) ?_
  exact W.iret (v := 40) hx hb hr (fun t ht hW => ⟨⟨40, ((upd g 29 (31 * (g 29) + 5)), a), rfl, ⟨(by first | rfl | (simp []; done)), rfl⟩, by rw [ht]; exact hP, va_K.moved hW.alike hK, hD⟩, hS.F ht⟩) hS.2.2 dX5_hand_10
