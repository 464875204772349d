/-! LENT YOUTHS: cells of any lane -/
set_option maxHeartbeats 4000000 in
set_option maxRecDepth 100000 in
theorem metX0_lengthOf_b (l : Launch) (dC : Nat → ClassId) (dI : Nat → Nat → Nat) (ct : Nat → ClassId) (A : Nat → Prop) (ws : va_W) (k ad N : Nat) (f : Nat → Int32) (hk : ws[k]? = some (ad, .inl (ct 2, N, .inl f))) (hN : N < 2 ^ 30)  : Met l yX0_lengthOf (ws_ yX0_lengthOf cX0_lengthOf 2 (some .int)) ({ frames := 0, cells := 0, slots := 0, locals := 0 }) (aPre dC dI ct A ws [.ref ad]) (vp_Si (fun r => r = (nI N))) 0 0 (fun _ => False) := by
  refine Met.ofW (cc := cX0_lengthOf) (maxL := 2) (ret := (some .int)) (by decide) rfl ?_
  intro p e s m args below meth c s₁ B hml hv
  obtain ⟨rfl, hP, hK, hE9⟩ := hv
  have hN9 := hE9.now
  have hx := B.exec
  have hb := B.bytes
  have hr := B.returns
  have hts := atoms_spec (ws := ws_ yX0_lengthOf cX0_lengthOf 2 (some .int)) B.pre
  have hts : ∀ w ∈ lw_all, w.before _ s = true := fun w h => hts w (List.mem_cons_of_mem _ h)
  have hown : s.vm.findClass RX0 = some m.cls := findClass_of_methodNamed B.named
  have hlocks := B.notSynchronized
  have hS9 : va_S A s.heap s.heap [] := va_S.rf
  have hl := lv_entry ([.ref ad]) (n := 2) (Nat.le_of_ble_eq_true rfl)
  rw [lg_entry_eq]
  generalize (lg_sl ([.ref ad]) ++ List.replicate (2 - (lg_sl ([.ref ad])).length) Slot.unset).toArray = ls at hl ⊢
  have hl : lv_has ls 2 [(0, .ref ad)] := hl
  refine lv_aload_n hx hb dX0_lengthOf_0 rfl (lv_at hl 0 rfl) ?_
  refine a_instY hx hb hown (hts _ q390) hP k hk (a_nmb hK) dX0_lengthOf_1 ?_
  refine lv_if_eq (tgt := 15) hx hb dX0_lengthOf_4 (by decide) (fun c_1 => ?_) (fun c_1 => ?_)
  · skip
    exact absurd c_1 (by decide)
  · skip
    refine lv_aload_n hx hb dX0_lengthOf_7 rfl (lv_at hl 0 rfl) ?_
    refine va_castA hx hb hown (hts _ q390) hP k hk (a_nmb hK) dX0_lengthOf_8 ?_
    refine lv_astore_n (lv' := [(1, .ref ad), (0, .ref ad)]) hx hb dX0_lengthOf_11 rfl hl (by decide) rfl (fun ls hl => ?_)
    refine lv_aload_n hx hb dX0_lengthOf_12 rfl (lv_at hl 0 rfl) ?_
    refine va_alen (v := nI N) hx hb hK hP k 2 hk rfl rfl dX0_lengthOf_13 ?_
    exact W.iret (v := (nI N)) hx hb hr (fun t ht hW => ⟨(nI N), rfl, rfl, ht⟩) (fun q h => by cases h) dX0_lengthOf_14
set_option maxHeartbeats 4000000 in
set_option maxRecDepth 100000 in
theorem metX0_cellOf_b (l : Launch) (dC : Nat → ClassId) (dI : Nat → Nat → Nat) (ct : Nat → ClassId) (A : Nat → Prop) (ws : va_W) (k ad N : Nat) (f : Nat → Int32) (hk : ws[k]? = some (ad, .inl (ct 2, N, .inl f))) (hN : N < 2 ^ 30) (i : Int32) (j : Nat) (hj : i = nI j) (hj2 : j < N) : Met l yX0_cellOf (ws_ yX0_cellOf cX0_cellOf 3 (some .int)) ({ frames := 0, cells := 0, slots := 0, locals := 0 }) (aPre dC dI ct A ws [.ref ad, .int i]) (vp_Si (fun r => r = (f j))) 0 0 (fun _ => False) := by
  refine Met.ofW (cc := cX0_cellOf) (maxL := 3) (ret := (some .int)) (by decide) rfl ?_
  intro p e s m args below meth c s₁ B hml hv
  obtain ⟨rfl, hP, hK, hE9⟩ := hv
  have hN9 := hE9.now
  have hx := B.exec
  have hb := B.bytes
  have hr := B.returns
  have hts := atoms_spec (ws := ws_ yX0_cellOf cX0_cellOf 3 (some .int)) B.pre
  have hts : ∀ w ∈ lw_all, w.before _ s = true := fun w h => hts w (List.mem_cons_of_mem _ h)
  have hown : s.vm.findClass RX0 = some m.cls := findClass_of_methodNamed B.named
  have hlocks := B.notSynchronized
  have hS9 : va_S A s.heap s.heap [] := va_S.rf
  have hl := lv_entry ([.ref ad, .int i]) (n := 3) (Nat.le_of_ble_eq_true rfl)
  rw [lg_entry_eq]
  generalize (lg_sl ([.ref ad, .int i]) ++ List.replicate (3 - (lg_sl ([.ref ad, .int i])).length) Slot.unset).toArray = ls at hl ⊢
  have hl : lv_has ls 3 [(0, .ref ad), (1, .int i)] := hl
  refine lv_aload_n hx hb dX0_cellOf_0 rfl (lv_at hl 0 rfl) ?_
  refine a_instY hx hb hown (hts _ q390) hP k hk (a_nmb hK) dX0_cellOf_1 ?_
  refine lv_if_eq (tgt := 16) hx hb dX0_cellOf_4 (by decide) (fun c_1 => ?_) (fun c_1 => ?_)
  · skip
    exact absurd c_1 (by decide)
  · skip
    refine lv_aload_n hx hb dX0_cellOf_7 rfl (lv_at hl 0 rfl) ?_
    refine va_castA hx hb hown (hts _ q390) hP k hk (a_nmb hK) dX0_cellOf_8 ?_
    refine lv_astore_n (lv' := [(2, .ref ad), (0, .ref ad), (1, .int i)]) hx hb dX0_cellOf_11 rfl hl (by decide) rfl (fun ls hl => ?_)
    refine lv_aload_n hx hb dX0_cellOf_12 rfl (lv_at hl 0 rfl) ?_
    refine lv_iload_n hx hb dX0_cellOf_13 rfl (lv_at hl 2 rfl) ?_
    refine ar_bld hx hb hK hP k 2 hk rfl j hj (by omega) (by omega) dX0_cellOf_14 ?_
    exact W.iret (v := (f j)) hx hb hr (fun t ht hW => ⟨(f j), rfl, rfl, ht⟩) (fun q h => by cases h) dX0_cellOf_15
set_option maxHeartbeats 4000000 in
set_option maxRecDepth 100000 in
theorem metX0_cellOf_xb (l : Launch) (dC : Nat → ClassId) (dI : Nat → Nat → Nat) (ct : Nat → ClassId) (A : Nat → Prop) (ws : va_W) (htr : l.stackTraces = false) (k ad N : Nat) (f : Nat → Int32) (hk : ws[k]? = some (ad, .inl (ct 2, N, .inl f))) (hN : N < 2 ^ 30) (i : Int32) (hout : i < 0 ∨ N ≤ i.toNatClampNeg) : MetX l yX0_cellOf (ws_ yX0_cellOf cX0_cellOf 3 (some .int)) ({ frames := 9, cells := 3, slots := 1210, locals := 10400 }) (aPre dC dI ct A ws [.ref ad, .int i]) "java/lang/ArrayIndexOutOfBoundsException" 3 1210 := by
  refine MetX.ofW (cc := cX0_cellOf) (maxL := 3) (ret := (some .int)) (by decide) rfl ?_
  intro p e s m args below meth c s₁ B hml het hv
  obtain ⟨rfl, hP, hK, hE9⟩ := hv
  have hN9 := hE9.now
  have hx := B.exec
  have hb := B.bytes
  have hr := B.returns
  have hts := atoms_spec (ws := ws_ yX0_cellOf cX0_cellOf 3 (some .int)) B.pre
  have hts : ∀ w ∈ lw_all, w.before _ s = true := fun w h => hts w (List.mem_cons_of_mem _ h)
  have hown : s.vm.findClass RX0 = some m.cls := findClass_of_methodNamed B.named
  have hlocks := B.notSynchronized
  have hS9 : va_S A s.heap s.heap [] := va_S.rf
  have hl := lv_entry ([.ref ad, .int i]) (n := 3) (Nat.le_of_ble_eq_true rfl)
  rw [lg_entry_eq]
  generalize (lg_sl ([.ref ad, .int i]) ++ List.replicate (3 - (lg_sl ([.ref ad, .int i])).length) Slot.unset).toArray = ls at hl ⊢
  have hl : lv_has ls 3 [(0, .ref ad), (1, .int i)] := hl
  refine lv_aload_n hx hb dX0_cellOf_0 rfl (lv_at hl 0 rfl) ?_
  refine a_instY hx hb hown (hts _ q390) hP k hk (a_nmb hK) dX0_cellOf_1 ?_
  refine lv_if_eq (tgt := 16) hx hb dX0_cellOf_4 (by decide) (fun c_1 => ?_) (fun c_1 => ?_)
  · skip
    exact absurd c_1 (by decide)
  · skip
    refine lv_aload_n hx hb dX0_cellOf_7 rfl (lv_at hl 0 rfl) ?_
    refine va_castA hx hb hown (hts _ q390) hP k hk (a_nmb hK) dX0_cellOf_8 ?_
    refine lv_astore_n (lv' := [(2, .ref ad), (0, .ref ad), (1, .int i)]) hx hb dX0_cellOf_11 rfl hl (by decide) rfl (fun ls hl => ?_)
    refine lv_aload_n hx hb dX0_cellOf_12 rfl (lv_at hl 0 rfl) ?_
    refine lv_iload_n hx hb dX0_cellOf_13 rfl (lv_at hl 2 rfl) ?_
    refine a_baloadX hx hb (hml.trans hl.1.symm) htr hN9 (fun x hx9 => absurd hx9 List.not_mem_nil) hK hP k 2 hk rfl (by omega) hout (Nat.le_of_ble_eq_true rfl) (Nat.le_of_ble_eq_true rfl) (Nat.le_of_ble_eq_true rfl) (Nat.le_of_ble_eq_true rfl) dX0_cellOf_14 (fun H1 ce h1 h2 h3 h4 => ?_)
    exact WT.out rfl rfl rfl het hlocks h2 h3 h4 h1 rfl (Nat.le_of_ble_eq_true rfl) (Nat.le_of_ble_eq_true rfl)
set_option maxHeartbeats 4000000 in
set_option maxRecDepth 100000 in
theorem metX0_asLane_b (l : Launch) (dC : Nat → ClassId) (dI : Nat → Nat → Nat) (ct : Nat → ClassId) (A : Nat → Prop) (ws : va_W) (k ad N : Nat) (f : Nat → Int32) (hk : ws[k]? = some (ad, .inl (ct 2, N, .inl f))) (hN : N < 2 ^ 30)  : Met l yX0_asLane (ws_ yX0_asLane cX0_asLane 2 (some (.object "java/lang/Object"))) ({ frames := 0, cells := 0, slots := 0, locals := 0 }) (aPre dC dI ct A ws [.ref ad, .int 0]) (va_Sr (fun _ => True) (fun _ => (.ref ad))) 0 0 (fun _ => False) := by
  refine Met.ofW (cc := cX0_asLane) (maxL := 2) (ret := (some (.object "java/lang/Object"))) (by decide) rfl ?_
  intro p e s m args below meth c s₁ B hml hv
  obtain ⟨rfl, hP, hK, hE9⟩ := hv
  have hN9 := hE9.now
  have hx := B.exec
  have hb := B.bytes
  have hr := B.returns
  have hts := atoms_spec (ws := ws_ yX0_asLane cX0_asLane 2 (some (.object "java/lang/Object"))) B.pre
  have hts : ∀ w ∈ lw_all, w.before _ s = true := fun w h => hts w (List.mem_cons_of_mem _ h)
  have hown : s.vm.findClass RX0 = some m.cls := findClass_of_methodNamed B.named
  have hlocks := B.notSynchronized
  have hS9 : va_S A s.heap s.heap [] := va_S.rf
  have hl := lv_entry ([.ref ad, .int 0]) (n := 2) (Nat.le_of_ble_eq_true rfl)
  rw [lg_entry_eq]
  generalize (lg_sl ([.ref ad, .int 0]) ++ List.replicate (2 - (lg_sl ([.ref ad, .int 0])).length) Slot.unset).toArray = ls at hl ⊢
  have hl : lv_has ls 2 [(0, .ref ad), (1, .int 0)] := hl
  refine lv_iload_n hx hb dX0_asLane_0 rfl (lv_at hl 1 rfl) ?_
  refine lv_lookup (off := 27) (tgt := 28) hx hb dX0_asLane_1 (by decide) (by decide +kernel) (by decide) ?_
  refine lv_aload_n hx hb dX0_asLane_28 rfl (lv_at hl 0 rfl) ?_
  refine va_castA hx hb hown (hts _ q390) hP k hk (a_nmb hK) dX0_asLane_29 ?_
  exact W.aret (v := .ref ad) hx hb hr (Or.inl ⟨_, rfl⟩) (Or.inr ⟨_, rfl⟩) (fun t ht hW => ⟨0, rfl, trivial, ht⟩) (fun q h => by cases h) dX0_asLane_32
set_option maxHeartbeats 4000000 in
set_option maxRecDepth 100000 in
theorem metX0_asLane_xbs (l : Launch) (dC : Nat → ClassId) (dI : Nat → Nat → Nat) (ct : Nat → ClassId) (A : Nat → Prop) (ws : va_W) (htr : l.stackTraces = false) (k ad N : Nat) (f : Nat → Int32) (hk : ws[k]? = some (ad, .inl (ct 2, N, .inl f))) (hN : N < 2 ^ 30)  : MetX l yX0_asLane (ws_ yX0_asLane cX0_asLane 2 (some (.object "java/lang/Object"))) ({ frames := 9, cells := 3, slots := 1210, locals := 10400 }) (aPre dC dI ct A ws [.ref ad, .int 1]) "java/lang/ClassCastException" 3 1210 := by
  refine MetX.ofW (cc := cX0_asLane) (maxL := 2) (ret := (some (.object "java/lang/Object"))) (by decide) rfl ?_
  intro p e s m args below meth c s₁ B hml het hv
  obtain ⟨rfl, hP, hK, hE9⟩ := hv
  have hN9 := hE9.now
  have hx := B.exec
  have hb := B.bytes
  have hr := B.returns
  have hts := atoms_spec (ws := ws_ yX0_asLane cX0_asLane 2 (some (.object "java/lang/Object"))) B.pre
  have hts : ∀ w ∈ lw_all, w.before _ s = true := fun w h => hts w (List.mem_cons_of_mem _ h)
  have hown : s.vm.findClass RX0 = some m.cls := findClass_of_methodNamed B.named
  have hlocks := B.notSynchronized
  have hS9 : va_S A s.heap s.heap [] := va_S.rf
  have hl := lv_entry ([.ref ad, .int 1]) (n := 2) (Nat.le_of_ble_eq_true rfl)
  rw [lg_entry_eq]
  generalize (lg_sl ([.ref ad, .int 1]) ++ List.replicate (2 - (lg_sl ([.ref ad, .int 1])).length) Slot.unset).toArray = ls at hl ⊢
  have hl : lv_has ls 2 [(0, .ref ad), (1, .int 1)] := hl
  refine lv_iload_n hx hb dX0_asLane_0 rfl (lv_at hl 1 rfl) ?_
  refine lv_lookup (off := 32) (tgt := 33) hx hb dX0_asLane_1 (by decide) (by decide +kernel) (by decide) ?_
  refine lv_aload_n hx hb dX0_asLane_33 rfl (lv_at hl 0 rfl) ?_
  refine a_castX (C := "[B") hx hb (hml.trans hl.1.symm) htr hown (hts _ q391) hN9 (fun x hx9 => absurd hx9 List.not_mem_nil) (a_recv hP hk (a_nmb hK)) (hN9.2.1 ("[B", "[S") (by decide)) (by decide +kernel) (by decide +kernel) (by decide +kernel) (by decide +kernel) (Nat.le_of_ble_eq_true rfl) (Nat.le_of_ble_eq_true rfl) (Nat.le_of_ble_eq_true rfl) (Nat.le_of_ble_eq_true rfl) dX0_asLane_34 (fun H1 ce h1 h2 h3 h4 => ?_)
  exact WT.out rfl rfl rfl het hlocks h2 h3 h4 h1 rfl (Nat.le_of_ble_eq_true rfl) (Nat.le_of_ble_eq_true rfl)
set_option maxHeartbeats 4000000 in
set_option maxRecDepth 100000 in
theorem metX0_asLane_xbi (l : Launch) (dC : Nat → ClassId) (dI : Nat → Nat → Nat) (ct : Nat → ClassId) (A : Nat → Prop) (ws : va_W) (htr : l.stackTraces = false) (k ad N : Nat) (f : Nat → Int32) (hk : ws[k]? = some (ad, .inl (ct 2, N, .inl f))) (hN : N < 2 ^ 30)  : MetX l yX0_asLane (ws_ yX0_asLane cX0_asLane 2 (some (.object "java/lang/Object"))) ({ frames := 9, cells := 3, slots := 1210, locals := 10400 }) (aPre dC dI ct A ws [.ref ad, .int 2]) "java/lang/ClassCastException" 3 1210 := by
  refine MetX.ofW (cc := cX0_asLane) (maxL := 2) (ret := (some (.object "java/lang/Object"))) (by decide) rfl ?_
  intro p e s m args below meth c s₁ B hml het hv
  obtain ⟨rfl, hP, hK, hE9⟩ := hv
  have hN9 := hE9.now
  have hx := B.exec
  have hb := B.bytes
  have hr := B.returns
  have hts := atoms_spec (ws := ws_ yX0_asLane cX0_asLane 2 (some (.object "java/lang/Object"))) B.pre
  have hts : ∀ w ∈ lw_all, w.before _ s = true := fun w h => hts w (List.mem_cons_of_mem _ h)
  have hown : s.vm.findClass RX0 = some m.cls := findClass_of_methodNamed B.named
  have hlocks := B.notSynchronized
  have hS9 : va_S A s.heap s.heap [] := va_S.rf
  have hl := lv_entry ([.ref ad, .int 2]) (n := 2) (Nat.le_of_ble_eq_true rfl)
  rw [lg_entry_eq]
  generalize (lg_sl ([.ref ad, .int 2]) ++ List.replicate (2 - (lg_sl ([.ref ad, .int 2])).length) Slot.unset).toArray = ls at hl ⊢
  have hl : lv_has ls 2 [(0, .ref ad), (1, .int 2)] := hl
  refine lv_iload_n hx hb dX0_asLane_0 rfl (lv_at hl 1 rfl) ?_
  refine lv_lookup (off := 37) (tgt := 38) hx hb dX0_asLane_1 (by decide) (by decide +kernel) (by decide) ?_
  refine lv_aload_n hx hb dX0_asLane_38 rfl (lv_at hl 0 rfl) ?_
  refine a_castX (C := "[B") hx hb (hml.trans hl.1.symm) htr hown (hts _ q392) hN9 (fun x hx9 => absurd hx9 List.not_mem_nil) (a_recv hP hk (a_nmb hK)) (hN9.2.1 ("[B", "[I") (by decide)) (by decide +kernel) (by decide +kernel) (by decide +kernel) (by decide +kernel) (Nat.le_of_ble_eq_true rfl) (Nat.le_of_ble_eq_true rfl) (Nat.le_of_ble_eq_true rfl) (Nat.le_of_ble_eq_true rfl) dX0_asLane_39 (fun H1 ce h1 h2 h3 h4 => ?_)
  exact WT.out rfl rfl rfl het hlocks h2 h3 h4 h1 rfl (Nat.le_of_ble_eq_true rfl) (Nat.le_of_ble_eq_true rfl)
set_option maxHeartbeats 4000000 in
set_option maxRecDepth 100000 in
theorem metX0_lengthOf_s (l : Launch) (dC : Nat → ClassId) (dI : Nat → Nat → Nat) (ct : Nat → ClassId) (A : Nat → Prop) (ws : va_W) (k ad N : Nat) (f : Nat → Int32) (hk : ws[k]? = some (ad, .inl (ct 3, N, .inl f))) (hN : N < 2 ^ 30)  : Met l yX0_lengthOf (ws_ yX0_lengthOf cX0_lengthOf 2 (some .int)) ({ frames := 0, cells := 0, slots := 0, locals := 0 }) (aPre dC dI ct A ws [.ref ad]) (vp_Si (fun r => r = (nI N))) 0 0 (fun _ => False) := by
  refine Met.ofW (cc := cX0_lengthOf) (maxL := 2) (ret := (some .int)) (by decide) rfl ?_
  intro p e s m args below meth c s₁ B hml hv
  obtain ⟨rfl, hP, hK, hE9⟩ := hv
  have hN9 := hE9.now
  have hx := B.exec
  have hb := B.bytes
  have hr := B.returns
  have hts := atoms_spec (ws := ws_ yX0_lengthOf cX0_lengthOf 2 (some .int)) B.pre
  have hts : ∀ w ∈ lw_all, w.before _ s = true := fun w h => hts w (List.mem_cons_of_mem _ h)
  have hown : s.vm.findClass RX0 = some m.cls := findClass_of_methodNamed B.named
  have hlocks := B.notSynchronized
  have hS9 : va_S A s.heap s.heap [] := va_S.rf
  have hl := lv_entry ([.ref ad]) (n := 2) (Nat.le_of_ble_eq_true rfl)
  rw [lg_entry_eq]
  generalize (lg_sl ([.ref ad]) ++ List.replicate (2 - (lg_sl ([.ref ad])).length) Slot.unset).toArray = ls at hl ⊢
  have hl : lv_has ls 2 [(0, .ref ad)] := hl
  refine lv_aload_n hx hb dX0_lengthOf_0 rfl (lv_at hl 0 rfl) ?_
  refine va_instNo (C := "[S") hx hb hown (hts _ q390) (hN9.2.1 ("[S", "[B") (by decide)) (a_recv hP hk (a_nms hK)) dX0_lengthOf_1 ?_
  refine lv_if_eq (tgt := 15) hx hb dX0_lengthOf_4 (by decide) (fun c_1 => ?_) (fun c_1 => ?_)
  · skip
    refine lv_aload_n hx hb dX0_lengthOf_15 rfl (lv_at hl 0 rfl) ?_
    refine a_instY hx hb hown (hts _ q391) hP k hk (a_nms hK) dX0_lengthOf_16 ?_
    refine lv_if_eq (tgt := 30) hx hb dX0_lengthOf_19 (by decide) (fun c_2 => ?_) (fun c_2 => ?_)
    · skip
      exact absurd c_2 (by decide)
    · skip
      refine lv_aload_n hx hb dX0_lengthOf_22 rfl (lv_at hl 0 rfl) ?_
      refine va_castA hx hb hown (hts _ q391) hP k hk (a_nms hK) dX0_lengthOf_23 ?_
      refine lv_astore_n (lv' := [(1, .ref ad), (0, .ref ad)]) hx hb dX0_lengthOf_26 rfl hl (by decide) rfl (fun ls hl => ?_)
      refine lv_aload_n hx hb dX0_lengthOf_27 rfl (lv_at hl 0 rfl) ?_
      refine va_alen (v := nI N) hx hb hK hP k 3 hk rfl rfl dX0_lengthOf_28 ?_
      exact W.iret (v := (nI N)) hx hb hr (fun t ht hW => ⟨(nI N), rfl, rfl, ht⟩) (fun q h => by cases h) dX0_lengthOf_29
  · skip
    exact absurd c_1 (by decide)
set_option maxHeartbeats 4000000 in
set_option maxRecDepth 100000 in
theorem metX0_cellOf_s (l : Launch) (dC : Nat → ClassId) (dI : Nat → Nat → Nat) (ct : Nat → ClassId) (A : Nat → Prop) (ws : va_W) (k ad N : Nat) (f : Nat → Int32) (hk : ws[k]? = some (ad, .inl (ct 3, N, .inl f))) (hN : N < 2 ^ 30) (i : Int32) (j : Nat) (hj : i = nI j) (hj2 : j < N) : Met l yX0_cellOf (ws_ yX0_cellOf cX0_cellOf 3 (some .int)) ({ frames := 0, cells := 0, slots := 0, locals := 0 }) (aPre dC dI ct A ws [.ref ad, .int i]) (vp_Si (fun r => r = (f j))) 0 0 (fun _ => False) := by
  refine Met.ofW (cc := cX0_cellOf) (maxL := 3) (ret := (some .int)) (by decide) rfl ?_
  intro p e s m args below meth c s₁ B hml hv
  obtain ⟨rfl, hP, hK, hE9⟩ := hv
  have hN9 := hE9.now
  have hx := B.exec
  have hb := B.bytes
  have hr := B.returns
  have hts := atoms_spec (ws := ws_ yX0_cellOf cX0_cellOf 3 (some .int)) B.pre
  have hts : ∀ w ∈ lw_all, w.before _ s = true := fun w h => hts w (List.mem_cons_of_mem _ h)
  have hown : s.vm.findClass RX0 = some m.cls := findClass_of_methodNamed B.named
  have hlocks := B.notSynchronized
  have hS9 : va_S A s.heap s.heap [] := va_S.rf
  have hl := lv_entry ([.ref ad, .int i]) (n := 3) (Nat.le_of_ble_eq_true rfl)
  rw [lg_entry_eq]
  generalize (lg_sl ([.ref ad, .int i]) ++ List.replicate (3 - (lg_sl ([.ref ad, .int i])).length) Slot.unset).toArray = ls at hl ⊢
  have hl : lv_has ls 3 [(0, .ref ad), (1, .int i)] := hl
  refine lv_aload_n hx hb dX0_cellOf_0 rfl (lv_at hl 0 rfl) ?_
  refine va_instNo (C := "[S") hx hb hown (hts _ q390) (hN9.2.1 ("[S", "[B") (by decide)) (a_recv hP hk (a_nms hK)) dX0_cellOf_1 ?_
  refine lv_if_eq (tgt := 16) hx hb dX0_cellOf_4 (by decide) (fun c_1 => ?_) (fun c_1 => ?_)
  · skip
    refine lv_aload_n hx hb dX0_cellOf_16 rfl (lv_at hl 0 rfl) ?_
    refine a_instY hx hb hown (hts _ q391) hP k hk (a_nms hK) dX0_cellOf_17 ?_
    refine lv_if_eq (tgt := 32) hx hb dX0_cellOf_20 (by decide) (fun c_2 => ?_) (fun c_2 => ?_)
    · skip
      exact absurd c_2 (by decide)
    · skip
      refine lv_aload_n hx hb dX0_cellOf_23 rfl (lv_at hl 0 rfl) ?_
      refine va_castA hx hb hown (hts _ q391) hP k hk (a_nms hK) dX0_cellOf_24 ?_
      refine lv_astore_n (lv' := [(2, .ref ad), (0, .ref ad), (1, .int i)]) hx hb dX0_cellOf_27 rfl hl (by decide) rfl (fun ls hl => ?_)
      refine lv_aload_n hx hb dX0_cellOf_28 rfl (lv_at hl 0 rfl) ?_
      refine lv_iload_n hx hb dX0_cellOf_29 rfl (lv_at hl 2 rfl) ?_
      refine ar_sld hx hb hK hP k 3 hk rfl j hj (by omega) (by omega) dX0_cellOf_30 ?_
      exact W.iret (v := (f j)) hx hb hr (fun t ht hW => ⟨(f j), rfl, rfl, ht⟩) (fun q h => by cases h) dX0_cellOf_31
  · skip
    exact absurd c_1 (by decide)
set_option maxHeartbeats 4000000 in
set_option maxRecDepth 100000 in
theorem metX0_cellOf_xs (l : Launch) (dC : Nat → ClassId) (dI : Nat → Nat → Nat) (ct : Nat → ClassId) (A : Nat → Prop) (ws : va_W) (htr : l.stackTraces = false) (k ad N : Nat) (f : Nat → Int32) (hk : ws[k]? = some (ad, .inl (ct 3, N, .inl f))) (hN : N < 2 ^ 30) (i : Int32) (hout : i < 0 ∨ N ≤ i.toNatClampNeg) : MetX l yX0_cellOf (ws_ yX0_cellOf cX0_cellOf 3 (some .int)) ({ frames := 9, cells := 3, slots := 1210, locals := 10400 }) (aPre dC dI ct A ws [.ref ad, .int i]) "java/lang/ArrayIndexOutOfBoundsException" 3 1210 := by
  refine MetX.ofW (cc := cX0_cellOf) (maxL := 3) (ret := (some .int)) (by decide) rfl ?_
  intro p e s m args below meth c s₁ B hml het hv
  obtain ⟨rfl, hP, hK, hE9⟩ := hv
  have hN9 := hE9.now
  have hx := B.exec
  have hb := B.bytes
  have hr := B.returns
  have hts := atoms_spec (ws := ws_ yX0_cellOf cX0_cellOf 3 (some .int)) B.pre
  have hts : ∀ w ∈ lw_all, w.before _ s = true := fun w h => hts w (List.mem_cons_of_mem _ h)
  have hown : s.vm.findClass RX0 = some m.cls := findClass_of_methodNamed B.named
  have hlocks := B.notSynchronized
  have hS9 : va_S A s.heap s.heap [] := va_S.rf
  have hl := lv_entry ([.ref ad, .int i]) (n := 3) (Nat.le_of_ble_eq_true rfl)
  rw [lg_entry_eq]
  generalize (lg_sl ([.ref ad, .int i]) ++ List.replicate (3 - (lg_sl ([.ref ad, .int i])).length) Slot.unset).toArray = ls at hl ⊢
  have hl : lv_has ls 3 [(0, .ref ad), (1, .int i)] := hl
  refine lv_aload_n hx hb dX0_cellOf_0 rfl (lv_at hl 0 rfl) ?_
  refine va_instNo (C := "[S") hx hb hown (hts _ q390) (hN9.2.1 ("[S", "[B") (by decide)) (a_recv hP hk (a_nms hK)) dX0_cellOf_1 ?_
  refine lv_if_eq (tgt := 16) hx hb dX0_cellOf_4 (by decide) (fun c_1 => ?_) (fun c_1 => ?_)
  · skip
    refine lv_aload_n hx hb dX0_cellOf_16 rfl (lv_at hl 0 rfl) ?_
    refine a_instY hx hb hown (hts _ q391) hP k hk (a_nms hK) dX0_cellOf_17 ?_
    refine lv_if_eq (tgt := 32) hx hb dX0_cellOf_20 (by decide) (fun c_2 => ?_) (fun c_2 => ?_)
    · skip
      exact absurd c_2 (by decide)
    · skip
      refine lv_aload_n hx hb dX0_cellOf_23 rfl (lv_at hl 0 rfl) ?_
      refine va_castA hx hb hown (hts _ q391) hP k hk (a_nms hK) dX0_cellOf_24 ?_
      refine lv_astore_n (lv' := [(2, .ref ad), (0, .ref ad), (1, .int i)]) hx hb dX0_cellOf_27 rfl hl (by decide) rfl (fun ls hl => ?_)
      refine lv_aload_n hx hb dX0_cellOf_28 rfl (lv_at hl 0 rfl) ?_
      refine lv_iload_n hx hb dX0_cellOf_29 rfl (lv_at hl 2 rfl) ?_
      refine a_saloadX hx hb (hml.trans hl.1.symm) htr hN9 (fun x hx9 => absurd hx9 List.not_mem_nil) hK hP k 3 hk rfl (by omega) hout (Nat.le_of_ble_eq_true rfl) (Nat.le_of_ble_eq_true rfl) (Nat.le_of_ble_eq_true rfl) (Nat.le_of_ble_eq_true rfl) dX0_cellOf_30 (fun H1 ce h1 h2 h3 h4 => ?_)
      exact WT.out rfl rfl rfl het hlocks h2 h3 h4 h1 rfl (Nat.le_of_ble_eq_true rfl) (Nat.le_of_ble_eq_true rfl)
  · skip
    exact absurd c_1 (by decide)
set_option maxHeartbeats 4000000 in
set_option maxRecDepth 100000 in
theorem metX0_asLane_s (l : Launch) (dC : Nat → ClassId) (dI : Nat → Nat → Nat) (ct : Nat → ClassId) (A : Nat → Prop) (ws : va_W) (k ad N : Nat) (f : Nat → Int32) (hk : ws[k]? = some (ad, .inl (ct 3, N, .inl f))) (hN : N < 2 ^ 30)  : Met l yX0_asLane (ws_ yX0_asLane cX0_asLane 2 (some (.object "java/lang/Object"))) ({ frames := 0, cells := 0, slots := 0, locals := 0 }) (aPre dC dI ct A ws [.ref ad, .int 1]) (va_Sr (fun _ => True) (fun _ => (.ref ad))) 0 0 (fun _ => False) := by
  refine Met.ofW (cc := cX0_asLane) (maxL := 2) (ret := (some (.object "java/lang/Object"))) (by decide) rfl ?_
  intro p e s m args below meth c s₁ B hml hv
  obtain ⟨rfl, hP, hK, hE9⟩ := hv
  have hN9 := hE9.now
  have hx := B.exec
  have hb := B.bytes
  have hr := B.returns
  have hts := atoms_spec (ws := ws_ yX0_asLane cX0_asLane 2 (some (.object "java/lang/Object"))) B.pre
  have hts : ∀ w ∈ lw_all, w.before _ s = true := fun w h => hts w (List.mem_cons_of_mem _ h)
  have hown : s.vm.findClass RX0 = some m.cls := findClass_of_methodNamed B.named
  have hlocks := B.notSynchronized
  have hS9 : va_S A s.heap s.heap [] := va_S.rf
  have hl := lv_entry ([.ref ad, .int 1]) (n := 2) (Nat.le_of_ble_eq_true rfl)
  rw [lg_entry_eq]
  generalize (lg_sl ([.ref ad, .int 1]) ++ List.replicate (2 - (lg_sl ([.ref ad, .int 1])).length) Slot.unset).toArray = ls at hl ⊢
  have hl : lv_has ls 2 [(0, .ref ad), (1, .int 1)] := hl
  refine lv_iload_n hx hb dX0_asLane_0 rfl (lv_at hl 1 rfl) ?_
  refine lv_lookup (off := 32) (tgt := 33) hx hb dX0_asLane_1 (by decide) (by decide +kernel) (by decide) ?_
  refine lv_aload_n hx hb dX0_asLane_33 rfl (lv_at hl 0 rfl) ?_
  refine va_castA hx hb hown (hts _ q391) hP k hk (a_nms hK) dX0_asLane_34 ?_
  exact W.aret (v := .ref ad) hx hb hr (Or.inl ⟨_, rfl⟩) (Or.inr ⟨_, rfl⟩) (fun t ht hW => ⟨0, rfl, trivial, ht⟩) (fun q h => by cases h) dX0_asLane_37
set_option maxHeartbeats 4000000 in
set_option maxRecDepth 100000 in
theorem metX0_asLane_xsb (l : Launch) (dC : Nat → ClassId) (dI : Nat → Nat → Nat) (ct : Nat → ClassId) (A : Nat → Prop) (ws : va_W) (htr : l.stackTraces = false) (k ad N : Nat) (f : Nat → Int32) (hk : ws[k]? = some (ad, .inl (ct 3, N, .inl f))) (hN : N < 2 ^ 30)  : MetX l yX0_asLane (ws_ yX0_asLane cX0_asLane 2 (some (.object "java/lang/Object"))) ({ frames := 9, cells := 3, slots := 1210, locals := 10400 }) (aPre dC dI ct A ws [.ref ad, .int 0]) "java/lang/ClassCastException" 3 1210 := by
  refine MetX.ofW (cc := cX0_asLane) (maxL := 2) (ret := (some (.object "java/lang/Object"))) (by decide) rfl ?_
  intro p e s m args below meth c s₁ B hml het hv
  obtain ⟨rfl, hP, hK, hE9⟩ := hv
  have hN9 := hE9.now
  have hx := B.exec
  have hb := B.bytes
  have hr := B.returns
  have hts := atoms_spec (ws := ws_ yX0_asLane cX0_asLane 2 (some (.object "java/lang/Object"))) B.pre
  have hts : ∀ w ∈ lw_all, w.before _ s = true := fun w h => hts w (List.mem_cons_of_mem _ h)
  have hown : s.vm.findClass RX0 = some m.cls := findClass_of_methodNamed B.named
  have hlocks := B.notSynchronized
  have hS9 : va_S A s.heap s.heap [] := va_S.rf
  have hl := lv_entry ([.ref ad, .int 0]) (n := 2) (Nat.le_of_ble_eq_true rfl)
  rw [lg_entry_eq]
  generalize (lg_sl ([.ref ad, .int 0]) ++ List.replicate (2 - (lg_sl ([.ref ad, .int 0])).length) Slot.unset).toArray = ls at hl ⊢
  have hl : lv_has ls 2 [(0, .ref ad), (1, .int 0)] := hl
  refine lv_iload_n hx hb dX0_asLane_0 rfl (lv_at hl 1 rfl) ?_
  refine lv_lookup (off := 27) (tgt := 28) hx hb dX0_asLane_1 (by decide) (by decide +kernel) (by decide) ?_
  refine lv_aload_n hx hb dX0_asLane_28 rfl (lv_at hl 0 rfl) ?_
  refine a_castX (C := "[S") hx hb (hml.trans hl.1.symm) htr hown (hts _ q390) hN9 (fun x hx9 => absurd hx9 List.not_mem_nil) (a_recv hP hk (a_nms hK)) (hN9.2.1 ("[S", "[B") (by decide)) (by decide +kernel) (by decide +kernel) (by decide +kernel) (by decide +kernel) (Nat.le_of_ble_eq_true rfl) (Nat.le_of_ble_eq_true rfl) (Nat.le_of_ble_eq_true rfl) (Nat.le_of_ble_eq_true rfl) dX0_asLane_29 (fun H1 ce h1 h2 h3 h4 => ?_)
  exact WT.out rfl rfl rfl het hlocks h2 h3 h4 h1 rfl (Nat.le_of_ble_eq_true rfl) (Nat.le_of_ble_eq_true rfl)
set_option maxHeartbeats 4000000 in
set_option maxRecDepth 100000 in
theorem metX0_asLane_xsi (l : Launch) (dC : Nat → ClassId) (dI : Nat → Nat → Nat) (ct : Nat → ClassId) (A : Nat → Prop) (ws : va_W) (htr : l.stackTraces = false) (k ad N : Nat) (f : Nat → Int32) (hk : ws[k]? = some (ad, .inl (ct 3, N, .inl f))) (hN : N < 2 ^ 30)  : MetX l yX0_asLane (ws_ yX0_asLane cX0_asLane 2 (some (.object "java/lang/Object"))) ({ frames := 9, cells := 3, slots := 1210, locals := 10400 }) (aPre dC dI ct A ws [.ref ad, .int 2]) "java/lang/ClassCastException" 3 1210 := by
  refine MetX.ofW (cc := cX0_asLane) (maxL := 2) (ret := (some (.object "java/lang/Object"))) (by decide) rfl ?_
  intro p e s m args below meth c s₁ B hml het hv
  obtain ⟨rfl, hP, hK, hE9⟩ := hv
  have hN9 := hE9.now
  have hx := B.exec
  have hb := B.bytes
  have hr := B.returns
  have hts := atoms_spec (ws := ws_ yX0_asLane cX0_asLane 2 (some (.object "java/lang/Object"))) B.pre
  have hts : ∀ w ∈ lw_all, w.before _ s = true := fun w h => hts w (List.mem_cons_of_mem _ h)
  have hown : s.vm.findClass RX0 = some m.cls := findClass_of_methodNamed B.named
  have hlocks := B.notSynchronized
  have hS9 : va_S A s.heap s.heap [] := va_S.rf
  have hl := lv_entry ([.ref ad, .int 2]) (n := 2) (Nat.le_of_ble_eq_true rfl)
  rw [lg_entry_eq]
  generalize (lg_sl ([.ref ad, .int 2]) ++ List.replicate (2 - (lg_sl ([.ref ad, .int 2])).length) Slot.unset).toArray = ls at hl ⊢
  have hl : lv_has ls 2 [(0, .ref ad), (1, .int 2)] := hl
  refine lv_iload_n hx hb dX0_asLane_0 rfl (lv_at hl 1 rfl) ?_
  refine lv_lookup (off := 37) (tgt := 38) hx hb dX0_asLane_1 (by decide) (by decide +kernel) (by decide) ?_
  refine lv_aload_n hx hb dX0_asLane_38 rfl (lv_at hl 0 rfl) ?_
  refine a_castX (C := "[S") hx hb (hml.trans hl.1.symm) htr hown (hts _ q392) hN9 (fun x hx9 => absurd hx9 List.not_mem_nil) (a_recv hP hk (a_nms hK)) (hN9.2.1 ("[S", "[I") (by decide)) (by decide +kernel) (by decide +kernel) (by decide +kernel) (by decide +kernel) (Nat.le_of_ble_eq_true rfl) (Nat.le_of_ble_eq_true rfl) (Nat.le_of_ble_eq_true rfl) (Nat.le_of_ble_eq_true rfl) dX0_asLane_39 (fun H1 ce h1 h2 h3 h4 => ?_)
  exact WT.out rfl rfl rfl het hlocks h2 h3 h4 h1 rfl (Nat.le_of_ble_eq_true rfl) (Nat.le_of_ble_eq_true rfl)
set_option maxHeartbeats 4000000 in
set_option maxRecDepth 100000 in
theorem metX0_lengthOf_i (l : Launch) (dC : Nat → ClassId) (dI : Nat → Nat → Nat) (ct : Nat → ClassId) (A : Nat → Prop) (ws : va_W) (k ad N : Nat) (f : Nat → Int32) (hk : ws[k]? = some (ad, .inl (ct 0, N, .inl f))) (hN : N < 2 ^ 30)  : Met l yX0_lengthOf (ws_ yX0_lengthOf cX0_lengthOf 2 (some .int)) ({ frames := 0, cells := 0, slots := 0, locals := 0 }) (aPre dC dI ct A ws [.ref ad]) (vp_Si (fun r => r = (nI N))) 0 0 (fun _ => False) := by
  refine Met.ofW (cc := cX0_lengthOf) (maxL := 2) (ret := (some .int)) (by decide) rfl ?_
  intro p e s m args below meth c s₁ B hml hv
  obtain ⟨rfl, hP, hK, hE9⟩ := hv
  have hN9 := hE9.now
  have hx := B.exec
  have hb := B.bytes
  have hr := B.returns
  have hts := atoms_spec (ws := ws_ yX0_lengthOf cX0_lengthOf 2 (some .int)) B.pre
  have hts : ∀ w ∈ lw_all, w.before _ s = true := fun w h => hts w (List.mem_cons_of_mem _ h)
  have hown : s.vm.findClass RX0 = some m.cls := findClass_of_methodNamed B.named
  have hlocks := B.notSynchronized
  have hS9 : va_S A s.heap s.heap [] := va_S.rf
  have hl := lv_entry ([.ref ad]) (n := 2) (Nat.le_of_ble_eq_true rfl)
  rw [lg_entry_eq]
  generalize (lg_sl ([.ref ad]) ++ List.replicate (2 - (lg_sl ([.ref ad])).length) Slot.unset).toArray = ls at hl ⊢
  have hl : lv_has ls 2 [(0, .ref ad)] := hl
  refine lv_aload_n hx hb dX0_lengthOf_0 rfl (lv_at hl 0 rfl) ?_
  refine va_instNo (C := "[I") hx hb hown (hts _ q390) (hN9.2.1 ("[I", "[B") (by decide)) (a_recv hP hk (a_nmi hK)) dX0_lengthOf_1 ?_
  refine lv_if_eq (tgt := 15) hx hb dX0_lengthOf_4 (by decide) (fun c_1 => ?_) (fun c_1 => ?_)
  · skip
    refine lv_aload_n hx hb dX0_lengthOf_15 rfl (lv_at hl 0 rfl) ?_
    refine va_instNo (C := "[I") hx hb hown (hts _ q391) (hN9.2.1 ("[I", "[S") (by decide)) (a_recv hP hk (a_nmi hK)) dX0_lengthOf_16 ?_
    refine lv_if_eq (tgt := 30) hx hb dX0_lengthOf_19 (by decide) (fun c_2 => ?_) (fun c_2 => ?_)
    · skip
      refine lv_aload_n hx hb dX0_lengthOf_30 rfl (lv_at hl 0 rfl) ?_
      refine va_castA hx hb hown (hts _ q392) hP k hk (a_nmi hK) dX0_lengthOf_31 ?_
      refine va_alen (v := nI N) hx hb hK hP k 0 hk rfl rfl dX0_lengthOf_34 ?_
      exact W.iret (v := (nI N)) hx hb hr (fun t ht hW => ⟨(nI N), rfl, rfl, ht⟩) (fun q h => by cases h) dX0_lengthOf_35
    · skip
      exact absurd c_2 (by decide)
  · skip
    exact absurd c_1 (by decide)
set_option maxHeartbeats 4000000 in
set_option maxRecDepth 100000 in
theorem metX0_cellOf_i (l : Launch) (dC : Nat → ClassId) (dI : Nat → Nat → Nat) (ct : Nat → ClassId) (A : Nat → Prop) (ws : va_W) (k ad N : Nat) (f : Nat → Int32) (hk : ws[k]? = some (ad, .inl (ct 0, N, .inl f))) (hN : N < 2 ^ 30) (i : Int32) (j : Nat) (hj : i = nI j) (hj2 : j < N) : Met l yX0_cellOf (ws_ yX0_cellOf cX0_cellOf 3 (some .int)) ({ frames := 0, cells := 0, slots := 0, locals := 0 }) (aPre dC dI ct A ws [.ref ad, .int i]) (vp_Si (fun r => r = (f j))) 0 0 (fun _ => False) := by
  refine Met.ofW (cc := cX0_cellOf) (maxL := 3) (ret := (some .int)) (by decide) rfl ?_
  intro p e s m args below meth c s₁ B hml hv
  obtain ⟨rfl, hP, hK, hE9⟩ := hv
  have hN9 := hE9.now
  have hx := B.exec
  have hb := B.bytes
  have hr := B.returns
  have hts := atoms_spec (ws := ws_ yX0_cellOf cX0_cellOf 3 (some .int)) B.pre
  have hts : ∀ w ∈ lw_all, w.before _ s = true := fun w h => hts w (List.mem_cons_of_mem _ h)
  have hown : s.vm.findClass RX0 = some m.cls := findClass_of_methodNamed B.named
  have hlocks := B.notSynchronized
  have hS9 : va_S A s.heap s.heap [] := va_S.rf
  have hl := lv_entry ([.ref ad, .int i]) (n := 3) (Nat.le_of_ble_eq_true rfl)
  rw [lg_entry_eq]
  generalize (lg_sl ([.ref ad, .int i]) ++ List.replicate (3 - (lg_sl ([.ref ad, .int i])).length) Slot.unset).toArray = ls at hl ⊢
  have hl : lv_has ls 3 [(0, .ref ad), (1, .int i)] := hl
  refine lv_aload_n hx hb dX0_cellOf_0 rfl (lv_at hl 0 rfl) ?_
  refine va_instNo (C := "[I") hx hb hown (hts _ q390) (hN9.2.1 ("[I", "[B") (by decide)) (a_recv hP hk (a_nmi hK)) dX0_cellOf_1 ?_
  refine lv_if_eq (tgt := 16) hx hb dX0_cellOf_4 (by decide) (fun c_1 => ?_) (fun c_1 => ?_)
  · skip
    refine lv_aload_n hx hb dX0_cellOf_16 rfl (lv_at hl 0 rfl) ?_
    refine va_instNo (C := "[I") hx hb hown (hts _ q391) (hN9.2.1 ("[I", "[S") (by decide)) (a_recv hP hk (a_nmi hK)) dX0_cellOf_17 ?_
    refine lv_if_eq (tgt := 32) hx hb dX0_cellOf_20 (by decide) (fun c_2 => ?_) (fun c_2 => ?_)
    · skip
      refine lv_aload_n hx hb dX0_cellOf_32 rfl (lv_at hl 0 rfl) ?_
      refine va_castA hx hb hown (hts _ q392) hP k hk (a_nmi hK) dX0_cellOf_33 ?_
      refine lv_iload_n hx hb dX0_cellOf_36 rfl (lv_at hl 1 rfl) ?_
      refine ar_ild hx hb hK hP k 0 hk rfl j hj (by omega) (by omega) dX0_cellOf_37 ?_
      exact W.iret (v := (f j)) hx hb hr (fun t ht hW => ⟨(f j), rfl, rfl, ht⟩) (fun q h => by cases h) dX0_cellOf_38
    · skip
      exact absurd c_2 (by decide)
  · skip
    exact absurd c_1 (by decide)
set_option maxHeartbeats 4000000 in
set_option maxRecDepth 100000 in
theorem metX0_cellOf_xi (l : Launch) (dC : Nat → ClassId) (dI : Nat → Nat → Nat) (ct : Nat → ClassId) (A : Nat → Prop) (ws : va_W) (htr : l.stackTraces = false) (k ad N : Nat) (f : Nat → Int32) (hk : ws[k]? = some (ad, .inl (ct 0, N, .inl f))) (hN : N < 2 ^ 30) (i : Int32) (hout : i < 0 ∨ N ≤ i.toNatClampNeg) : MetX l yX0_cellOf (ws_ yX0_cellOf cX0_cellOf 3 (some .int)) ({ frames := 9, cells := 3, slots := 1210, locals := 10400 }) (aPre dC dI ct A ws [.ref ad, .int i]) "java/lang/ArrayIndexOutOfBoundsException" 3 1210 := by
  refine MetX.ofW (cc := cX0_cellOf) (maxL := 3) (ret := (some .int)) (by decide) rfl ?_
  intro p e s m args below meth c s₁ B hml het hv
  obtain ⟨rfl, hP, hK, hE9⟩ := hv
  have hN9 := hE9.now
  have hx := B.exec
  have hb := B.bytes
  have hr := B.returns
  have hts := atoms_spec (ws := ws_ yX0_cellOf cX0_cellOf 3 (some .int)) B.pre
  have hts : ∀ w ∈ lw_all, w.before _ s = true := fun w h => hts w (List.mem_cons_of_mem _ h)
  have hown : s.vm.findClass RX0 = some m.cls := findClass_of_methodNamed B.named
  have hlocks := B.notSynchronized
  have hS9 : va_S A s.heap s.heap [] := va_S.rf
  have hl := lv_entry ([.ref ad, .int i]) (n := 3) (Nat.le_of_ble_eq_true rfl)
  rw [lg_entry_eq]
  generalize (lg_sl ([.ref ad, .int i]) ++ List.replicate (3 - (lg_sl ([.ref ad, .int i])).length) Slot.unset).toArray = ls at hl ⊢
  have hl : lv_has ls 3 [(0, .ref ad), (1, .int i)] := hl
  refine lv_aload_n hx hb dX0_cellOf_0 rfl (lv_at hl 0 rfl) ?_
  refine va_instNo (C := "[I") hx hb hown (hts _ q390) (hN9.2.1 ("[I", "[B") (by decide)) (a_recv hP hk (a_nmi hK)) dX0_cellOf_1 ?_
  refine lv_if_eq (tgt := 16) hx hb dX0_cellOf_4 (by decide) (fun c_1 => ?_) (fun c_1 => ?_)
  · skip
    refine lv_aload_n hx hb dX0_cellOf_16 rfl (lv_at hl 0 rfl) ?_
    refine va_instNo (C := "[I") hx hb hown (hts _ q391) (hN9.2.1 ("[I", "[S") (by decide)) (a_recv hP hk (a_nmi hK)) dX0_cellOf_17 ?_
    refine lv_if_eq (tgt := 32) hx hb dX0_cellOf_20 (by decide) (fun c_2 => ?_) (fun c_2 => ?_)
    · skip
      refine lv_aload_n hx hb dX0_cellOf_32 rfl (lv_at hl 0 rfl) ?_
      refine va_castA hx hb hown (hts _ q392) hP k hk (a_nmi hK) dX0_cellOf_33 ?_
      refine lv_iload_n hx hb dX0_cellOf_36 rfl (lv_at hl 1 rfl) ?_
      refine a_ialoadX hx hb (hml.trans hl.1.symm) htr hN9 (fun x hx9 => absurd hx9 List.not_mem_nil) hK hP k 0 hk rfl (by omega) hout (Nat.le_of_ble_eq_true rfl) (Nat.le_of_ble_eq_true rfl) (Nat.le_of_ble_eq_true rfl) (Nat.le_of_ble_eq_true rfl) dX0_cellOf_37 (fun H1 ce h1 h2 h3 h4 => ?_)
      exact WT.out rfl rfl rfl het hlocks h2 h3 h4 h1 rfl (Nat.le_of_ble_eq_true rfl) (Nat.le_of_ble_eq_true rfl)
    · skip
      exact absurd c_2 (by decide)
  · skip
    exact absurd c_1 (by decide)
set_option maxHeartbeats 4000000 in
set_option maxRecDepth 100000 in
theorem metX0_asLane_i (l : Launch) (dC : Nat → ClassId) (dI : Nat → Nat → Nat) (ct : Nat → ClassId) (A : Nat → Prop) (ws : va_W) (k ad N : Nat) (f : Nat → Int32) (hk : ws[k]? = some (ad, .inl (ct 0, N, .inl f))) (hN : N < 2 ^ 30)  : Met l yX0_asLane (ws_ yX0_asLane cX0_asLane 2 (some (.object "java/lang/Object"))) ({ frames := 0, cells := 0, slots := 0, locals := 0 }) (aPre dC dI ct A ws [.ref ad, .int 2]) (va_Sr (fun _ => True) (fun _ => (.ref ad))) 0 0 (fun _ => False) := by
  refine Met.ofW (cc := cX0_asLane) (maxL := 2) (ret := (some (.object "java/lang/Object"))) (by decide) rfl ?_
  intro p e s m args below meth c s₁ B hml hv
  obtain ⟨rfl, hP, hK, hE9⟩ := hv
  have hN9 := hE9.now
  have hx := B.exec
  have hb := B.bytes
  have hr := B.returns
  have hts := atoms_spec (ws := ws_ yX0_asLane cX0_asLane 2 (some (.object "java/lang/Object"))) B.pre
  have hts : ∀ w ∈ lw_all, w.before _ s = true := fun w h => hts w (List.mem_cons_of_mem _ h)
  have hown : s.vm.findClass RX0 = some m.cls := findClass_of_methodNamed B.named
  have hlocks := B.notSynchronized
  have hS9 : va_S A s.heap s.heap [] := va_S.rf
  have hl := lv_entry ([.ref ad, .int 2]) (n := 2) (Nat.le_of_ble_eq_true rfl)
  rw [lg_entry_eq]
  generalize (lg_sl ([.ref ad, .int 2]) ++ List.replicate (2 - (lg_sl ([.ref ad, .int 2])).length) Slot.unset).toArray = ls at hl ⊢
  have hl : lv_has ls 2 [(0, .ref ad), (1, .int 2)] := hl
  refine lv_iload_n hx hb dX0_asLane_0 rfl (lv_at hl 1 rfl) ?_
  refine lv_lookup (off := 37) (tgt := 38) hx hb dX0_asLane_1 (by decide) (by decide +kernel) (by decide) ?_
  refine lv_aload_n hx hb dX0_asLane_38 rfl (lv_at hl 0 rfl) ?_
  refine va_castA hx hb hown (hts _ q392) hP k hk (a_nmi hK) dX0_asLane_39 ?_
  exact W.aret (v := .ref ad) hx hb hr (Or.inl ⟨_, rfl⟩) (Or.inr ⟨_, rfl⟩) (fun t ht hW => ⟨0, rfl, trivial, ht⟩) (fun q h => by cases h) dX0_asLane_42
set_option maxHeartbeats 4000000 in
set_option maxRecDepth 100000 in
theorem metX0_asLane_xib (l : Launch) (dC : Nat → ClassId) (dI : Nat → Nat → Nat) (ct : Nat → ClassId) (A : Nat → Prop) (ws : va_W) (htr : l.stackTraces = false) (k ad N : Nat) (f : Nat → Int32) (hk : ws[k]? = some (ad, .inl (ct 0, N, .inl f))) (hN : N < 2 ^ 30)  : MetX l yX0_asLane (ws_ yX0_asLane cX0_asLane 2 (some (.object "java/lang/Object"))) ({ frames := 9, cells := 3, slots := 1210, locals := 10400 }) (aPre dC dI ct A ws [.ref ad, .int 0]) "java/lang/ClassCastException" 3 1210 := by
  refine MetX.ofW (cc := cX0_asLane) (maxL := 2) (ret := (some (.object "java/lang/Object"))) (by decide) rfl ?_
  intro p e s m args below meth c s₁ B hml het hv
  obtain ⟨rfl, hP, hK, hE9⟩ := hv
  have hN9 := hE9.now
  have hx := B.exec
  have hb := B.bytes
  have hr := B.returns
  have hts := atoms_spec (ws := ws_ yX0_asLane cX0_asLane 2 (some (.object "java/lang/Object"))) B.pre
  have hts : ∀ w ∈ lw_all, w.before _ s = true := fun w h => hts w (List.mem_cons_of_mem _ h)
  have hown : s.vm.findClass RX0 = some m.cls := findClass_of_methodNamed B.named
  have hlocks := B.notSynchronized
  have hS9 : va_S A s.heap s.heap [] := va_S.rf
  have hl := lv_entry ([.ref ad, .int 0]) (n := 2) (Nat.le_of_ble_eq_true rfl)
  rw [lg_entry_eq]
  generalize (lg_sl ([.ref ad, .int 0]) ++ List.replicate (2 - (lg_sl ([.ref ad, .int 0])).length) Slot.unset).toArray = ls at hl ⊢
  have hl : lv_has ls 2 [(0, .ref ad), (1, .int 0)] := hl
  refine lv_iload_n hx hb dX0_asLane_0 rfl (lv_at hl 1 rfl) ?_
  refine lv_lookup (off := 27) (tgt := 28) hx hb dX0_asLane_1 (by decide) (by decide +kernel) (by decide) ?_
  refine lv_aload_n hx hb dX0_asLane_28 rfl (lv_at hl 0 rfl) ?_
  refine a_castX (C := "[I") hx hb (hml.trans hl.1.symm) htr hown (hts _ q390) hN9 (fun x hx9 => absurd hx9 List.not_mem_nil) (a_recv hP hk (a_nmi hK)) (hN9.2.1 ("[I", "[B") (by decide)) (by decide +kernel) (by decide +kernel) (by decide +kernel) (by decide +kernel) (Nat.le_of_ble_eq_true rfl) (Nat.le_of_ble_eq_true rfl) (Nat.le_of_ble_eq_true rfl) (Nat.le_of_ble_eq_true rfl) dX0_asLane_29 (fun H1 ce h1 h2 h3 h4 => ?_)
  exact WT.out rfl rfl rfl het hlocks h2 h3 h4 h1 rfl (Nat.le_of_ble_eq_true rfl) (Nat.le_of_ble_eq_true rfl)
set_option maxHeartbeats 4000000 in
set_option maxRecDepth 100000 in
theorem metX0_asLane_xis (l : Launch) (dC : Nat → ClassId) (dI : Nat → Nat → Nat) (ct : Nat → ClassId) (A : Nat → Prop) (ws : va_W) (htr : l.stackTraces = false) (k ad N : Nat) (f : Nat → Int32) (hk : ws[k]? = some (ad, .inl (ct 0, N, .inl f))) (hN : N < 2 ^ 30)  : MetX l yX0_asLane (ws_ yX0_asLane cX0_asLane 2 (some (.object "java/lang/Object"))) ({ frames := 9, cells := 3, slots := 1210, locals := 10400 }) (aPre dC dI ct A ws [.ref ad, .int 1]) "java/lang/ClassCastException" 3 1210 := by
  refine MetX.ofW (cc := cX0_asLane) (maxL := 2) (ret := (some (.object "java/lang/Object"))) (by decide) rfl ?_
  intro p e s m args below meth c s₁ B hml het hv
  obtain ⟨rfl, hP, hK, hE9⟩ := hv
  have hN9 := hE9.now
  have hx := B.exec
  have hb := B.bytes
  have hr := B.returns
  have hts := atoms_spec (ws := ws_ yX0_asLane cX0_asLane 2 (some (.object "java/lang/Object"))) B.pre
  have hts : ∀ w ∈ lw_all, w.before _ s = true := fun w h => hts w (List.mem_cons_of_mem _ h)
  have hown : s.vm.findClass RX0 = some m.cls := findClass_of_methodNamed B.named
  have hlocks := B.notSynchronized
  have hS9 : va_S A s.heap s.heap [] := va_S.rf
  have hl := lv_entry ([.ref ad, .int 1]) (n := 2) (Nat.le_of_ble_eq_true rfl)
  rw [lg_entry_eq]
  generalize (lg_sl ([.ref ad, .int 1]) ++ List.replicate (2 - (lg_sl ([.ref ad, .int 1])).length) Slot.unset).toArray = ls at hl ⊢
  have hl : lv_has ls 2 [(0, .ref ad), (1, .int 1)] := hl
  refine lv_iload_n hx hb dX0_asLane_0 rfl (lv_at hl 1 rfl) ?_
  refine lv_lookup (off := 32) (tgt := 33) hx hb dX0_asLane_1 (by decide) (by decide +kernel) (by decide) ?_
  refine lv_aload_n hx hb dX0_asLane_33 rfl (lv_at hl 0 rfl) ?_
  refine a_castX (C := "[I") hx hb (hml.trans hl.1.symm) htr hown (hts _ q391) hN9 (fun x hx9 => absurd hx9 List.not_mem_nil) (a_recv hP hk (a_nmi hK)) (hN9.2.1 ("[I", "[S") (by decide)) (by decide +kernel) (by decide +kernel) (by decide +kernel) (by decide +kernel) (Nat.le_of_ble_eq_true rfl) (Nat.le_of_ble_eq_true rfl) (Nat.le_of_ble_eq_true rfl) (Nat.le_of_ble_eq_true rfl) dX0_asLane_34 (fun H1 ce h1 h2 h3 h4 => ?_)
  exact WT.out rfl rfl rfl het hlocks h2 h3 h4 h1 rfl (Nat.le_of_ble_eq_true rfl) (Nat.le_of_ble_eq_true rfl)
set_option maxHeartbeats 4000000 in
set_option maxRecDepth 100000 in
theorem metX0_asLane_nb (l : Launch) (dC : Nat → ClassId) (dI : Nat → Nat → Nat) (ct : Nat → ClassId) (A : Nat → Prop) (ws : va_W)  : Met l yX0_asLane (ws_ yX0_asLane cX0_asLane 2 (some (.object "java/lang/Object"))) ({ frames := 0, cells := 0, slots := 0, locals := 0 }) (aPre dC dI ct A ws [.null, .int 0]) (va_Sr (fun _ => True) (fun _ => .null)) 0 0 (fun _ => False) := by
  refine Met.ofW (cc := cX0_asLane) (maxL := 2) (ret := (some (.object "java/lang/Object"))) (by decide) rfl ?_
  intro p e s m args below meth c s₁ B hml hv
  obtain ⟨rfl, hP, hK, hE9⟩ := hv
  have hN9 := hE9.now
  have hx := B.exec
  have hb := B.bytes
  have hr := B.returns
  have hts := atoms_spec (ws := ws_ yX0_asLane cX0_asLane 2 (some (.object "java/lang/Object"))) B.pre
  have hts : ∀ w ∈ lw_all, w.before _ s = true := fun w h => hts w (List.mem_cons_of_mem _ h)
  have hown : s.vm.findClass RX0 = some m.cls := findClass_of_methodNamed B.named
  have hlocks := B.notSynchronized
  have hS9 : va_S A s.heap s.heap [] := va_S.rf
  have hl := lv_entry ([.null, .int 0]) (n := 2) (Nat.le_of_ble_eq_true rfl)
  rw [lg_entry_eq]
  generalize (lg_sl ([.null, .int 0]) ++ List.replicate (2 - (lg_sl ([.null, .int 0])).length) Slot.unset).toArray = ls at hl ⊢
  have hl : lv_has ls 2 [(0, .null), (1, .int 0)] := hl
  refine lv_iload_n hx hb dX0_asLane_0 rfl (lv_at hl 1 rfl) ?_
  refine lv_lookup (off := 27) (tgt := 28) hx hb dX0_asLane_1 (by decide) (by decide +kernel) (by decide) ?_
  refine lv_aload_nN hx hb dX0_asLane_28 rfl (lv_at hl 0 rfl) ?_
  refine lv_castN hx hb dX0_asLane_29 ?_
  exact W.aret (v := .null) hx hb hr (Or.inl ⟨_, rfl⟩) (Or.inl rfl) (fun t ht hW => ⟨0, rfl, trivial, ht⟩) (fun q h => by cases h) dX0_asLane_32
set_option maxHeartbeats 4000000 in
set_option maxRecDepth 100000 in
theorem metX0_asLane_ns (l : Launch) (dC : Nat → ClassId) (dI : Nat → Nat → Nat) (ct : Nat → ClassId) (A : Nat → Prop) (ws : va_W)  : Met l yX0_asLane (ws_ yX0_asLane cX0_asLane 2 (some (.object "java/lang/Object"))) ({ frames := 0, cells := 0, slots := 0, locals := 0 }) (aPre dC dI ct A ws [.null, .int 1]) (va_Sr (fun _ => True) (fun _ => .null)) 0 0 (fun _ => False) := by
  refine Met.ofW (cc := cX0_asLane) (maxL := 2) (ret := (some (.object "java/lang/Object"))) (by decide) rfl ?_
  intro p e s m args below meth c s₁ B hml hv
  obtain ⟨rfl, hP, hK, hE9⟩ := hv
  have hN9 := hE9.now
  have hx := B.exec
  have hb := B.bytes
  have hr := B.returns
  have hts := atoms_spec (ws := ws_ yX0_asLane cX0_asLane 2 (some (.object "java/lang/Object"))) B.pre
  have hts : ∀ w ∈ lw_all, w.before _ s = true := fun w h => hts w (List.mem_cons_of_mem _ h)
  have hown : s.vm.findClass RX0 = some m.cls := findClass_of_methodNamed B.named
  have hlocks := B.notSynchronized
  have hS9 : va_S A s.heap s.heap [] := va_S.rf
  have hl := lv_entry ([.null, .int 1]) (n := 2) (Nat.le_of_ble_eq_true rfl)
  rw [lg_entry_eq]
  generalize (lg_sl ([.null, .int 1]) ++ List.replicate (2 - (lg_sl ([.null, .int 1])).length) Slot.unset).toArray = ls at hl ⊢
  have hl : lv_has ls 2 [(0, .null), (1, .int 1)] := hl
  refine lv_iload_n hx hb dX0_asLane_0 rfl (lv_at hl 1 rfl) ?_
  refine lv_lookup (off := 32) (tgt := 33) hx hb dX0_asLane_1 (by decide) (by decide +kernel) (by decide) ?_
  refine lv_aload_nN hx hb dX0_asLane_33 rfl (lv_at hl 0 rfl) ?_
  refine lv_castN hx hb dX0_asLane_34 ?_
  exact W.aret (v := .null) hx hb hr (Or.inl ⟨_, rfl⟩) (Or.inl rfl) (fun t ht hW => ⟨0, rfl, trivial, ht⟩) (fun q h => by cases h) dX0_asLane_37
set_option maxHeartbeats 4000000 in
set_option maxRecDepth 100000 in
theorem metX0_asLane_ni (l : Launch) (dC : Nat → ClassId) (dI : Nat → Nat → Nat) (ct : Nat → ClassId) (A : Nat → Prop) (ws : va_W)  : Met l yX0_asLane (ws_ yX0_asLane cX0_asLane 2 (some (.object "java/lang/Object"))) ({ frames := 0, cells := 0, slots := 0, locals := 0 }) (aPre dC dI ct A ws [.null, .int 2]) (va_Sr (fun _ => True) (fun _ => .null)) 0 0 (fun _ => False) := by
  refine Met.ofW (cc := cX0_asLane) (maxL := 2) (ret := (some (.object "java/lang/Object"))) (by decide) rfl ?_
  intro p e s m args below meth c s₁ B hml hv
  obtain ⟨rfl, hP, hK, hE9⟩ := hv
  have hN9 := hE9.now
  have hx := B.exec
  have hb := B.bytes
  have hr := B.returns
  have hts := atoms_spec (ws := ws_ yX0_asLane cX0_asLane 2 (some (.object "java/lang/Object"))) B.pre
  have hts : ∀ w ∈ lw_all, w.before _ s = true := fun w h => hts w (List.mem_cons_of_mem _ h)
  have hown : s.vm.findClass RX0 = some m.cls := findClass_of_methodNamed B.named
  have hlocks := B.notSynchronized
  have hS9 : va_S A s.heap s.heap [] := va_S.rf
  have hl := lv_entry ([.null, .int 2]) (n := 2) (Nat.le_of_ble_eq_true rfl)
  rw [lg_entry_eq]
  generalize (lg_sl ([.null, .int 2]) ++ List.replicate (2 - (lg_sl ([.null, .int 2])).length) Slot.unset).toArray = ls at hl ⊢
  have hl : lv_has ls 2 [(0, .null), (1, .int 2)] := hl
  refine lv_iload_n hx hb dX0_asLane_0 rfl (lv_at hl 1 rfl) ?_
  refine lv_lookup (off := 37) (tgt := 38) hx hb dX0_asLane_1 (by decide) (by decide +kernel) (by decide) ?_
  refine lv_aload_nN hx hb dX0_asLane_38 rfl (lv_at hl 0 rfl) ?_
  refine lv_castN hx hb dX0_asLane_39 ?_
  exact W.aret (v := .null) hx hb hr (Or.inl ⟨_, rfl⟩) (Or.inl rfl) (fun t ht hW => ⟨0, rfl, trivial, ht⟩) (fun q h => by cases h) dX0_asLane_42
set_option maxHeartbeats 4000000 in
set_option maxRecDepth 100000 in
theorem metX0_lengthOf_n (l : Launch) (dC : Nat → ClassId) (dI : Nat → Nat → Nat) (ct : Nat → ClassId) (A : Nat → Prop) (ws : va_W) (htr : l.stackTraces = false)  : MetX l yX0_lengthOf (ws_ yX0_lengthOf cX0_lengthOf 2 (some .int)) ({ frames := 9, cells := 3, slots := 1210, locals := 10400 }) (aPre dC dI ct A ws [.null]) "java/lang/NullPointerException" 3 1210 := by
  refine MetX.ofW (cc := cX0_lengthOf) (maxL := 2) (ret := (some .int)) (by decide) rfl ?_
  intro p e s m args below meth c s₁ B hml het hv
  obtain ⟨rfl, hP, hK, hE9⟩ := hv
  have hN9 := hE9.now
  have hx := B.exec
  have hb := B.bytes
  have hr := B.returns
  have hts := atoms_spec (ws := ws_ yX0_lengthOf cX0_lengthOf 2 (some .int)) B.pre
  have hts : ∀ w ∈ lw_all, w.before _ s = true := fun w h => hts w (List.mem_cons_of_mem _ h)
  have hown : s.vm.findClass RX0 = some m.cls := findClass_of_methodNamed B.named
  have hlocks := B.notSynchronized
  have hS9 : va_S A s.heap s.heap [] := va_S.rf
  have hl := lv_entry ([.null]) (n := 2) (Nat.le_of_ble_eq_true rfl)
  rw [lg_entry_eq]
  generalize (lg_sl ([.null]) ++ List.replicate (2 - (lg_sl ([.null])).length) Slot.unset).toArray = ls at hl ⊢
  have hl : lv_has ls 2 [(0, .null)] := hl
  refine lv_aload_nN hx hb dX0_lengthOf_0 rfl (lv_at hl 0 rfl) ?_
  refine lv_instN hx hb dX0_lengthOf_1 ?_
  refine lv_if_eq (tgt := 15) hx hb dX0_lengthOf_4 (by decide) (fun c_1 => ?_) (fun c_1 => ?_)
  · skip
    refine lv_aload_nN hx hb dX0_lengthOf_15 rfl (lv_at hl 0 rfl) ?_
    refine lv_instN hx hb dX0_lengthOf_16 ?_
    refine lv_if_eq (tgt := 30) hx hb dX0_lengthOf_19 (by decide) (fun c_2 => ?_) (fun c_2 => ?_)
    · skip
      refine lv_aload_nN hx hb dX0_lengthOf_30 rfl (lv_at hl 0 rfl) ?_
      refine lv_castN hx hb dX0_lengthOf_31 ?_
      refine a_arraylengthN hx hb (hml.trans hl.1.symm) htr hN9 (fun x hx9 => absurd hx9 List.not_mem_nil) (Nat.le_of_ble_eq_true rfl) (Nat.le_of_ble_eq_true rfl) (Nat.le_of_ble_eq_true rfl) (Nat.le_of_ble_eq_true rfl) dX0_lengthOf_34 (fun H1 ce h1 h2 h3 h4 => ?_)
      exact WT.out rfl rfl rfl het hlocks h2 h3 h4 h1 rfl (Nat.le_of_ble_eq_true rfl) (Nat.le_of_ble_eq_true rfl)
    · skip
      exact absurd c_2 (by decide)
  · skip
    exact absurd c_1 (by decide)
set_option maxHeartbeats 4000000 in
set_option maxRecDepth 100000 in
theorem metX0_cellOf_n (l : Launch) (dC : Nat → ClassId) (dI : Nat → Nat → Nat) (ct : Nat → ClassId) (A : Nat → Prop) (ws : va_W) (htr : l.stackTraces = false) (i : Int32) : MetX l yX0_cellOf (ws_ yX0_cellOf cX0_cellOf 3 (some .int)) ({ frames := 9, cells := 3, slots := 1210, locals := 10400 }) (aPre dC dI ct A ws [.null, .int i]) "java/lang/NullPointerException" 3 1210 := by
  refine MetX.ofW (cc := cX0_cellOf) (maxL := 3) (ret := (some .int)) (by decide) rfl ?_
  intro p e s m args below meth c s₁ B hml het hv
  obtain ⟨rfl, hP, hK, hE9⟩ := hv
  have hN9 := hE9.now
  have hx := B.exec
  have hb := B.bytes
  have hr := B.returns
  have hts := atoms_spec (ws := ws_ yX0_cellOf cX0_cellOf 3 (some .int)) B.pre
  have hts : ∀ w ∈ lw_all, w.before _ s = true := fun w h => hts w (List.mem_cons_of_mem _ h)
  have hown : s.vm.findClass RX0 = some m.cls := findClass_of_methodNamed B.named
  have hlocks := B.notSynchronized
  have hS9 : va_S A s.heap s.heap [] := va_S.rf
  have hl := lv_entry ([.null, .int i]) (n := 3) (Nat.le_of_ble_eq_true rfl)
  rw [lg_entry_eq]
  generalize (lg_sl ([.null, .int i]) ++ List.replicate (3 - (lg_sl ([.null, .int i])).length) Slot.unset).toArray = ls at hl ⊢
  have hl : lv_has ls 3 [(0, .null), (1, .int i)] := hl
  refine lv_aload_nN hx hb dX0_cellOf_0 rfl (lv_at hl 0 rfl) ?_
  refine lv_instN hx hb dX0_cellOf_1 ?_
  refine lv_if_eq (tgt := 16) hx hb dX0_cellOf_4 (by decide) (fun c_1 => ?_) (fun c_1 => ?_)
  · skip
    refine lv_aload_nN hx hb dX0_cellOf_16 rfl (lv_at hl 0 rfl) ?_
    refine lv_instN hx hb dX0_cellOf_17 ?_
    refine lv_if_eq (tgt := 32) hx hb dX0_cellOf_20 (by decide) (fun c_2 => ?_) (fun c_2 => ?_)
    · skip
      refine lv_aload_nN hx hb dX0_cellOf_32 rfl (lv_at hl 0 rfl) ?_
      refine lv_castN hx hb dX0_cellOf_33 ?_
      refine lv_iload_n hx hb dX0_cellOf_36 rfl (lv_at hl 1 rfl) ?_
      refine a_ialoadN hx hb (hml.trans hl.1.symm) htr hN9 (fun x hx9 => absurd hx9 List.not_mem_nil) (Nat.le_of_ble_eq_true rfl) (Nat.le_of_ble_eq_true rfl) (Nat.le_of_ble_eq_true rfl) (Nat.le_of_ble_eq_true rfl) dX0_cellOf_37 (fun H1 ce h1 h2 h3 h4 => ?_)
      exact WT.out rfl rfl rfl het hlocks h2 h3 h4 h1 rfl (Nat.le_of_ble_eq_true rfl) (Nat.le_of_ble_eq_true rfl)
    · skip
      exact absurd c_2 (by decide)
  · skip
    exact absurd c_1 (by decide)
theorem metX0_lengthOf (l : Launch) (dC : Nat → ClassId) (dI : Nat → Nat → Nat) (ct : Nat → ClassId) (A : Nat → Prop) (ws : va_W) (k ad N : Nat) (f : Nat → Int32) (lx : Nat) (hlx : lx < 3) (hk : ws[k]? = some (ad, .inl (ct (lty lx), N, .inl f))) (hN : N < 2 ^ 30)  : Met l yX0_lengthOf (ws_ yX0_lengthOf cX0_lengthOf 2 (some .int)) ({ frames := 0, cells := 0, slots := 0, locals := 0 }) (aPre dC dI ct A ws [.ref ad]) (vp_Si (fun r => r = (nI N))) 0 0 (fun _ => False) :=
  match lx, hlx, hk with
  | 0, _, hk => metX0_lengthOf_b l dC dI ct A ws k ad N f hk hN 
  | 1, _, hk => metX0_lengthOf_s l dC dI ct A ws k ad N f hk hN 
  | 2, _, hk => metX0_lengthOf_i l dC dI ct A ws k ad N f hk hN 
  | _ + 3, h9, _ => absurd h9 (by omega)
theorem metX0_cellOf (l : Launch) (dC : Nat → ClassId) (dI : Nat → Nat → Nat) (ct : Nat → ClassId) (A : Nat → Prop) (ws : va_W) (k ad N : Nat) (f : Nat → Int32) (lx : Nat) (hlx : lx < 3) (hk : ws[k]? = some (ad, .inl (ct (lty lx), N, .inl f))) (hN : N < 2 ^ 30) (i : Int32) (j : Nat) (hj : i = nI j) (hj2 : j < N) : Met l yX0_cellOf (ws_ yX0_cellOf cX0_cellOf 3 (some .int)) ({ frames := 0, cells := 0, slots := 0, locals := 0 }) (aPre dC dI ct A ws [.ref ad, .int i]) (vp_Si (fun r => r = (f j))) 0 0 (fun _ => False) :=
  match lx, hlx, hk with
  | 0, _, hk => metX0_cellOf_b l dC dI ct A ws k ad N f hk hN i j hj hj2
  | 1, _, hk => metX0_cellOf_s l dC dI ct A ws k ad N f hk hN i j hj hj2
  | 2, _, hk => metX0_cellOf_i l dC dI ct A ws k ad N f hk hN i j hj hj2
  | _ + 3, h9, _ => absurd h9 (by omega)
theorem metX0_cellOf_x (l : Launch) (dC : Nat → ClassId) (dI : Nat → Nat → Nat) (ct : Nat → ClassId) (A : Nat → Prop) (ws : va_W) (htr : l.stackTraces = false) (k ad N : Nat) (f : Nat → Int32) (lx : Nat) (hlx : lx < 3) (hk : ws[k]? = some (ad, .inl (ct (lty lx), N, .inl f))) (hN : N < 2 ^ 30) (i : Int32) (hout : i < 0 ∨ N ≤ i.toNatClampNeg) : MetX l yX0_cellOf (ws_ yX0_cellOf cX0_cellOf 3 (some .int)) ({ frames := 9, cells := 3, slots := 1210, locals := 10400 }) (aPre dC dI ct A ws [.ref ad, .int i]) "java/lang/ArrayIndexOutOfBoundsException" 3 1210 :=
  match lx, hlx, hk with
  | 0, _, hk => metX0_cellOf_xb l dC dI ct A ws htr k ad N f hk hN i hout
  | 1, _, hk => metX0_cellOf_xs l dC dI ct A ws htr k ad N f hk hN i hout
  | 2, _, hk => metX0_cellOf_xi l dC dI ct A ws htr k ad N f hk hN i hout
  | _ + 3, h9, _ => absurd h9 (by omega)
theorem metX0_asLane (l : Launch) (dC : Nat → ClassId) (dI : Nat → Nat → Nat) (ct : Nat → ClassId) (A : Nat → Prop) (ws : va_W) (k ad N : Nat) (f : Nat → Int32) (lx : Nat) (hlx : lx < 3) (hk : ws[k]? = some (ad, .inl (ct (lty lx), N, .inl f))) (hN : N < 2 ^ 30)  : Met l yX0_asLane (ws_ yX0_asLane cX0_asLane 2 (some (.object "java/lang/Object"))) ({ frames := 0, cells := 0, slots := 0, locals := 0 }) (aPre dC dI ct A ws [.ref ad, .int (nI lx)]) (va_Sr (fun _ => True) (fun _ => (.ref ad))) 0 0 (fun _ => False) :=
  match lx, hlx, hk with
  | 0, _, hk => metX0_asLane_b l dC dI ct A ws k ad N f hk hN 
  | 1, _, hk => metX0_asLane_s l dC dI ct A ws k ad N f hk hN 
  | 2, _, hk => metX0_asLane_i l dC dI ct A ws k ad N f hk hN 
  | _ + 3, h9, _ => absurd h9 (by omega)
theorem metX0_asLane_x (l : Launch) (dC : Nat → ClassId) (dI : Nat → Nat → Nat) (ct : Nat → ClassId) (A : Nat → Prop) (ws : va_W) (htr : l.stackTraces = false) (k ad N : Nat) (f : Nat → Int32) (lx : Nat) (hlx : lx < 3) (hk : ws[k]? = some (ad, .inl (ct (lty lx), N, .inl f))) (hN : N < 2 ^ 30) (lz : Nat) (hlz : lz < 3) (hne : lx ≠ lz) : MetX l yX0_asLane (ws_ yX0_asLane cX0_asLane 2 (some (.object "java/lang/Object"))) ({ frames := 9, cells := 3, slots := 1210, locals := 10400 }) (aPre dC dI ct A ws [.ref ad, .int (nI lz)]) "java/lang/ClassCastException" 3 1210 :=
  match lx, hlx, hk, lz, hlz, hne with
  | 0, _, hk, 1, _, _ => metX0_asLane_xbs l dC dI ct A ws htr k ad N f hk hN 
  | 0, _, hk, 2, _, _ => metX0_asLane_xbi l dC dI ct A ws htr k ad N f hk hN 
  | 1, _, hk, 0, _, _ => metX0_asLane_xsb l dC dI ct A ws htr k ad N f hk hN 
  | 1, _, hk, 2, _, _ => metX0_asLane_xsi l dC dI ct A ws htr k ad N f hk hN 
  | 2, _, hk, 0, _, _ => metX0_asLane_xib l dC dI ct A ws htr k ad N f hk hN 
  | 2, _, hk, 1, _, _ => metX0_asLane_xis l dC dI ct A ws htr k ad N f hk hN 
  | 0, _, _, 0, _, h9 => absurd rfl h9
  | 1, _, _, 1, _, h9 => absurd rfl h9
  | 2, _, _, 2, _, h9 => absurd rfl h9
  | _ + 3, h9, _, _, _, _ => absurd h9 (by omega)
  | _, _, _, _ + 3, h9, _ => absurd h9 (by omega)
theorem metX0_asLane_n (l : Launch) (dC : Nat → ClassId) (dI : Nat → Nat → Nat) (ct : Nat → ClassId) (A : Nat → Prop) (ws : va_W) (lz : Nat) (hlz : lz < 3) : Met l yX0_asLane (ws_ yX0_asLane cX0_asLane 2 (some (.object "java/lang/Object"))) ({ frames := 0, cells := 0, slots := 0, locals := 0 }) (aPre dC dI ct A ws [.null, .int (nI lz)]) (va_Sr (fun _ => True) (fun _ => .null)) 0 0 (fun _ => False) :=
  match lz, hlz with
  | 0, _ => metX0_asLane_nb l dC dI ct A ws
  | 1, _ => metX0_asLane_ns l dC dI ct A ws
  | 2, _ => metX0_asLane_ni l dC dI ct A ws
  | _ + 3, h9 => absurd h9 (by omega)
