/-! LENT YOUTHS: statics, and what looks at its core alone -/
set_option maxHeartbeats 4000000 in
set_option maxRecDepth 100000 in
theorem metX0_isIn (l : Launch) (v : Int64) (lo : Int64) (hi : Int64)  : Met l yX0_isIn (ws_ yX0_isIn cX0_isIn 6 (some .boolean)) ({ frames := 0, cells := 0, slots := 0, locals := 0 }) (va_Pc [.long v, .long lo, .long hi] (fun _ => True)) (vp_Si (fun r => r = (b2i (lin v lo hi)))) 0 0 (fun _ => False) := by
  refine Met.ofW (cc := cX0_isIn) (maxL := 6) (ret := (some .boolean)) (by decide) rfl ?_
  intro p e s m args below meth c s₁ B hml hv
  obtain ⟨rfl, -⟩ := hv
  have hx := B.exec
  have hb := B.bytes
  have hr := B.returns
  have hts := atoms_spec (ws := ws_ yX0_isIn cX0_isIn 6 (some .boolean)) B.pre
  have hts : ∀ w ∈ lw_all, w.before _ s = true := fun w h => hts w (List.mem_cons_of_mem _ h)
  have hown : s.vm.findClass RX0 = some m.cls := findClass_of_methodNamed B.named
  have hlocks := B.notSynchronized
  have hl := lv_entry ([.long v, .long lo, .long hi]) (n := 6) (Nat.le_of_ble_eq_true rfl)
  rw [lg_entry_eq]
  generalize (lg_sl ([.long v, .long lo, .long hi]) ++ List.replicate (6 - (lg_sl ([.long v, .long lo, .long hi])).length) Slot.unset).toArray = ls at hl ⊢
  have hl : lv_has ls 6 [(0, .long v), (2, .long lo), (4, .long hi)] := hl
  refine lv_lload_n hx hb dX0_isIn_0 rfl (lv_at hl 0 rfl) ?_
  refine lv_lload_n hx hb dX0_isIn_1 rfl (lv_at hl 1 rfl) ?_
  refine W.lcmp hx hb dX0_isIn_2 ?_
  refine lc_lt (tgt := 17) hx hb dX0_isIn_3 (by decide) (fun c_1 => ?_) (fun c_1 => ?_)
  · skip
    refine lv_iconst (v := 0) hx hb dX0_isIn_17 (by decide) ?_
    exact W.zret (v := 0) hx hb hr rfl (fun t ht hW => ⟨0, rfl, (by simp only [lin]; first | (rw [decide_eq_true (Int64.not_lt.mp c_1), decide_eq_true (Int64.not_lt.mp c_1)]; rfl) | (rw [decide_eq_true (Int64.not_lt.mp c_1), decide_eq_false (Int64.not_le.mpr c_1)]; rfl)  | (rw [decide_eq_false (Int64.not_le.mpr c_1)]; rfl)), ht⟩) (fun q h => by cases h) dX0_isIn_18
  · skip
    refine lv_lload_n hx hb dX0_isIn_6 rfl (lv_at hl 0 rfl) ?_
    refine lv_lload hx hb dX0_isIn_7 (lv_at hl 2 rfl) ?_
    refine W.lcmp hx hb dX0_isIn_9 ?_
    refine lc_gt (tgt := 17) hx hb dX0_isIn_10 (by decide) (fun c_2 => ?_) (fun c_2 => ?_)
    · skip
      refine lv_iconst (v := 0) hx hb dX0_isIn_17 (by decide) ?_
      exact W.zret (v := 0) hx hb hr rfl (fun t ht hW => ⟨0, rfl, (by simp only [lin]; first | (rw [decide_eq_true (Int64.not_lt.mp c_1), decide_eq_true (Int64.not_lt.mp c_2)]; rfl) | (rw [decide_eq_true (Int64.not_lt.mp c_1), decide_eq_false (Int64.not_le.mpr c_2)]; rfl)  | (rw [decide_eq_false (Int64.not_le.mpr c_1)]; rfl)), ht⟩) (fun q h => by cases h) dX0_isIn_18
    · skip
      refine lv_iconst (v := 1) hx hb dX0_isIn_13 (by decide) ?_
      refine lv_goto (tgt := 18) hx hb dX0_isIn_14 (by decide) ?_
      exact W.zret (v := 1) hx hb hr rfl (fun t ht hW => ⟨1, rfl, (by simp only [lin]; first | (rw [decide_eq_true (Int64.not_lt.mp c_1), decide_eq_true (Int64.not_lt.mp c_2)]; rfl) | (rw [decide_eq_true (Int64.not_lt.mp c_1), decide_eq_false (Int64.not_le.mpr c_2)]; rfl)  | (rw [decide_eq_false (Int64.not_le.mpr c_1)]; rfl)), ht⟩) (fun q h => by cases h) dX0_isIn_18
set_option maxHeartbeats 4000000 in
set_option maxRecDepth 100000 in
theorem metX0_isScene (l : Launch) (x : Int32)  : Met l yX0_isScene (ws_ yX0_isScene cX0_isScene 1 (some .boolean)) ({ frames := 1, cells := 0, slots := 0, locals := 25 }) (va_Pc [.int x] (fun _ => True)) (vp_Si (fun r => r = (b2i (inP x 6)))) 0 0 (fun _ => False) := by
  refine Met.ofW (cc := cX0_isScene) (maxL := 1) (ret := (some .boolean)) (by decide) rfl ?_
  intro p e s m args below meth c s₁ B hml hv
  obtain ⟨rfl, -⟩ := hv
  have hx := B.exec
  have hb := B.bytes
  have hr := B.returns
  have hts := atoms_spec (ws := ws_ yX0_isScene cX0_isScene 1 (some .boolean)) B.pre
  have hts : ∀ w ∈ lw_all, w.before _ s = true := fun w h => hts w (List.mem_cons_of_mem _ h)
  have hown : s.vm.findClass RX0 = some m.cls := findClass_of_methodNamed B.named
  have hlocks := B.notSynchronized
  have hl := lv_entry ([.int x]) (n := 1) (Nat.le_of_ble_eq_true rfl)
  rw [lg_entry_eq]
  generalize (lg_sl ([.int x]) ++ List.replicate (1 - (lg_sl ([.int x])).length) Slot.unset).toArray = ls at hl ⊢
  have hl : lv_has ls 1 [(0, .int x)] := hl
  refine lv_iload_n hx hb dX0_isScene_0 rfl (lv_at hl 0 rfl) ?_
  refine lv_i2l (v := (Int32.toInt64 x)) hx hb dX0_isScene_1 rfl ?_
  refine lv_lconst (v := 0) hx hb dX0_isScene_2 (by decide) ?_
  refine lv_ldc2 (v := 5) hx hb hown (hts _ q805) dX0_isScene_3 ?_
  refine vp_callSi ((va_runS (As := [.long (Int32.toInt64 x), .long 0, .long 5]) (rest := []) ⟨hx, hb, hml, hown, hts⟩ (metX0_isIn l (Int32.toInt64 x) 0 5 ) (va_cwS 3 hts (lw_S q380 q381 q69 q382) rfl rfl rfl (by decide +kernel) ⟨Nat.le_of_ble_eq_true rfl, Nat.le_of_ble_eq_true rfl⟩) (pcS _) rfl rfl hl.1 rfl (lv_room (Nat.le_of_ble_eq_true rfl)) dX0_isScene_6 ⟨Nat.zero_le _, Nat.zero_le _⟩)).run (fun r hw => ?_)
  have hw : r = (b2i (lin (Int32.toInt64 x) 0 5)) := hw
  subst hw
  exact W.zret (v := (b2i (lin (Int32.toInt64 x) 0 5))) hx hb hr (nar_b2i _) (fun t ht hW => ⟨(b2i (lin (Int32.toInt64 x) 0 5)), rfl, (by rw [lin_inP _ _ 6 (by decide)]), ht⟩) (fun q h => by cases h) dX0_isScene_9
set_option maxHeartbeats 4000000 in
set_option maxRecDepth 100000 in
theorem metX0_isSheet (l : Launch) (x : Int32)  : Met l yX0_isSheet (ws_ yX0_isSheet cX0_isSheet 1 (some .boolean)) ({ frames := 1, cells := 0, slots := 0, locals := 25 }) (va_Pc [.int x] (fun _ => True)) (vp_Si (fun r => r = (b2i (inP x 4)))) 0 0 (fun _ => False) := by
  refine Met.ofW (cc := cX0_isSheet) (maxL := 1) (ret := (some .boolean)) (by decide) rfl ?_
  intro p e s m args below meth c s₁ B hml hv
  obtain ⟨rfl, -⟩ := hv
  have hx := B.exec
  have hb := B.bytes
  have hr := B.returns
  have hts := atoms_spec (ws := ws_ yX0_isSheet cX0_isSheet 1 (some .boolean)) B.pre
  have hts : ∀ w ∈ lw_all, w.before _ s = true := fun w h => hts w (List.mem_cons_of_mem _ h)
  have hown : s.vm.findClass RX0 = some m.cls := findClass_of_methodNamed B.named
  have hlocks := B.notSynchronized
  have hl := lv_entry ([.int x]) (n := 1) (Nat.le_of_ble_eq_true rfl)
  rw [lg_entry_eq]
  generalize (lg_sl ([.int x]) ++ List.replicate (1 - (lg_sl ([.int x])).length) Slot.unset).toArray = ls at hl ⊢
  have hl : lv_has ls 1 [(0, .int x)] := hl
  refine lv_iload_n hx hb dX0_isSheet_0 rfl (lv_at hl 0 rfl) ?_
  refine lv_i2l (v := (Int32.toInt64 x)) hx hb dX0_isSheet_1 rfl ?_
  refine lv_lconst (v := 0) hx hb dX0_isSheet_2 (by decide) ?_
  refine lv_ldc2 (v := 3) hx hb hown (hts _ q379) dX0_isSheet_3 ?_
  refine vp_callSi ((va_runS (As := [.long (Int32.toInt64 x), .long 0, .long 3]) (rest := []) ⟨hx, hb, hml, hown, hts⟩ (metX0_isIn l (Int32.toInt64 x) 0 3 ) (va_cwS 3 hts (lw_S q380 q381 q69 q382) rfl rfl rfl (by decide +kernel) ⟨Nat.le_of_ble_eq_true rfl, Nat.le_of_ble_eq_true rfl⟩) (pcS _) rfl rfl hl.1 rfl (lv_room (Nat.le_of_ble_eq_true rfl)) dX0_isSheet_6 ⟨Nat.zero_le _, Nat.zero_le _⟩)).run (fun r hw => ?_)
  have hw : r = (b2i (lin (Int32.toInt64 x) 0 3)) := hw
  subst hw
  exact W.zret (v := (b2i (lin (Int32.toInt64 x) 0 3))) hx hb hr (nar_b2i _) (fun t ht hW => ⟨(b2i (lin (Int32.toInt64 x) 0 3)), rfl, (by rw [lin_inP _ _ 4 (by decide)]), ht⟩) (fun q h => by cases h) dX0_isSheet_9
set_option maxHeartbeats 4000000 in
set_option maxRecDepth 100000 in
theorem metX0_isLane (l : Launch) (x : Int32)  : Met l yX0_isLane (ws_ yX0_isLane cX0_isLane 1 (some .boolean)) ({ frames := 1, cells := 0, slots := 0, locals := 25 }) (va_Pc [.int x] (fun _ => True)) (vp_Si (fun r => r = (b2i (inP x 3)))) 0 0 (fun _ => False) := by
  refine Met.ofW (cc := cX0_isLane) (maxL := 1) (ret := (some .boolean)) (by decide) rfl ?_
  intro p e s m args below meth c s₁ B hml hv
  obtain ⟨rfl, -⟩ := hv
  have hx := B.exec
  have hb := B.bytes
  have hr := B.returns
  have hts := atoms_spec (ws := ws_ yX0_isLane cX0_isLane 1 (some .boolean)) B.pre
  have hts : ∀ w ∈ lw_all, w.before _ s = true := fun w h => hts w (List.mem_cons_of_mem _ h)
  have hown : s.vm.findClass RX0 = some m.cls := findClass_of_methodNamed B.named
  have hlocks := B.notSynchronized
  have hl := lv_entry ([.int x]) (n := 1) (Nat.le_of_ble_eq_true rfl)
  rw [lg_entry_eq]
  generalize (lg_sl ([.int x]) ++ List.replicate (1 - (lg_sl ([.int x])).length) Slot.unset).toArray = ls at hl ⊢
  have hl : lv_has ls 1 [(0, .int x)] := hl
  refine lv_iload_n hx hb dX0_isLane_0 rfl (lv_at hl 0 rfl) ?_
  refine lv_i2l (v := (Int32.toInt64 x)) hx hb dX0_isLane_1 rfl ?_
  refine lv_lconst (v := 0) hx hb dX0_isLane_2 (by decide) ?_
  refine lv_ldc2 (v := 2) hx hb hown (hts _ q386) dX0_isLane_3 ?_
  refine vp_callSi ((va_runS (As := [.long (Int32.toInt64 x), .long 0, .long 2]) (rest := []) ⟨hx, hb, hml, hown, hts⟩ (metX0_isIn l (Int32.toInt64 x) 0 2 ) (va_cwS 3 hts (lw_S q380 q381 q69 q382) rfl rfl rfl (by decide +kernel) ⟨Nat.le_of_ble_eq_true rfl, Nat.le_of_ble_eq_true rfl⟩) (pcS _) rfl rfl hl.1 rfl (lv_room (Nat.le_of_ble_eq_true rfl)) dX0_isLane_6 ⟨Nat.zero_le _, Nat.zero_le _⟩)).run (fun r hw => ?_)
  have hw : r = (b2i (lin (Int32.toInt64 x) 0 2)) := hw
  subst hw
  exact W.zret (v := (b2i (lin (Int32.toInt64 x) 0 2))) hx hb hr (nar_b2i _) (fun t ht hW => ⟨(b2i (lin (Int32.toInt64 x) 0 2)), rfl, (by rw [lin_inP _ _ 3 (by decide)]), ht⟩) (fun q h => by cases h) dX0_isLane_9
set_option maxHeartbeats 4000000 in
set_option maxRecDepth 100000 in
theorem metX0_isOf (l : Launch) (x : Int32) (k : Int32)  : Met l yX0_isOf (ws_ yX0_isOf cX0_isOf 2 (some .boolean)) ({ frames := 0, cells := 0, slots := 0, locals := 0 }) (va_Pc [.int x, .int k] (fun _ => True)) (vp_Si (fun r => r = (b2i (bq x k)))) 0 0 (fun _ => False) := by
  refine Met.ofW (cc := cX0_isOf) (maxL := 2) (ret := (some .boolean)) (by decide) rfl ?_
  intro p e s m args below meth c s₁ B hml hv
  obtain ⟨rfl, -⟩ := hv
  have hx := B.exec
  have hb := B.bytes
  have hr := B.returns
  have hts := atoms_spec (ws := ws_ yX0_isOf cX0_isOf 2 (some .boolean)) B.pre
  have hts : ∀ w ∈ lw_all, w.before _ s = true := fun w h => hts w (List.mem_cons_of_mem _ h)
  have hown : s.vm.findClass RX0 = some m.cls := findClass_of_methodNamed B.named
  have hlocks := B.notSynchronized
  have hl := lv_entry ([.int x, .int k]) (n := 2) (Nat.le_of_ble_eq_true rfl)
  rw [lg_entry_eq]
  generalize (lg_sl ([.int x, .int k]) ++ List.replicate (2 - (lg_sl ([.int x, .int k])).length) Slot.unset).toArray = ls at hl ⊢
  have hl : lv_has ls 2 [(0, .int x), (1, .int k)] := hl
  refine lv_iload_n hx hb dX0_isOf_0 rfl (lv_at hl 0 rfl) ?_
  refine lv_iload_n hx hb dX0_isOf_1 rfl (lv_at hl 1 rfl) ?_
  refine lv_ishr hx hb dX0_isOf_2 ?_
  refine lv_iconst (v := 1) hx hb dX0_isOf_3 (by decide) ?_
  refine lv_iand hx hb dX0_isOf_4 ?_
  refine lv_iconst (v := 1) hx hb dX0_isOf_5 (by decide) ?_
  refine lv_icmp_ne (tgt := 13) hx hb dX0_isOf_6 (by decide) (fun c_1 => ?_) (fun c_1 => ?_)
  · skip
    refine lv_iconst (v := 0) hx hb dX0_isOf_13 (by decide) ?_
    exact W.zret (v := 0) hx hb hr rfl (fun t ht hW => ⟨0, rfl, (by first | rfl | (simp [b2i, bq, c_1]; done)), ht⟩) (fun q h => by cases h) dX0_isOf_14
  · skip
    refine lv_iconst (v := 1) hx hb dX0_isOf_9 (by decide) ?_
    refine lv_goto (tgt := 14) hx hb dX0_isOf_10 (by decide) ?_
    exact W.zret (v := 1) hx hb hr rfl (fun t ht hW => ⟨1, rfl, (by first | rfl | (simp [b2i, bq, c_1]; done)), ht⟩) (fun q h => by cases h) dX0_isOf_14
set_option maxHeartbeats 4000000 in
set_option maxRecDepth 100000 in
theorem metX0_asKind (l : Launch) (x : Int32) (k : Int32)  : Met l yX0_asKind (ws_ yX0_asKind cX0_asKind 2 (some .int)) ({ frames := 0, cells := 0, slots := 0, locals := 0 }) (va_Pc [.int x, .int k] (fun _ => True)) (vp_Si (fun r => r = (lastsV k x))) 0 0 (fun _ => False) := by
  refine Met.ofW (cc := cX0_asKind) (maxL := 2) (ret := (some .int)) (by decide) rfl ?_
  intro p e s m args below meth c s₁ B hml hv
  obtain ⟨rfl, -⟩ := hv
  have hx := B.exec
  have hb := B.bytes
  have hr := B.returns
  have hts := atoms_spec (ws := ws_ yX0_asKind cX0_asKind 2 (some .int)) B.pre
  have hts : ∀ w ∈ lw_all, w.before _ s = true := fun w h => hts w (List.mem_cons_of_mem _ h)
  have hown : s.vm.findClass RX0 = some m.cls := findClass_of_methodNamed B.named
  have hlocks := B.notSynchronized
  have hl := lv_entry ([.int x, .int k]) (n := 2) (Nat.le_of_ble_eq_true rfl)
  rw [lg_entry_eq]
  generalize (lg_sl ([.int x, .int k]) ++ List.replicate (2 - (lg_sl ([.int x, .int k])).length) Slot.unset).toArray = ls at hl ⊢
  have hl : lv_has ls 2 [(0, .int x), (1, .int k)] := hl
  refine lv_iload_n hx hb dX0_asKind_0 rfl (lv_at hl 1 rfl) ?_
  refine lv_if_ne (tgt := 8) hx hb dX0_asKind_1 (by decide) (fun c_1 => ?_) (fun c_1 => ?_)
  · skip
    refine lv_iload_n hx hb dX0_asKind_8 rfl (lv_at hl 1 rfl) ?_
    refine lv_iconst (v := 1) hx hb dX0_asKind_9 (by decide) ?_
    refine lv_icmp_ne (tgt := 19) hx hb dX0_asKind_10 (by decide) (fun c_2 => ?_) (fun c_2 => ?_)
    · skip
      refine lv_iconst (v := 2) hx hb dX0_asKind_19 (by decide) ?_
      refine lv_iload_n hx hb dX0_asKind_20 rfl (lv_at hl 0 rfl) ?_
      refine lv_iconst (v := 1) hx hb dX0_asKind_21 (by decide) ?_
      refine lv_iadd hx hb dX0_asKind_22 ?_
      refine lv_imul hx hb dX0_asKind_23 ?_
      exact W.iret (v := (2 * (x + 1))) hx hb hr (fun t ht hW => ⟨(2 * (x + 1)), rfl, (by first | rfl | (simp [lastsV, c_1, c_2]; done)), ht⟩) (fun q h => by cases h) dX0_asKind_24
    · skip
      refine lv_iload_n hx hb dX0_asKind_13 rfl (lv_at hl 0 rfl) ?_
      refine lv_iconst (v := 1) hx hb dX0_asKind_14 (by decide) ?_
      refine lv_iadd hx hb dX0_asKind_15 ?_
      refine lv_goto (tgt := 24) hx hb dX0_asKind_16 (by decide) ?_
      exact W.iret (v := (x + 1)) hx hb hr (fun t ht hW => ⟨(x + 1), rfl, (by first | rfl | (simp [lastsV, c_1, c_2]; done)), ht⟩) (fun q h => by cases h) dX0_asKind_24
  · skip
    refine lv_iload_n hx hb dX0_asKind_4 rfl (lv_at hl 0 rfl) ?_
    refine lv_goto (tgt := 24) hx hb dX0_asKind_5 (by decide) ?_
    exact W.iret (v := x) hx hb hr (fun t ht hW => ⟨x, rfl, (by first | rfl | (simp [lastsV, c_1]; done)), ht⟩) (fun q h => by cases h) dX0_asKind_24
set_option maxHeartbeats 4000000 in
set_option maxRecDepth 100000 in
theorem metX0_isWhat (l : Launch) (x : Int32)  : Met l yX0_isWhat (ws_ yX0_isWhat cX0_isWhat 1 (some .boolean)) ({ frames := 1, cells := 0, slots := 0, locals := 25 }) (va_Pc [.int x] (fun _ => True)) (vp_Si (fun r => r = (b2i (whatV x)))) 0 0 (fun _ => False) := by
  refine Met.ofW (cc := cX0_isWhat) (maxL := 1) (ret := (some .boolean)) (by decide) rfl ?_
  intro p e s m args below meth c s₁ B hml hv
  obtain ⟨rfl, -⟩ := hv
  have hx := B.exec
  have hb := B.bytes
  have hr := B.returns
  have hts := atoms_spec (ws := ws_ yX0_isWhat cX0_isWhat 1 (some .boolean)) B.pre
  have hts : ∀ w ∈ lw_all, w.before _ s = true := fun w h => hts w (List.mem_cons_of_mem _ h)
  have hown : s.vm.findClass RX0 = some m.cls := findClass_of_methodNamed B.named
  have hlocks := B.notSynchronized
  have hl := lv_entry ([.int x]) (n := 1) (Nat.le_of_ble_eq_true rfl)
  rw [lg_entry_eq]
  generalize (lg_sl ([.int x]) ++ List.replicate (1 - (lg_sl ([.int x])).length) Slot.unset).toArray = ls at hl ⊢
  have hl : lv_has ls 1 [(0, .int x)] := hl
  refine lv_iload_n hx hb dX0_isWhat_0 rfl (lv_at hl 0 rfl) ?_
  refine lv_i2l (v := (Int32.toInt64 x)) hx hb dX0_isWhat_1 rfl ?_
  refine lv_lconst (v := 0) hx hb dX0_isWhat_2 (by decide) ?_
  refine lv_ldc2 (v := 3) hx hb hown (hts _ q379) dX0_isWhat_3 ?_
  refine vp_callSi ((va_runS (As := [.long (Int32.toInt64 x), .long 0, .long 3]) (rest := []) ⟨hx, hb, hml, hown, hts⟩ (metX0_isIn l (Int32.toInt64 x) 0 3 ) (va_cwS 3 hts (lw_S q380 q381 q69 q382) rfl rfl rfl (by decide +kernel) ⟨Nat.le_of_ble_eq_true rfl, Nat.le_of_ble_eq_true rfl⟩) (pcS _) rfl rfl hl.1 rfl (lv_room (Nat.le_of_ble_eq_true rfl)) dX0_isWhat_6 ⟨Nat.zero_le _, Nat.zero_le _⟩)).run (fun r hw => ?_)
  have hw : r = (b2i (lin (Int32.toInt64 x) 0 3)) := hw
  subst hw
  refine bz_ne (tgt := 54) hx hb dX0_isWhat_9 (by decide) (fun c_1 => ?_) (fun c_1 => ?_)
  · skip
    refine lv_iconst (v := 1) hx hb dX0_isWhat_54 (by decide) ?_
    refine lv_goto (tgt := 59) hx hb dX0_isWhat_55 (by decide) ?_
    exact W.zret (v := 1) hx hb hr rfl (fun t ht hW => ⟨1, rfl, (by first | rfl | (simp [b2i, whatV, c_1]; done)), ht⟩) (fun q h => by cases h) dX0_isWhat_59
  · skip
    refine lv_iload_n hx hb dX0_isWhat_12 rfl (lv_at hl 0 rfl) ?_
    refine lv_i2l (v := (Int32.toInt64 x)) hx hb dX0_isWhat_13 rfl ?_
    refine lv_ldc2 (v := 10) hx hb hown (hts _ q667) dX0_isWhat_14 ?_
    refine lv_ldc2 (v := 15) hx hb hown (hts _ q668) dX0_isWhat_17 ?_
    refine vp_callSi ((va_runS (As := [.long (Int32.toInt64 x), .long 10, .long 15]) (rest := []) ⟨hx, hb, hml, hown, hts⟩ (metX0_isIn l (Int32.toInt64 x) 10 15 ) (va_cwS 3 hts (lw_S q380 q381 q69 q382) rfl rfl rfl (by decide +kernel) ⟨Nat.le_of_ble_eq_true rfl, Nat.le_of_ble_eq_true rfl⟩) (pcS _) rfl rfl hl.1 rfl (lv_room (Nat.le_of_ble_eq_true rfl)) dX0_isWhat_20 ⟨Nat.zero_le _, Nat.zero_le _⟩)).run (fun r hw => ?_)
    have hw : r = (b2i (lin (Int32.toInt64 x) 10 15)) := hw
    subst hw
    refine bz_ne (tgt := 54) hx hb dX0_isWhat_23 (by decide) (fun c_2 => ?_) (fun c_2 => ?_)
    · skip
      refine lv_iconst (v := 1) hx hb dX0_isWhat_54 (by decide) ?_
      refine lv_goto (tgt := 59) hx hb dX0_isWhat_55 (by decide) ?_
      exact W.zret (v := 1) hx hb hr rfl (fun t ht hW => ⟨1, rfl, (by first | rfl | (simp [b2i, whatV, c_1, c_2]; done)), ht⟩) (fun q h => by cases h) dX0_isWhat_59
    · skip
      refine lv_iload_n hx hb dX0_isWhat_26 rfl (lv_at hl 0 rfl) ?_
      refine lv_i2l (v := (Int32.toInt64 x)) hx hb dX0_isWhat_27 rfl ?_
      refine lv_ldc2 (v := 20) hx hb hown (hts _ q663) dX0_isWhat_28 ?_
      refine lv_ldc2 (v := 25) hx hb hown (hts _ q669) dX0_isWhat_31 ?_
      refine vp_callSi ((va_runS (As := [.long (Int32.toInt64 x), .long 20, .long 25]) (rest := []) ⟨hx, hb, hml, hown, hts⟩ (metX0_isIn l (Int32.toInt64 x) 20 25 ) (va_cwS 3 hts (lw_S q380 q381 q69 q382) rfl rfl rfl (by decide +kernel) ⟨Nat.le_of_ble_eq_true rfl, Nat.le_of_ble_eq_true rfl⟩) (pcS _) rfl rfl hl.1 rfl (lv_room (Nat.le_of_ble_eq_true rfl)) dX0_isWhat_34 ⟨Nat.zero_le _, Nat.zero_le _⟩)).run (fun r hw => ?_)
      have hw : r = (b2i (lin (Int32.toInt64 x) 20 25)) := hw
      subst hw
      refine bz_ne (tgt := 54) hx hb dX0_isWhat_37 (by decide) (fun c_3 => ?_) (fun c_3 => ?_)
      · skip
        refine lv_iconst (v := 1) hx hb dX0_isWhat_54 (by decide) ?_
        refine lv_goto (tgt := 59) hx hb dX0_isWhat_55 (by decide) ?_
        exact W.zret (v := 1) hx hb hr rfl (fun t ht hW => ⟨1, rfl, (by first | rfl | (simp [b2i, whatV, c_1, c_2, c_3]; done)), ht⟩) (fun q h => by cases h) dX0_isWhat_59
      · skip
        refine lv_iload_n hx hb dX0_isWhat_40 rfl (lv_at hl 0 rfl) ?_
        refine lv_i2l (v := (Int32.toInt64 x)) hx hb dX0_isWhat_41 rfl ?_
        refine lv_ldc2 (v := 30) hx hb hown (hts _ q670) dX0_isWhat_42 ?_
        refine lv_ldc2 (v := 35) hx hb hown (hts _ q671) dX0_isWhat_45 ?_
        refine vp_callSi ((va_runS (As := [.long (Int32.toInt64 x), .long 30, .long 35]) (rest := []) ⟨hx, hb, hml, hown, hts⟩ (metX0_isIn l (Int32.toInt64 x) 30 35 ) (va_cwS 3 hts (lw_S q380 q381 q69 q382) rfl rfl rfl (by decide +kernel) ⟨Nat.le_of_ble_eq_true rfl, Nat.le_of_ble_eq_true rfl⟩) (pcS _) rfl rfl hl.1 rfl (lv_room (Nat.le_of_ble_eq_true rfl)) dX0_isWhat_48 ⟨Nat.zero_le _, Nat.zero_le _⟩)).run (fun r hw => ?_)
        have hw : r = (b2i (lin (Int32.toInt64 x) 30 35)) := hw
        subst hw
        refine bz_eq (tgt := 58) hx hb dX0_isWhat_51 (by decide) (fun c_4 => ?_) (fun c_4 => ?_)
        · skip
          refine lv_iconst (v := 0) hx hb dX0_isWhat_58 (by decide) ?_
          exact W.zret (v := 0) hx hb hr rfl (fun t ht hW => ⟨0, rfl, (by first | rfl | (simp [b2i, whatV, c_1, c_2, c_3, c_4]; done)), ht⟩) (fun q h => by cases h) dX0_isWhat_59
        · skip
          refine lv_iconst (v := 1) hx hb dX0_isWhat_54 (by decide) ?_
          refine lv_goto (tgt := 59) hx hb dX0_isWhat_55 (by decide) ?_
          exact W.zret (v := 1) hx hb hr rfl (fun t ht hW => ⟨1, rfl, (by first | rfl | (simp [b2i, whatV, c_1, c_2, c_3, c_4]; done)), ht⟩) (fun q h => by cases h) dX0_isWhat_59
set_option maxHeartbeats 4000000 in
set_option maxRecDepth 100000 in
theorem metX0_faulty (l : Launch) (dC : Nat → ClassId) (dI : Nat → Nat → Nat) (ct : Nat → ClassId) (A : Nat → Prop) (ex : va_W) (o : Nat) (q : Nat → Nat) (ql qs : Nat) (md : Int32) (qe n : Nat) (g : Nat → Int32) (a : Nat → Nat → Int32) (x : Int32)  : Met l yX0_faulty (ws_ yX0_faulty cX0_faulty 2 (some .int)) ({ frames := 0, cells := 0, slots := 0, locals := 0 }) (xPre dC dI ct A ex o q (ql, qs, md, qe, n) g a [.ref o, .int x]) (va_Qi (fun (r : Int32) (u : (Nat → Int32) × (Nat → Nat → Int32)) => r = ((-10) - x) ∧ u = ((upd g 0 x), a)) (xB dC dI ct A ex o q (ql, qs, md, qe, n)) A) 0 0 A := by
  refine Met.ofW (cc := cX0_faulty) (maxL := 2) (ret := (some .int)) (by decide) rfl ?_
  intro p e s m args below meth c s₁ B hml hv
  obtain ⟨rfl, hP, hK, hD, hE⟩ := hv
  have hx := B.exec
  have hb := B.bytes
  have hr := B.returns
  have hts := atoms_spec (ws := ws_ yX0_faulty cX0_faulty 2 (some .int)) B.pre
  have hts : ∀ w ∈ lw_all, w.before _ s = true := fun w h => hts w (List.mem_cons_of_mem _ h)
  have hown : s.vm.findClass RX0 = some m.cls := findClass_of_methodNamed B.named
  have hlocks := B.notSynchronized
  have hS : va_S A s.heap s.heap [] := va_S.rf
  have hl := lv_entry ([.ref o, .int x]) (n := 2) (Nat.le_of_ble_eq_true rfl)
  rw [lg_entry_eq]
  generalize (lg_sl ([.ref o, .int x]) ++ List.replicate (2 - (lg_sl ([.ref o, .int x])).length) Slot.unset).toArray = ls at hl ⊢
  have hl : lv_has ls 2 [(0, .ref o), (1, .int x)] := hl
  refine lv_aload_n hx hb dX0_faulty_0 rfl (lv_at hl 0 rfl) ?_
  refine lv_iload_n hx hb dX0_faulty_1 rfl (lv_at hl 1 rfl) ?_
  refine x_put (v := x) hx hb hts hown hK hP hD hS 0 0 (by decide) rfl q144 rfl rfl (by decide +kernel) dX0_faulty_2 (fun H locs hP hD hS => ?_)
  refine lv_bipush (v := (-10)) hx hb dX0_faulty_5 (by decide) ?_
  refine lv_iload_n hx hb dX0_faulty_7 rfl (lv_at hl 1 rfl) ?_
  refine lv_isub hx hb dX0_faulty_8 ?_
  exact W.iret (v := ((-10) - x)) hx hb hr (fun t ht hW => ⟨⟨((-10) - x), ((upd g 0 x), a), rfl, ⟨(by first | rfl | (simp []; done)), rfl⟩, by rw [ht]; exact hP, va_K.moved hW.alike hK, hD⟩, hS.F ht⟩) hS.2.2 dX0_faulty_9
set_option maxHeartbeats 4000000 in
set_option maxRecDepth 100000 in
theorem metX0_lost (l : Launch) (dC : Nat → ClassId) (dI : Nat → Nat → Nat) (ct : Nat → ClassId) (A : Nat → Prop) (ex : va_W) (o : Nat) (q : Nat → Nat) (ql qs : Nat) (md : Int32) (qe n : Nat) (g : Nat → Int32) (a : Nat → Nat → Int32) (x : Int32)  : Met l yX0_lost (ws_ yX0_lost cX0_lost 2 (some .long)) ({ frames := 0, cells := 0, slots := 0, locals := 0 }) (xPre dC dI ct A ex o q (ql, qs, md, qe, n) g a [.ref o, .int x]) (va_Ql (fun (r : Int64) (u : (Nat → Int32) × (Nat → Nat → Int32)) => r = (-9223372036854775808) ∧ u = ((upd g 0 x), a)) (xB dC dI ct A ex o q (ql, qs, md, qe, n)) A) 0 0 A := by
  refine Met.ofW (cc := cX0_lost) (maxL := 2) (ret := (some .long)) (by decide) rfl ?_
  intro p e s m args below meth c s₁ B hml hv
  obtain ⟨rfl, hP, hK, hD, hE⟩ := hv
  have hx := B.exec
  have hb := B.bytes
  have hr := B.returns
  have hts := atoms_spec (ws := ws_ yX0_lost cX0_lost 2 (some .long)) B.pre
  have hts : ∀ w ∈ lw_all, w.before _ s = true := fun w h => hts w (List.mem_cons_of_mem _ h)
  have hown : s.vm.findClass RX0 = some m.cls := findClass_of_methodNamed B.named
  have hlocks := B.notSynchronized
  have hS : va_S A s.heap s.heap [] := va_S.rf
  have hl := lv_entry ([.ref o, .int x]) (n := 2) (Nat.le_of_ble_eq_true rfl)
  rw [lg_entry_eq]
  generalize (lg_sl ([.ref o, .int x]) ++ List.replicate (2 - (lg_sl ([.ref o, .int x])).length) Slot.unset).toArray = ls at hl ⊢
  have hl : lv_has ls 2 [(0, .ref o), (1, .int x)] := hl
  refine lv_aload_n hx hb dX0_lost_0 rfl (lv_at hl 0 rfl) ?_
  refine lv_iload_n hx hb dX0_lost_1 rfl (lv_at hl 1 rfl) ?_
  refine x_put (v := x) hx hb hts hown hK hP hD hS 0 0 (by decide) rfl q144 rfl rfl (by decide +kernel) dX0_lost_2 (fun H locs hP hD hS => ?_)
  refine lv_ldc2 (v := (-9223372036854775808)) hx hb hown (hts _ q846) dX0_lost_5 ?_
  exact W.lret (v := (-9223372036854775808)) hx hb hr (fun t ht hW => ⟨⟨(-9223372036854775808), ((upd g 0 x), a), rfl, ⟨(by first | rfl | (simp []; done)), rfl⟩, by rw [ht]; exact hP, va_K.moved hW.alike hK, hD⟩, hS.F ht⟩) hS.2.2 dX0_lost_8
set_option maxHeartbeats 4000000 in
set_option maxRecDepth 100000 in
theorem metX0_begins (l : Launch) (dC : Nat → ClassId) (dI : Nat → Nat → Nat) (ct : Nat → ClassId) (A : Nat → Prop) (ex : va_W) (o : Nat) (q : Nat → Nat) (ql qs : Nat) (md : Int32) (qe n : Nat) (g : Nat → Int32) (a : Nat → Nat → Int32) (x : Int32)  : Met l yX0_begins (ws_ yX0_begins cX0_begins 2 none) ({ frames := 0, cells := 0, slots := 0, locals := 0 }) (xPre dC dI ct A ex o q (ql, qs, md, qe, n) g a [.ref o, .int x]) (va_Qv (fun (u : (Nat → Int32) × (Nat → Nat → Int32)) => u = ((upd g 29 (31 * (g 29) + x)), a)) (xB dC dI ct A ex o q (ql, qs, md, qe, n)) A) 0 0 A := by
  refine Met.ofW (cc := cX0_begins) (maxL := 2) (ret := none) (by decide) rfl ?_
  intro p e s m args below meth c s₁ B hml hv
  obtain ⟨rfl, hP, hK, hD, hE⟩ := hv
  have hx := B.exec
  have hb := B.bytes
  have hr := B.returns
  have hts := atoms_spec (ws := ws_ yX0_begins cX0_begins 2 none) B.pre
  have hts : ∀ w ∈ lw_all, w.before _ s = true := fun w h => hts w (List.mem_cons_of_mem _ h)
  have hown : s.vm.findClass RX0 = some m.cls := findClass_of_methodNamed B.named
  have hlocks := B.notSynchronized
  have hS : va_S A s.heap s.heap [] := va_S.rf
  have hl := lv_entry ([.ref o, .int x]) (n := 2) (Nat.le_of_ble_eq_true rfl)
  rw [lg_entry_eq]
  generalize (lg_sl ([.ref o, .int x]) ++ List.replicate (2 - (lg_sl ([.ref o, .int x])).length) Slot.unset).toArray = ls at hl ⊢
  have hl : lv_has ls 2 [(0, .ref o), (1, .int x)] := hl
  refine lv_aload_n hx hb dX0_begins_0 rfl (lv_at hl 0 rfl) ?_
  refine lv_bipush (v := 31) hx hb dX0_begins_1 (by decide) ?_
  refine lv_aload_n hx hb dX0_begins_3 rfl (lv_at hl 0 rfl) ?_
  refine x_get (v := .int (g 29)) hx hb hts hown hK hP 1 (by decide) rfl q145 rfl dX0_begins_4 ?_
  refine lv_imul hx hb dX0_begins_7 ?_
  refine lv_iload_n hx hb dX0_begins_8 rfl (lv_at hl 1 rfl) ?_
  refine lv_iadd hx hb dX0_begins_9 ?_
  refine x_put (v := ((31 * (g 29)) + x)) hx hb hts hown hK hP hD hS 1 29 (by decide) rfl q145 rfl rfl (by decide +kernel) dX0_begins_10 (fun H locs hP hD hS => ?_)
  exact W.vret hx hb hr (fun t ht hW => ⟨⟨((upd g 29 ((31 * (g 29)) + x)), a), rfl, (by first | rfl | (simp []; done)), by rw [ht]; exact hP, va_K.moved hW.alike hK, hD⟩, hS.F ht⟩) hS.2.2 dX0_begins_13
set_option maxHeartbeats 4000000 in
set_option maxRecDepth 100000 in
theorem metX0_people (l : Launch) (dC : Nat → ClassId) (dI : Nat → Nat → Nat) (ct : Nat → ClassId) (A : Nat → Prop) (ex : va_W) (o : Nat) (q : Nat → Nat) (ql qs : Nat) (md : Int32) (qe n : Nat) (g : Nat → Int32) (a : Nat → Nat → Int32)   : Met l yX0_people (ws_ yX0_people cX0_people 1 (some .int)) ({ frames := 1, cells := 0, slots := 0, locals := 20 }) (xPre dC dI ct A ex o q (ql, qs, md, qe, n) g a [.ref o]) (vp_Si (fun r => r = (nI n))) 0 0 (fun _ => False) := by
  refine Met.ofW (cc := cX0_people) (maxL := 1) (ret := (some .int)) (by decide) rfl ?_
  intro p e s m args below meth c s₁ B hml hv
  obtain ⟨rfl, hP, hK, hD, hE⟩ := hv
  have hx := B.exec
  have hb := B.bytes
  have hr := B.returns
  have hts := atoms_spec (ws := ws_ yX0_people cX0_people 1 (some .int)) B.pre
  have hts : ∀ w ∈ lw_all, w.before _ s = true := fun w h => hts w (List.mem_cons_of_mem _ h)
  have hown : s.vm.findClass RX0 = some m.cls := findClass_of_methodNamed B.named
  have hlocks := B.notSynchronized
  have hS : va_S A s.heap s.heap [] := va_S.rf
  have hl := lv_entry ([.ref o]) (n := 1) (Nat.le_of_ble_eq_true rfl)
  rw [lg_entry_eq]
  generalize (lg_sl ([.ref o]) ++ List.replicate (1 - (lg_sl ([.ref o])).length) Slot.unset).toArray = ls at hl ⊢
  have hl : lv_has ls 1 [(0, .ref o)] := hl
  refine lv_aload_n hx hb dX0_people_0 rfl (lv_at hl 0 rfl) ?_
  refine x_get (v := .ref ql) hx hb hts hown hK hP 2 (by decide) rfl q146 rfl dX0_people_1 ?_
  refine va_csFi (va_runF (As := []) (rest := []) (jAt hK) ⟨hx, hb, hml, hown, hts⟩ (metJ2_size l dC dI ct (xC ct o q (ql, qs, md, qe, n) g a ++ ex) ql md qe n 14 rfl ) (va_cwF 0 hts (lw_F q598 q601 q603 q72 q605) rfl rfl rfl (xE_fw_size hE) (by decide +kernel) ⟨Nat.le_of_ble_eq_true rfl, Nat.le_of_ble_eq_true rfl⟩) (jPV (k := 14) (md := md) (qe := qe) (n := n) hK hP rfl _) rfl rfl hl.1 rfl (lv_room (Nat.le_of_ble_eq_true rfl)) dX0_people_4 ⟨Nat.zero_le _, Nat.zero_le _⟩) (fun r hw => ?_)
  have hw : r = (nI n) := hw
  subst hw
  exact W.iret (v := (nI n)) hx hb hr (fun t ht hW => ⟨(nI n), rfl, (by first | rfl | (simp []; done)), ht⟩) (fun q h => by cases h) dX0_people_9
set_option maxHeartbeats 4000000 in
set_option maxRecDepth 100000 in
theorem metX0_isCounter (l : Launch) (dC : Nat → ClassId) (dI : Nat → Nat → Nat) (ct : Nat → ClassId) (A : Nat → Prop) (ex : va_W) (o : Nat) (q : Nat → Nat) (ql qs : Nat) (md : Int32) (qe n : Nat) (g : Nat → Int32) (a : Nat → Nat → Int32)  (hn6 : n ≤ 6) : Met l yX0_isCounter (ws_ yX0_isCounter cX0_isCounter 1 (some .boolean)) ({ frames := 1, cells := 0, slots := 0, locals := 20 }) (xPre dC dI ct A ex o q (ql, qs, md, qe, n) g a [.ref o]) (vp_Si (fun r => r = (b2i (!(decide (n = 0)))))) 0 0 (fun _ => False) := by
  refine Met.ofW (cc := cX0_isCounter) (maxL := 1) (ret := (some .boolean)) (by decide) rfl ?_
  intro p e s m args below meth c s₁ B hml hv
  obtain ⟨rfl, hP, hK, hD, hE⟩ := hv
  have hx := B.exec
  have hb := B.bytes
  have hr := B.returns
  have hts := atoms_spec (ws := ws_ yX0_isCounter cX0_isCounter 1 (some .boolean)) B.pre
  have hts : ∀ w ∈ lw_all, w.before _ s = true := fun w h => hts w (List.mem_cons_of_mem _ h)
  have hown : s.vm.findClass RX0 = some m.cls := findClass_of_methodNamed B.named
  have hlocks := B.notSynchronized
  have hS : va_S A s.heap s.heap [] := va_S.rf
  have hl := lv_entry ([.ref o]) (n := 1) (Nat.le_of_ble_eq_true rfl)
  rw [lg_entry_eq]
  generalize (lg_sl ([.ref o]) ++ List.replicate (1 - (lg_sl ([.ref o])).length) Slot.unset).toArray = ls at hl ⊢
  have hl : lv_has ls 1 [(0, .ref o)] := hl
  refine lv_aload_n hx hb dX0_isCounter_0 rfl (lv_at hl 0 rfl) ?_
  refine x_get (v := .ref ql) hx hb hts hown hK hP 2 (by decide) rfl q146 rfl dX0_isCounter_1 ?_
  refine va_csFi (va_runF (As := []) (rest := []) (jAt hK) ⟨hx, hb, hml, hown, hts⟩ (metJ2_isEmpty l dC dI ct (xC ct o q (ql, qs, md, qe, n) g a ++ ex) ql md qe n 14 rfl (by omega)) (va_cwF 0 hts (lw_F q677 q680 q682 q72 q684) rfl rfl rfl (xE_fw_isEmpty hE) (by decide +kernel) ⟨Nat.le_of_ble_eq_true rfl, Nat.le_of_ble_eq_true rfl⟩) (jPV (k := 14) (md := md) (qe := qe) (n := n) hK hP rfl _) rfl rfl hl.1 rfl (lv_room (Nat.le_of_ble_eq_true rfl)) dX0_isCounter_4 ⟨Nat.zero_le _, Nat.zero_le _⟩) (fun r hw => ?_)
  have hw : r = (b2i (decide (n = 0))) := hw
  subst hw
  refine bz_ne (tgt := 16) hx hb dX0_isCounter_9 (by decide) (fun c_1 => ?_) (fun c_1 => ?_)
  · skip
    refine lv_iconst (v := 0) hx hb dX0_isCounter_16 (by decide) ?_
    exact W.zret (v := 0) hx hb hr rfl (fun t ht hW => ⟨0, rfl, (by first | rfl | (simp [b2i, c_1]; done)), ht⟩) (fun q h => by cases h) dX0_isCounter_17
  · skip
    refine lv_iconst (v := 1) hx hb dX0_isCounter_12 (by decide) ?_
    refine lv_goto (tgt := 17) hx hb dX0_isCounter_13 (by decide) ?_
    exact W.zret (v := 1) hx hb hr rfl (fun t ht hW => ⟨1, rfl, (by first | rfl | (simp [b2i, c_1]; done)), ht⟩) (fun q h => by cases h) dX0_isCounter_17
set_option maxHeartbeats 4000000 in
set_option maxRecDepth 100000 in
theorem metX0_isPerson (l : Launch) (dC : Nat → ClassId) (dI : Nat → Nat → Nat) (ct : Nat → ClassId) (A : Nat → Prop) (ex : va_W) (o : Nat) (q : Nat → Nat) (ql qs : Nat) (md : Int32) (qe n : Nat) (g : Nat → Int32) (a : Nat → Nat → Int32) (x : Int32) (hn6 : n ≤ 6) : Met l yX0_isPerson (ws_ yX0_isPerson cX0_isPerson 2 (some .boolean)) ({ frames := 2, cells := 0, slots := 0, locals := 40 }) (xPre dC dI ct A ex o q (ql, qs, md, qe, n) g a [.ref o, .int x]) (vp_Si (fun r => r = (b2i (inP x n)))) 0 0 (fun _ => False) := by
  refine Met.ofW (cc := cX0_isPerson) (maxL := 2) (ret := (some .boolean)) (by decide) rfl ?_
  intro p e s m args below meth c s₁ B hml hv
  obtain ⟨rfl, hP, hK, hD, hE⟩ := hv
  have hx := B.exec
  have hb := B.bytes
  have hr := B.returns
  have hts := atoms_spec (ws := ws_ yX0_isPerson cX0_isPerson 2 (some .boolean)) B.pre
  have hts : ∀ w ∈ lw_all, w.before _ s = true := fun w h => hts w (List.mem_cons_of_mem _ h)
  have hown : s.vm.findClass RX0 = some m.cls := findClass_of_methodNamed B.named
  have hlocks := B.notSynchronized
  have hS : va_S A s.heap s.heap [] := va_S.rf
  have hl := lv_entry ([.ref o, .int x]) (n := 2) (Nat.le_of_ble_eq_true rfl)
  rw [lg_entry_eq]
  generalize (lg_sl ([.ref o, .int x]) ++ List.replicate (2 - (lg_sl ([.ref o, .int x])).length) Slot.unset).toArray = ls at hl ⊢
  have hl : lv_has ls 2 [(0, .ref o), (1, .int x)] := hl
  refine lv_iload_n hx hb dX0_isPerson_0 rfl (lv_at hl 1 rfl) ?_
  refine lv_i2l (v := (Int32.toInt64 x)) hx hb dX0_isPerson_1 rfl ?_
  refine lv_lconst (v := 0) hx hb dX0_isPerson_2 (by decide) ?_
  refine lv_aload_n hx hb dX0_isPerson_3 rfl (lv_at hl 0 rfl) ?_
  refine vp_callSi ((va_runV (As := []) (rest := [.long 0, .long (Int32.toInt64 x)]) ⟨hx, hb, hml, hown, hts⟩ (metX0_people l dC dI ct A ex o q ql qs md qe n g a  ) (cwV 0 hts (lw_V q593 q595 qs14 q69 q596) rfl rfl rfl (by decide +kernel) ⟨Nat.le_of_ble_eq_true rfl, Nat.le_of_ble_eq_true rfl⟩) (xPV hK hP hD hE _) rfl rfl hl.1 rfl (lv_room (Nat.le_of_ble_eq_true rfl)) dX0_isPerson_4 ⟨Nat.zero_le _, Nat.zero_le _⟩)).run (fun r hw => ?_)
  have hw : r = (nI n) := hw
  subst hw
  refine lv_i2l (v := (Int32.toInt64 (nI n))) hx hb dX0_isPerson_7 rfl ?_
  refine lv_lconst (v := 1) hx hb dX0_isPerson_8 (by decide) ?_
  refine lv_lsub hx hb dX0_isPerson_9 ?_
  refine vp_callSi ((va_runS (As := [.long (Int32.toInt64 x), .long 0, .long ((Int32.toInt64 (nI n)) - 1)]) (rest := []) ⟨hx, hb, hml, hown, hts⟩ (metX0_isIn l (Int32.toInt64 x) 0 ((Int32.toInt64 (nI n)) - 1) ) (va_cwS 3 hts (lw_S q380 q381 q69 q382) rfl rfl rfl (by decide +kernel) ⟨Nat.le_of_ble_eq_true rfl, Nat.le_of_ble_eq_true rfl⟩) (pcS _) rfl rfl hl.1 rfl (lv_room (Nat.le_of_ble_eq_true rfl)) dX0_isPerson_10 ⟨Nat.zero_le _, Nat.zero_le _⟩)).run (fun r hw => ?_)
  have hw : r = (b2i (lin (Int32.toInt64 x) 0 ((Int32.toInt64 (nI n)) - 1))) := hw
  subst hw
  exact W.zret (v := (b2i (lin (Int32.toInt64 x) 0 ((Int32.toInt64 (nI n)) - 1)))) hx hb hr (nar_b2i _) (fun t ht hW => ⟨(b2i (lin (Int32.toInt64 x) 0 ((Int32.toInt64 (nI n)) - 1))), rfl, (by rw [lin_people _ (by omega)]), ht⟩) (fun q h => by cases h) dX0_isPerson_13
set_option maxHeartbeats 4000000 in
set_option maxRecDepth 100000 in
theorem metX0_all (l : Launch) (dC : Nat → ClassId) (dI : Nat → Nat → Nat) (ct : Nat → ClassId) (A : Nat → Prop) (ex : va_W) (o : Nat) (q : Nat → Nat) (ql qs : Nat) (md : Int32) (qe n : Nat) (g : Nat → Int32) (a : Nat → Nat → Int32)   : Met l yX0_all (ws_ yX0_all cX0_all 1 (some .int)) ({ frames := 2, cells := 0, slots := 0, locals := 40 }) (xPre dC dI ct A ex o q (ql, qs, md, qe, n) g a [.ref o]) (vp_Si (fun r => r = (evb n))) 0 0 (fun _ => False) := by
  refine Met.ofW (cc := cX0_all) (maxL := 1) (ret := (some .int)) (by decide) rfl ?_
  intro p e s m args below meth c s₁ B hml hv
  obtain ⟨rfl, hP, hK, hD, hE⟩ := hv
  have hx := B.exec
  have hb := B.bytes
  have hr := B.returns
  have hts := atoms_spec (ws := ws_ yX0_all cX0_all 1 (some .int)) B.pre
  have hts : ∀ w ∈ lw_all, w.before _ s = true := fun w h => hts w (List.mem_cons_of_mem _ h)
  have hown : s.vm.findClass RX0 = some m.cls := findClass_of_methodNamed B.named
  have hlocks := B.notSynchronized
  have hS : va_S A s.heap s.heap [] := va_S.rf
  have hl := lv_entry ([.ref o]) (n := 1) (Nat.le_of_ble_eq_true rfl)
  rw [lg_entry_eq]
  generalize (lg_sl ([.ref o]) ++ List.replicate (1 - (lg_sl ([.ref o])).length) Slot.unset).toArray = ls at hl ⊢
  have hl : lv_has ls 1 [(0, .ref o)] := hl
  refine lv_iconst (v := 1) hx hb dX0_all_0 (by decide) ?_
  refine lv_aload_n hx hb dX0_all_1 rfl (lv_at hl 0 rfl) ?_
  refine vp_callSi ((va_runV (As := []) (rest := [.int 1]) ⟨hx, hb, hml, hown, hts⟩ (metX0_people l dC dI ct A ex o q ql qs md qe n g a  ) (cwV 0 hts (lw_V q593 q595 qs14 q69 q596) rfl rfl rfl (by decide +kernel) ⟨Nat.le_of_ble_eq_true rfl, Nat.le_of_ble_eq_true rfl⟩) (xPV hK hP hD hE _) rfl rfl hl.1 rfl (lv_room (Nat.le_of_ble_eq_true rfl)) dX0_all_2 ⟨Nat.zero_le _, Nat.zero_le _⟩)).run (fun r hw => ?_)
  have hw : r = (nI n) := hw
  subst hw
  refine lv_ishl hx hb dX0_all_5 ?_
  refine lv_iconst (v := 1) hx hb dX0_all_6 (by decide) ?_
  refine lv_isub hx hb dX0_all_7 ?_
  exact W.iret (v := ((1 <<< ((nI n) &&& 31)) - 1)) hx hb hr (fun t ht hW => ⟨((1 <<< ((nI n) &&& 31)) - 1), rfl, (by first | rfl | (simp [evb]; done)), ht⟩) (fun q h => by cases h) dX0_all_8
set_option maxHeartbeats 4000000 in
set_option maxRecDepth 100000 in
theorem metX0_trace (l : Launch) (dC : Nat → ClassId) (dI : Nat → Nat → Nat) (ct : Nat → ClassId) (A : Nat → Prop) (ex : va_W) (o : Nat) (q : Nat → Nat) (ql qs : Nat) (md : Int32) (qe n : Nat) (g : Nat → Int32) (a : Nat → Nat → Int32)   : Met l yX0_trace (ws_ yX0_trace cX0_trace 1 (some .int)) ({ frames := 0, cells := 0, slots := 0, locals := 0 }) (xPre dC dI ct A ex o q (ql, qs, md, qe, n) g a [.ref o]) (vp_Si (fun r => r = (g 29))) 0 0 (fun _ => False) := by
  refine Met.ofW (cc := cX0_trace) (maxL := 1) (ret := (some .int)) (by decide) rfl ?_
  intro p e s m args below meth c s₁ B hml hv
  obtain ⟨rfl, hP, hK, hD, hE⟩ := hv
  have hx := B.exec
  have hb := B.bytes
  have hr := B.returns
  have hts := atoms_spec (ws := ws_ yX0_trace cX0_trace 1 (some .int)) B.pre
  have hts : ∀ w ∈ lw_all, w.before _ s = true := fun w h => hts w (List.mem_cons_of_mem _ h)
  have hown : s.vm.findClass RX0 = some m.cls := findClass_of_methodNamed B.named
  have hlocks := B.notSynchronized
  have hS : va_S A s.heap s.heap [] := va_S.rf
  have hl := lv_entry ([.ref o]) (n := 1) (Nat.le_of_ble_eq_true rfl)
  rw [lg_entry_eq]
  generalize (lg_sl ([.ref o]) ++ List.replicate (1 - (lg_sl ([.ref o])).length) Slot.unset).toArray = ls at hl ⊢
  have hl : lv_has ls 1 [(0, .ref o)] := hl
  refine lv_aload_n hx hb dX0_trace_0 rfl (lv_at hl 0 rfl) ?_
  refine x_get (v := .int (g 29)) hx hb hts hown hK hP 1 (by decide) rfl q145 rfl dX0_trace_1 ?_
  exact W.iret (v := (g 29)) hx hb hr (fun t ht hW => ⟨(g 29), rfl, (by first | rfl | (simp []; done)), ht⟩) (fun q h => by cases h) dX0_trace_4
set_option maxHeartbeats 4000000 in
set_option maxRecDepth 100000 in
theorem metX0_fault (l : Launch) (dC : Nat → ClassId) (dI : Nat → Nat → Nat) (ct : Nat → ClassId) (A : Nat → Prop) (ex : va_W) (o : Nat) (q : Nat → Nat) (ql qs : Nat) (md : Int32) (qe n : Nat) (g : Nat → Int32) (a : Nat → Nat → Int32)   : Met l yX0_fault (ws_ yX0_fault cX0_fault 1 (some .int)) ({ frames := 0, cells := 0, slots := 0, locals := 0 }) (xPre dC dI ct A ex o q (ql, qs, md, qe, n) g a [.ref o]) (vp_Si (fun r => r = (g 0))) 0 0 (fun _ => False) := by
  refine Met.ofW (cc := cX0_fault) (maxL := 1) (ret := (some .int)) (by decide) rfl ?_
  intro p e s m args below meth c s₁ B hml hv
  obtain ⟨rfl, hP, hK, hD, hE⟩ := hv
  have hx := B.exec
  have hb := B.bytes
  have hr := B.returns
  have hts := atoms_spec (ws := ws_ yX0_fault cX0_fault 1 (some .int)) B.pre
  have hts : ∀ w ∈ lw_all, w.before _ s = true := fun w h => hts w (List.mem_cons_of_mem _ h)
  have hown : s.vm.findClass RX0 = some m.cls := findClass_of_methodNamed B.named
  have hlocks := B.notSynchronized
  have hS : va_S A s.heap s.heap [] := va_S.rf
  have hl := lv_entry ([.ref o]) (n := 1) (Nat.le_of_ble_eq_true rfl)
  rw [lg_entry_eq]
  generalize (lg_sl ([.ref o]) ++ List.replicate (1 - (lg_sl ([.ref o])).length) Slot.unset).toArray = ls at hl ⊢
  have hl : lv_has ls 1 [(0, .ref o)] := hl
  refine lv_aload_n hx hb dX0_fault_0 rfl (lv_at hl 0 rfl) ?_
  refine x_get (v := .int (g 0)) hx hb hts hown hK hP 0 (by decide) rfl q144 rfl dX0_fault_1 ?_
  exact W.iret (v := (g 0)) hx hb hr (fun t ht hW => ⟨(g 0), rfl, (by first | rfl | (simp []; done)), ht⟩) (fun q h => by cases h) dX0_fault_4
set_option maxHeartbeats 4000000 in
set_option maxRecDepth 100000 in
theorem metX0_many (l : Launch) (dC : Nat → ClassId) (dI : Nat → Nat → Nat) (ct : Nat → ClassId) (A : Nat → Prop) (ex : va_W) (o : Nat) (q : Nat → Nat) (ql qs : Nat) (md : Int32) (qe n : Nat) (g : Nat → Int32) (a : Nat → Nat → Int32) (x : Int32)  : Met l yX0_many (ws_ yX0_many cX0_many 2 (some .int)) ({ frames := 2, cells := 0, slots := 0, locals := 40 }) (xPre dC dI ct A ex o q (ql, qs, md, qe, n) g a [.ref o, .int x]) (vp_Si (fun r => r = (if x = 0 then (nI n) else if x = 1 then (g 21) else (-2)))) 0 0 (fun _ => False) := by
  refine Met.ofW (cc := cX0_many) (maxL := 2) (ret := (some .int)) (by decide) rfl ?_
  intro p e s m args below meth c s₁ B hml hv
  obtain ⟨rfl, hP, hK, hD, hE⟩ := hv
  have hx := B.exec
  have hb := B.bytes
  have hr := B.returns
  have hts := atoms_spec (ws := ws_ yX0_many cX0_many 2 (some .int)) B.pre
  have hts : ∀ w ∈ lw_all, w.before _ s = true := fun w h => hts w (List.mem_cons_of_mem _ h)
  have hown : s.vm.findClass RX0 = some m.cls := findClass_of_methodNamed B.named
  have hlocks := B.notSynchronized
  have hS : va_S A s.heap s.heap [] := va_S.rf
  have hl := lv_entry ([.ref o, .int x]) (n := 2) (Nat.le_of_ble_eq_true rfl)
  rw [lg_entry_eq]
  generalize (lg_sl ([.ref o, .int x]) ++ List.replicate (2 - (lg_sl ([.ref o, .int x])).length) Slot.unset).toArray = ls at hl ⊢
  have hl : lv_has ls 2 [(0, .ref o), (1, .int x)] := hl
  refine lv_iload_n hx hb dX0_many_0 rfl (lv_at hl 1 rfl) ?_
  refine lv_if_ne (tgt := 11) hx hb dX0_many_1 (by decide) (fun c_1 => ?_) (fun c_1 => ?_)
  · skip
    refine lv_iload_n hx hb dX0_many_11 rfl (lv_at hl 1 rfl) ?_
    refine lv_iconst (v := 1) hx hb dX0_many_12 (by decide) ?_
    refine lv_icmp_ne (tgt := 23) hx hb dX0_many_13 (by decide) (fun c_2 => ?_) (fun c_2 => ?_)
    · skip
      refine lv_bipush (v := (-2)) hx hb dX0_many_23 (by decide) ?_
      exact W.iret (v := (-2)) hx hb hr (fun t ht hW => ⟨(-2), rfl, (by first | rfl | (simp [c_1, c_2]; done)), ht⟩) (fun q h => by cases h) dX0_many_25
    · skip
      refine lv_aload_n hx hb dX0_many_16 rfl (lv_at hl 0 rfl) ?_
      refine x_get (v := .int (g 21)) hx hb hts hown hK hP 21 (by decide) rfl q170 rfl dX0_many_17 ?_
      refine lv_goto (tgt := 25) hx hb dX0_many_20 (by decide) ?_
      exact W.iret (v := (g 21)) hx hb hr (fun t ht hW => ⟨(g 21), rfl, (by first | rfl | (simp [c_1, c_2]; done)), ht⟩) (fun q h => by cases h) dX0_many_25
  · skip
    refine lv_aload_n hx hb dX0_many_4 rfl (lv_at hl 0 rfl) ?_
    refine vp_callSi ((va_runV (As := []) (rest := []) ⟨hx, hb, hml, hown, hts⟩ (metX0_people l dC dI ct A ex o q ql qs md qe n g a  ) (cwV 0 hts (lw_V q593 q595 qs14 q69 q596) rfl rfl rfl (by decide +kernel) ⟨Nat.le_of_ble_eq_true rfl, Nat.le_of_ble_eq_true rfl⟩) (xPV hK hP hD hE _) rfl rfl hl.1 rfl (lv_room (Nat.le_of_ble_eq_true rfl)) dX0_many_5 ⟨Nat.zero_le _, Nat.zero_le _⟩)).run (fun r hw => ?_)
    have hw : r = (nI n) := hw
    subst hw
    refine lv_goto (tgt := 25) hx hb dX0_many_8 (by decide) ?_
    exact W.iret (v := (nI n)) hx hb hr (fun t ht hW => ⟨(nI n), rfl, (by first | rfl | (simp [c_1]; done)), ht⟩) (fun q h => by cases h) dX0_many_25
