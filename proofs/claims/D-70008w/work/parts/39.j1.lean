/-! THE LIST is read; small methods of the JDK -/
set_option maxHeartbeats 4000000 in
set_option maxRecDepth 100000 in
theorem metJ16_checkIndex (l : Launch) (i : Nat) (n : Nat) (hi : i < n) (hn : n < 2 ^ 31) : Met l yJ16_checkIndex (ws_ yJ16_checkIndex cJ16_checkIndex 3 (some .int)) ({ frames := 0, cells := 0, slots := 0, locals := 0 }) (va_Pc [.int (nI i), .int (nI n), .null] (fun _ => True)) (vp_Si (fun r => r = (nI i))) 0 0 (fun _ => False) := by
  refine Met.ofW (cc := cJ16_checkIndex) (maxL := 3) (ret := (some .int)) (by decide) rfl ?_
  intro p e s m args below meth c s₁ B hml hv
  obtain ⟨rfl, -⟩ := hv
  have hx := B.exec
  have hb := B.bytes
  have hr := B.returns
  have hts := atoms_spec (ws := ws_ yJ16_checkIndex cJ16_checkIndex 3 (some .int)) B.pre
  have hts : ∀ w ∈ lw_all, w.before _ s = true := fun w h => hts w (List.mem_cons_of_mem _ h)
  have hown : s.vm.findClass RJ16 = some m.cls := findClass_of_methodNamed B.named
  have hlocks := B.notSynchronized
  have hl := lv_entry ([.int (nI i), .int (nI n), .null]) (n := 3) (Nat.le_of_ble_eq_true rfl)
  rw [lg_entry_eq]
  generalize (lg_sl ([.int (nI i), .int (nI n), .null]) ++ List.replicate (3 - (lg_sl ([.int (nI i), .int (nI n), .null])).length) Slot.unset).toArray = ls at hl ⊢
  have hl : lv_has ls 3 [(0, .int (nI i)), (1, .int (nI n)), (2, .null)] := hl
  refine lv_iload_n hx hb dJ16_checkIndex_0 rfl (lv_at hl 0 rfl) ?_
  refine lv_if_lt (tgt := 9) hx hb dJ16_checkIndex_1 (by decide) (fun c_1 => ?_) (fun c_1 => ?_)
  · skip
    exact False.elim (by exact nI_pos (n := i) (by omega) c_1)
  · skip
    refine lv_iload_n hx hb dJ16_checkIndex_4 rfl (lv_at hl 0 rfl) ?_
    refine lv_iload_n hx hb dJ16_checkIndex_5 rfl (lv_at hl 1 rfl) ?_
    refine lv_icmp_lt (tgt := 16) hx hb dJ16_checkIndex_6 (by decide) (fun c_2 => ?_) (fun c_2 => ?_)
    · skip
      refine lv_iload_n hx hb dJ16_checkIndex_16 rfl (lv_at hl 0 rfl) ?_
      exact W.iret (v := (nI i)) hx hb hr (fun t ht hW => ⟨(nI i), rfl, (by first | rfl | (simp [c_1, c_2]; done)), ht⟩) (fun q h => by cases h) dJ16_checkIndex_17
    · skip
      exact False.elim (by exact c_2 (nI_lt hi hn))
set_option maxHeartbeats 4000000 in
set_option maxRecDepth 100000 in
theorem metJ15_checkIndex (l : Launch) (i : Nat) (n : Nat) (hi : i < n) (hn : n < 2 ^ 31) : Met l yJ15_checkIndex (ws_ yJ15_checkIndex cJ15_checkIndex 2 (some .int)) ({ frames := 1, cells := 0, slots := 0, locals := 22 }) (va_Pc [.int (nI i), .int (nI n)] (fun _ => True)) (vp_Si (fun r => r = (nI i))) 0 0 (fun _ => False) := by
  refine Met.ofW (cc := cJ15_checkIndex) (maxL := 2) (ret := (some .int)) (by decide) rfl ?_
  intro p e s m args below meth c s₁ B hml hv
  obtain ⟨rfl, -⟩ := hv
  have hx := B.exec
  have hb := B.bytes
  have hr := B.returns
  have hts := atoms_spec (ws := ws_ yJ15_checkIndex cJ15_checkIndex 2 (some .int)) B.pre
  have hts : ∀ w ∈ lw_all, w.before _ s = true := fun w h => hts w (List.mem_cons_of_mem _ h)
  have hown : s.vm.findClass RJ15 = some m.cls := findClass_of_methodNamed B.named
  have hlocks := B.notSynchronized
  have hl := lv_entry ([.int (nI i), .int (nI n)]) (n := 2) (Nat.le_of_ble_eq_true rfl)
  rw [lg_entry_eq]
  generalize (lg_sl ([.int (nI i), .int (nI n)]) ++ List.replicate (2 - (lg_sl ([.int (nI i), .int (nI n)])).length) Slot.unset).toArray = ls at hl ⊢
  have hl : lv_has ls 2 [(0, .int (nI i)), (1, .int (nI n))] := hl
  refine lv_iload_n hx hb dJ15_checkIndex_0 rfl (lv_at hl 0 rfl) ?_
  refine lv_iload_n hx hb dJ15_checkIndex_1 rfl (lv_at hl 1 rfl) ?_
  refine lv_null hx hb dJ15_checkIndex_2 ?_
  refine vp_callSi ((va_runS (As := [.int (nI i), .int (nI n), .null]) (rest := []) ⟨hx, hb, hml, hown, hts⟩ (metJ16_checkIndex l i n hi hn) (va_cwS 3 hts (lw_S q618 q619 q92 q620) rfl rfl rfl (by decide +kernel) ⟨Nat.le_of_ble_eq_true rfl, Nat.le_of_ble_eq_true rfl⟩) (pcS _) rfl rfl hl.1 rfl (lv_room (Nat.le_of_ble_eq_true rfl)) dJ15_checkIndex_3 ⟨Nat.zero_le _, Nat.zero_le _⟩)).run (fun r hw => ?_)
  have hw : r = (nI i) := hw
  subst hw
  exact W.iret (v := (nI i)) hx hb hr (fun t ht hW => ⟨(nI i), rfl, (by first | rfl | (simp []; done)), ht⟩) (fun q h => by cases h) dJ15_checkIndex_6
set_option maxHeartbeats 4000000 in
set_option maxRecDepth 100000 in
theorem metJ2_size (l : Launch) (dC : Nat → ClassId) (dI : Nat → Nat → Nat) (ct : Nat → ClassId) (ws : va_W) (ql : Nat) (md : Int32) (qe n k : Nat) (hk : ws[k]? = some (liE ql md qe n))   : Met l yJ2_size (ws_ yJ2_size cJ2_size 1 (some .int)) ({ frames := 0, cells := 0, slots := 0, locals := 0 }) (jPre dC dI ct ws [.ref ql]) (vp_Si (fun r => r = (nI n))) 0 0 (fun _ => False) := by
  refine Met.ofW (cc := cJ2_size) (maxL := 1) (ret := (some .int)) (by decide) rfl ?_
  intro p e s m args below meth c s₁ B hml hv
  obtain ⟨rfl, hP, hK⟩ := hv
  have hx := B.exec
  have hb := B.bytes
  have hr := B.returns
  have hts := atoms_spec (ws := ws_ yJ2_size cJ2_size 1 (some .int)) B.pre
  have hts : ∀ w ∈ lw_all, w.before _ s = true := fun w h => hts w (List.mem_cons_of_mem _ h)
  have hown : s.vm.findClass RJ2 = some m.cls := findClass_of_methodNamed B.named
  have hlocks := B.notSynchronized
  have hl := lv_entry ([.ref ql]) (n := 1) (Nat.le_of_ble_eq_true rfl)
  rw [lg_entry_eq]
  generalize (lg_sl ([.ref ql]) ++ List.replicate (1 - (lg_sl ([.ref ql])).length) Slot.unset).toArray = ls at hl ⊢
  have hl : lv_has ls 1 [(0, .ref ql)] := hl
  refine lv_aload_n hx hb dJ2_size_0 rfl (lv_at hl 0 rfl) ?_
  refine j_get (v := .int (nI n)) hx hb hts hown hK hP hk 2 (by decide) rfl q117 dJ2_size_1 ?_
  exact W.iret (v := (nI n)) hx hb hr (fun t ht hW => ⟨(nI n), rfl, (by first | rfl | (simp []; done)), ht⟩) (fun q h => by cases h) dJ2_size_4
set_option maxHeartbeats 4000000 in
set_option maxRecDepth 100000 in
theorem metJ2_isEmpty (l : Launch) (dC : Nat → ClassId) (dI : Nat → Nat → Nat) (ct : Nat → ClassId) (ws : va_W) (ql : Nat) (md : Int32) (qe n k : Nat) (hk : ws[k]? = some (liE ql md qe n))  (hn : n < 2 ^ 31) : Met l yJ2_isEmpty (ws_ yJ2_isEmpty cJ2_isEmpty 1 (some .boolean)) ({ frames := 0, cells := 0, slots := 0, locals := 0 }) (jPre dC dI ct ws [.ref ql]) (vp_Si (fun r => r = (b2i (decide (n = 0))))) 0 0 (fun _ => False) := by
  refine Met.ofW (cc := cJ2_isEmpty) (maxL := 1) (ret := (some .boolean)) (by decide) rfl ?_
  intro p e s m args below meth c s₁ B hml hv
  obtain ⟨rfl, hP, hK⟩ := hv
  have hx := B.exec
  have hb := B.bytes
  have hr := B.returns
  have hts := atoms_spec (ws := ws_ yJ2_isEmpty cJ2_isEmpty 1 (some .boolean)) B.pre
  have hts : ∀ w ∈ lw_all, w.before _ s = true := fun w h => hts w (List.mem_cons_of_mem _ h)
  have hown : s.vm.findClass RJ2 = some m.cls := findClass_of_methodNamed B.named
  have hlocks := B.notSynchronized
  have hl := lv_entry ([.ref ql]) (n := 1) (Nat.le_of_ble_eq_true rfl)
  rw [lg_entry_eq]
  generalize (lg_sl ([.ref ql]) ++ List.replicate (1 - (lg_sl ([.ref ql])).length) Slot.unset).toArray = ls at hl ⊢
  have hl : lv_has ls 1 [(0, .ref ql)] := hl
  refine lv_aload_n hx hb dJ2_isEmpty_0 rfl (lv_at hl 0 rfl) ?_
  refine j_get (v := .int (nI n)) hx hb hts hown hK hP hk 2 (by decide) rfl q117 dJ2_isEmpty_1 ?_
  refine lv_if_ne (tgt := 11) hx hb dJ2_isEmpty_4 (by decide) (fun c_1 => ?_) (fun c_1 => ?_)
  · skip
    refine lv_iconst (v := 0) hx hb dJ2_isEmpty_11 (by decide) ?_
    exact W.zret (v := 0) hx hb hr rfl (fun t ht hW => ⟨0, rfl, (by rw [decide_eq_false (fun h9 => c_1 (by rw [h9]; rfl))]; rfl), ht⟩) (fun q h => by cases h) dJ2_isEmpty_12
  · skip
    refine lv_iconst (v := 1) hx hb dJ2_isEmpty_7 (by decide) ?_
    refine lv_goto (tgt := 12) hx hb dJ2_isEmpty_8 (by decide) ?_
    exact W.zret (v := 1) hx hb hr rfl (fun t ht hW => ⟨1, rfl, (by rw [decide_eq_true ((nI_eq (b := 0) hn (by omega)).mp c_1)]; rfl), ht⟩) (fun q h => by cases h) dJ2_isEmpty_12
set_option maxHeartbeats 4000000 in
set_option maxRecDepth 100000 in
theorem metJ2_elementData (l : Launch) (dC : Nat → ClassId) (dI : Nat → Nat → Nat) (ct : Nat → ClassId) (ws : va_W) (ql : Nat) (md : Int32) (qe n k : Nat) (hk : ws[k]? = some (liE ql md qe n)) (j ke cap yj : Nat) (f : Nat → Option Nat) (hke : ws[ke]? = some (qe, .inl (ct 4, cap, .inr (.inr (.inr (.inr f)))))) (hj : j < cap) (hcap : cap < 2 ^ 31) (hf : f j = some yj) : Met l yJ2_elementData (ws_ yJ2_elementData cJ2_elementData 2 (some (.object "java/lang/Object"))) ({ frames := 0, cells := 0, slots := 0, locals := 0 }) (jPre dC dI ct ws [.ref ql, .int (nI j)]) (va_Sr (fun r => r = yj) (fun r => .ref r)) 0 0 (fun _ => False) := by
  refine Met.ofW (cc := cJ2_elementData) (maxL := 2) (ret := (some (.object "java/lang/Object"))) (by decide) rfl ?_
  intro p e s m args below meth c s₁ B hml hv
  obtain ⟨rfl, hP, hK⟩ := hv
  have hx := B.exec
  have hb := B.bytes
  have hr := B.returns
  have hts := atoms_spec (ws := ws_ yJ2_elementData cJ2_elementData 2 (some (.object "java/lang/Object"))) B.pre
  have hts : ∀ w ∈ lw_all, w.before _ s = true := fun w h => hts w (List.mem_cons_of_mem _ h)
  have hown : s.vm.findClass RJ2 = some m.cls := findClass_of_methodNamed B.named
  have hlocks := B.notSynchronized
  have hl := lv_entry ([.ref ql, .int (nI j)]) (n := 2) (Nat.le_of_ble_eq_true rfl)
  rw [lg_entry_eq]
  generalize (lg_sl ([.ref ql, .int (nI j)]) ++ List.replicate (2 - (lg_sl ([.ref ql, .int (nI j)])).length) Slot.unset).toArray = ls at hl ⊢
  have hl : lv_has ls 2 [(0, .ref ql), (1, .int (nI j))] := hl
  refine lv_aload_n hx hb dJ2_elementData_0 rfl (lv_at hl 0 rfl) ?_
  refine j_get (v := .ref qe) hx hb hts hown hK hP hk 1 (by decide) rfl q116 dJ2_elementData_1 ?_
  refine lv_iload_n hx hb dJ2_elementData_4 rfl (lv_at hl 1 rfl) ?_
  refine va_aldq hx hb hK hP ke 4 hke rfl (vp_in_nI hj hcap) dJ2_elementData_5 ?_
  rw [nI_clamp (by omega), hf]
  exact W.aret (v := .ref yj) hx hb hr (Or.inl ⟨_, rfl⟩) (Or.inr ⟨_, rfl⟩) (fun t ht hW => ⟨yj, rfl, (by first | rfl | (simp []; done)), ht⟩) (fun q h => by cases h) dJ2_elementData_6
set_option maxHeartbeats 4000000 in
set_option maxRecDepth 100000 in
theorem metJ2_get (l : Launch) (dC : Nat → ClassId) (dI : Nat → Nat → Nat) (ct : Nat → ClassId) (ws : va_W) (ql : Nat) (md : Int32) (qe n k : Nat) (hk : ws[k]? = some (liE ql md qe n)) (j ke cap yj : Nat) (f : Nat → Option Nat) (hke : ws[ke]? = some (qe, .inl (ct 4, cap, .inr (.inr (.inr (.inr f)))))) (hj : j < cap) (hcap : cap < 2 ^ 31) (hf : f j = some yj) (hjn : j < n) (hn : n < 2 ^ 31) : Met l yJ2_get (ws_ yJ2_get cJ2_get 2 (some (.object "java/lang/Object"))) ({ frames := 2, cells := 0, slots := 0, locals := 43 }) (jPre dC dI ct ws [.ref ql, .int (nI j)]) (va_Sr (fun r => r = yj) (fun r => .ref r)) 0 0 (fun _ => False) := by
  refine Met.ofW (cc := cJ2_get) (maxL := 2) (ret := (some (.object "java/lang/Object"))) (by decide) rfl ?_
  intro p e s m args below meth c s₁ B hml hv
  obtain ⟨rfl, hP, hK⟩ := hv
  have hx := B.exec
  have hb := B.bytes
  have hr := B.returns
  have hts := atoms_spec (ws := ws_ yJ2_get cJ2_get 2 (some (.object "java/lang/Object"))) B.pre
  have hts : ∀ w ∈ lw_all, w.before _ s = true := fun w h => hts w (List.mem_cons_of_mem _ h)
  have hown : s.vm.findClass RJ2 = some m.cls := findClass_of_methodNamed B.named
  have hlocks := B.notSynchronized
  have hl := lv_entry ([.ref ql, .int (nI j)]) (n := 2) (Nat.le_of_ble_eq_true rfl)
  rw [lg_entry_eq]
  generalize (lg_sl ([.ref ql, .int (nI j)]) ++ List.replicate (2 - (lg_sl ([.ref ql, .int (nI j)])).length) Slot.unset).toArray = ls at hl ⊢
  have hl : lv_has ls 2 [(0, .ref ql), (1, .int (nI j))] := hl
  refine lv_iload_n hx hb dJ2_get_0 rfl (lv_at hl 1 rfl) ?_
  refine lv_aload_n hx hb dJ2_get_1 rfl (lv_at hl 0 rfl) ?_
  refine j_get (v := .int (nI n)) hx hb hts hown hK hP hk 2 (by decide) rfl q117 dJ2_get_2 ?_
  refine vp_callSi ((va_runS (As := [.int (nI j), .int (nI n)]) (rest := []) ⟨hx, hb, hml, hown, hts⟩ (metJ15_checkIndex l j n hjn hn) (va_cwS 2 hts (lw_S q615 q616 q91 q617) rfl rfl rfl (by decide +kernel) ⟨Nat.le_of_ble_eq_true rfl, Nat.le_of_ble_eq_true rfl⟩) (pcS _) rfl rfl hl.1 rfl (lv_room (Nat.le_of_ble_eq_true rfl)) dJ2_get_5 ⟨Nat.zero_le _, Nat.zero_le _⟩)).run (fun r hw => ?_)
  have hw : r = (nI j) := hw
  subst hw
  refine lv_pop hx hb dJ2_get_8 rfl ?_
  refine lv_aload_n hx hb dJ2_get_9 rfl (lv_at hl 0 rfl) ?_
  refine lv_iload_n hx hb dJ2_get_10 rfl (lv_at hl 1 rfl) ?_
  refine va_csr ((va_runV (As := [.int (nI j)]) (rest := []) ⟨hx, hb, hml, hown, hts⟩ (metJ2_elementData l dC dI ct ws ql md qe n k hk j ke cap yj f hke hj hcap hf) (cwV 1 hts (lw_V q621 q622 q623 q72 q624) rfl rfl rfl (by decide +kernel) ⟨Nat.le_of_ble_eq_true rfl, Nat.le_of_ble_eq_true rfl⟩) (jPV hK hP hk _) rfl rfl hl.1 rfl (lv_room (Nat.le_of_ble_eq_true rfl)) dJ2_get_11 ⟨Nat.zero_le _, Nat.zero_le _⟩)).run (fun r hw => ?_)
  have hw : yj = r := Eq.symm hw
  subst hw
  exact W.aret (v := .ref yj) hx hb hr (Or.inl ⟨_, rfl⟩) (Or.inr ⟨_, rfl⟩) (fun t ht hW => ⟨yj, rfl, (by first | rfl | (simp []; done)), ht⟩) (fun q h => by cases h) dJ2_get_14
