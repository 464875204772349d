/-! THE MODEL's SMALL METHODS -/
def isBey (i : Int32) (n : Int64) (sz : Int32) : Bool := decide (i < 0) || (decide (n < 0) || decide (sz.toInt64 < i.toInt64 + n))
def evb (n : Nat) : Int32 := ((1 : Int32) <<< (nI n &&& 31)) - 1
set_option maxHeartbeats 4000000 in
set_option maxRecDepth 100000 in
theorem metX2_in (l : Launch) (v : Int64) (lo : Int64) (hi : Int64)  : Met l yX2_in (ws_ yX2_in cX2_in 6 (some .boolean)) ({ frames := 0, cells := 0, slots := 0, locals := 0 }) (va_Pc [.long v, .long lo, .long hi] (fun _ => True)) (vp_Si (fun r => r = (b2i (lin v lo hi)))) 0 0 (fun _ => False) := by
  refine Met.ofW (cc := cX2_in) (maxL := 6) (ret := (some .boolean)) (by decide) rfl ?_
  intro p e s m args below meth c s₁ B hml hv
  obtain ⟨rfl, -⟩ := hv
  have hx := B.exec
  have hb := B.bytes
  have hr := B.returns
  have hts := atoms_spec (ws := ws_ yX2_in cX2_in 6 (some .boolean)) B.pre
  have hts : ∀ w ∈ lw_all, w.before _ s = true := fun w h => hts w (List.mem_cons_of_mem _ h)
  have hown : s.vm.findClass RX2 = some m.cls := findClass_of_methodNamed B.named
  have hlocks := B.notSynchronized
  have hl := lv_entry ([.long v, .long lo, .long hi]) (n := 6) (Nat.le_of_ble_eq_true rfl)
  rw [lg_entry_eq]
  generalize (lg_sl ([.long v, .long lo, .long hi]) ++ List.replicate (6 - (lg_sl ([.long v, .long lo, .long hi])).length) Slot.unset).toArray = ls at hl ⊢
  have hl : lv_has ls 6 [(0, .long v), (2, .long lo), (4, .long hi)] := hl
  refine lv_lload_n hx hb dX2_in_0 rfl (lv_at hl 0 rfl) ?_
  refine lv_lload_n hx hb dX2_in_1 rfl (lv_at hl 1 rfl) ?_
  refine W.lcmp hx hb dX2_in_2 ?_
  refine lc_lt (tgt := 17) hx hb dX2_in_3 (by decide) (fun c_1 => ?_) (fun c_1 => ?_)
  · skip
    refine lv_iconst (v := 0) hx hb dX2_in_17 (by decide) ?_
    exact W.zret (v := 0) hx hb hr rfl (fun t ht hW => ⟨0, rfl, (by simp only [lin]; first | (rw [decide_eq_true (Int64.not_lt.mp c_1), decide_eq_true (Int64.not_lt.mp c_1)]; rfl) | (rw [decide_eq_true (Int64.not_lt.mp c_1), decide_eq_false (Int64.not_le.mpr c_1)]; rfl)  | (rw [decide_eq_false (Int64.not_le.mpr c_1)]; rfl)), ht⟩) (fun q h => by cases h) dX2_in_18
  · skip
    refine lv_lload_n hx hb dX2_in_6 rfl (lv_at hl 0 rfl) ?_
    refine lv_lload hx hb dX2_in_7 (lv_at hl 2 rfl) ?_
    refine W.lcmp hx hb dX2_in_9 ?_
    refine lc_gt (tgt := 17) hx hb dX2_in_10 (by decide) (fun c_2 => ?_) (fun c_2 => ?_)
    · skip
      refine lv_iconst (v := 0) hx hb dX2_in_17 (by decide) ?_
      exact W.zret (v := 0) hx hb hr rfl (fun t ht hW => ⟨0, rfl, (by simp only [lin]; first | (rw [decide_eq_true (Int64.not_lt.mp c_1), decide_eq_true (Int64.not_lt.mp c_2)]; rfl) | (rw [decide_eq_true (Int64.not_lt.mp c_1), decide_eq_false (Int64.not_le.mpr c_2)]; rfl)  | (rw [decide_eq_false (Int64.not_le.mpr c_1)]; rfl)), ht⟩) (fun q h => by cases h) dX2_in_18
    · skip
      refine lv_iconst (v := 1) hx hb dX2_in_13 (by decide) ?_
      refine lv_goto (tgt := 18) hx hb dX2_in_14 (by decide) ?_
      exact W.zret (v := 1) hx hb hr rfl (fun t ht hW => ⟨1, rfl, (by simp only [lin]; first | (rw [decide_eq_true (Int64.not_lt.mp c_1), decide_eq_true (Int64.not_lt.mp c_2)]; rfl) | (rw [decide_eq_true (Int64.not_lt.mp c_1), decide_eq_false (Int64.not_le.mpr c_2)]; rfl)  | (rw [decide_eq_false (Int64.not_le.mpr c_1)]; rfl)), ht⟩) (fun q h => by cases h) dX2_in_18
set_option maxHeartbeats 4000000 in
set_option maxRecDepth 100000 in
theorem metX2_lost (l : Launch)   : Met l yX2_lost (ws_ yX2_lost cX2_lost 0 (some .long)) ({ frames := 0, cells := 0, slots := 0, locals := 0 }) (va_Pc [] (fun _ => True)) (vp_Sl (fun r => r = (-9223372036854775808))) 0 0 (fun _ => False) := by
  refine Met.ofW (cc := cX2_lost) (maxL := 0) (ret := (some .long)) (by decide) rfl ?_
  intro p e s m args below meth c s₁ B hml hv
  obtain ⟨rfl, -⟩ := hv
  have hx := B.exec
  have hb := B.bytes
  have hr := B.returns
  have hts := atoms_spec (ws := ws_ yX2_lost cX2_lost 0 (some .long)) B.pre
  have hts : ∀ w ∈ lw_all, w.before _ s = true := fun w h => hts w (List.mem_cons_of_mem _ h)
  have hown : s.vm.findClass RX2 = some m.cls := findClass_of_methodNamed B.named
  have hlocks := B.notSynchronized
  have hl := lv_entry ([]) (n := 0) (Nat.le_of_ble_eq_true rfl)
  rw [lg_entry_eq]
  generalize (lg_sl ([]) ++ List.replicate (0 - (lg_sl ([])).length) Slot.unset).toArray = ls at hl ⊢
  have hl : lv_has ls 0 [] := hl
  refine lv_ldc2 (v := (-9223372036854775808)) hx hb hown (hts _ q1254) dX2_lost_0 ?_
  exact W.lret (v := (-9223372036854775808)) hx hb hr (fun t ht hW => ⟨(-9223372036854775808), rfl, (by first | rfl | (simp []; done)), ht⟩) (fun q h => by cases h) dX2_lost_3
set_option maxHeartbeats 4000000 in
set_option maxRecDepth 100000 in
theorem metX2_isIn (l : Launch) (x : Int32) (k : Int32)  : Met l yX2_isIn (ws_ yX2_isIn cX2_isIn 2 (some .boolean)) ({ frames := 0, cells := 0, slots := 0, locals := 0 }) (va_Pc [.int x, .int k] (fun _ => True)) (vp_Si (fun r => r = (b2i (bq x k)))) 0 0 (fun _ => False) := by
  refine Met.ofW (cc := cX2_isIn) (maxL := 2) (ret := (some .boolean)) (by decide) rfl ?_
  intro p e s m args below meth c s₁ B hml hv
  obtain ⟨rfl, -⟩ := hv
  have hx := B.exec
  have hb := B.bytes
  have hr := B.returns
  have hts := atoms_spec (ws := ws_ yX2_isIn cX2_isIn 2 (some .boolean)) B.pre
  have hts : ∀ w ∈ lw_all, w.before _ s = true := fun w h => hts w (List.mem_cons_of_mem _ h)
  have hown : s.vm.findClass RX2 = some m.cls := findClass_of_methodNamed B.named
  have hlocks := B.notSynchronized
  have hl := lv_entry ([.int x, .int k]) (n := 2) (Nat.le_of_ble_eq_true rfl)
  rw [lg_entry_eq]
  generalize (lg_sl ([.int x, .int k]) ++ List.replicate (2 - (lg_sl ([.int x, .int k])).length) Slot.unset).toArray = ls at hl ⊢
  have hl : lv_has ls 2 [(0, .int x), (1, .int k)] := hl
  refine lv_iload_n hx hb dX2_isIn_0 rfl (lv_at hl 0 rfl) ?_
  refine lv_iload_n hx hb dX2_isIn_1 rfl (lv_at hl 1 rfl) ?_
  refine lv_ishr hx hb dX2_isIn_2 ?_
  refine lv_iconst (v := 1) hx hb dX2_isIn_3 (by decide) ?_
  refine lv_iand hx hb dX2_isIn_4 ?_
  refine lv_iconst (v := 1) hx hb dX2_isIn_5 (by decide) ?_
  refine lv_icmp_ne (tgt := 13) hx hb dX2_isIn_6 (by decide) (fun c_1 => ?_) (fun c_1 => ?_)
  · skip
    refine lv_iconst (v := 0) hx hb dX2_isIn_13 (by decide) ?_
    exact W.zret (v := 0) hx hb hr rfl (fun t ht hW => ⟨0, rfl, (by first | rfl | (simp [b2i, bq, c_1]; done)), ht⟩) (fun q h => by cases h) dX2_isIn_14
  · skip
    refine lv_iconst (v := 1) hx hb dX2_isIn_9 (by decide) ?_
    refine lv_goto (tgt := 14) hx hb dX2_isIn_10 (by decide) ?_
    exact W.zret (v := 1) hx hb hr rfl (fun t ht hW => ⟨1, rfl, (by first | rfl | (simp [b2i, bq, c_1]; done)), ht⟩) (fun q h => by cases h) dX2_isIn_14
set_option maxHeartbeats 4000000 in
set_option maxRecDepth 100000 in
theorem metX2_refused (l : Launch) (dC : Nat → ClassId) (dI : Nat → Nat → Nat) (ct : Nat → ClassId) (A : Nat → Prop) (ex : va_W) (o : Nat) (q : Nat → Nat) (g : Nat → Int32) (a : Nat → Nat → Int32) (x : Int32)  : Met l yX2_refused (ws_ yX2_refused cX2_refused 2 (some .int)) ({ frames := 0, cells := 0, slots := 0, locals := 0 }) (mPre dC dI ct A ex o q g a [.ref o, .int x]) (va_Qi (fun (r : Int32) (u : (Nat → Int32) × (Nat → Nat → Int32)) => r = x ∧ u = ((upd g 0 0), a)) (mB dC dI ct A ex o q) A) 0 0 A := by
  refine Met.ofW (cc := cX2_refused) (maxL := 2) (ret := (some .int)) (by decide) rfl ?_
  intro p e s m args below meth c s₁ B hml hv
  obtain ⟨rfl, hP, hK, hD⟩ := hv
  have hx := B.exec
  have hb := B.bytes
  have hr := B.returns
  have hts := atoms_spec (ws := ws_ yX2_refused cX2_refused 2 (some .int)) B.pre
  have hts : ∀ w ∈ lw_all, w.before _ s = true := fun w h => hts w (List.mem_cons_of_mem _ h)
  have hown : s.vm.findClass RX2 = some m.cls := findClass_of_methodNamed B.named
  have hlocks := B.notSynchronized
  have hS : va_S A s.heap s.heap [] := va_S.rf
  have hl := lv_entry ([.ref o, .int x]) (n := 2) (Nat.le_of_ble_eq_true rfl)
  rw [lg_entry_eq]
  generalize (lg_sl ([.ref o, .int x]) ++ List.replicate (2 - (lg_sl ([.ref o, .int x])).length) Slot.unset).toArray = ls at hl ⊢
  have hl : lv_has ls 2 [(0, .ref o), (1, .int x)] := hl
  refine lv_aload_n hx hb dX2_refused_0 rfl (lv_at hl 0 rfl) ?_
  refine lv_iconst (v := 0) hx hb dX2_refused_1 (by decide) ?_
  refine m_put (v := 0) hx hb hts hown hK hP hD hS 0 (by decide) rfl q984 rfl rfl (by decide +kernel) dX2_refused_2 (fun H locs hP hD hS => ?_)
  refine lv_iload_n hx hb dX2_refused_5 rfl (lv_at hl 1 rfl) ?_
  exact W.iret (v := x) hx hb hr (fun t ht hW => ⟨⟨x, ((upd g 0 0), a), rfl, ⟨(by first | rfl | (simp []; done)), rfl⟩, by rw [ht]; exact hP, va_K.moved hW.alike hK, hD⟩, hS.F ht⟩) hS.2.2 dX2_refused_6
set_option maxHeartbeats 4000000 in
set_option maxRecDepth 100000 in
theorem metX2_failed (l : Launch) (dC : Nat → ClassId) (dI : Nat → Nat → Nat) (ct : Nat → ClassId) (A : Nat → Prop) (ex : va_W) (o : Nat) (q : Nat → Nat) (g : Nat → Int32) (a : Nat → Nat → Int32) (x : Int32)  : Met l yX2_failed (ws_ yX2_failed cX2_failed 2 (some .int)) ({ frames := 0, cells := 0, slots := 0, locals := 0 }) (mPre dC dI ct A ex o q g a [.ref o, .int x]) (va_Qi (fun (r : Int32) (u : (Nat → Int32) × (Nat → Nat → Int32)) => r = ((-10) - x) ∧ u = ((upd g 0 x), a)) (mB dC dI ct A ex o q) A) 0 0 A := by
  refine Met.ofW (cc := cX2_failed) (maxL := 2) (ret := (some .int)) (by decide) rfl ?_
  intro p e s m args below meth c s₁ B hml hv
  obtain ⟨rfl, hP, hK, hD⟩ := hv
  have hx := B.exec
  have hb := B.bytes
  have hr := B.returns
  have hts := atoms_spec (ws := ws_ yX2_failed cX2_failed 2 (some .int)) B.pre
  have hts : ∀ w ∈ lw_all, w.before _ s = true := fun w h => hts w (List.mem_cons_of_mem _ h)
  have hown : s.vm.findClass RX2 = some m.cls := findClass_of_methodNamed B.named
  have hlocks := B.notSynchronized
  have hS : va_S A s.heap s.heap [] := va_S.rf
  have hl := lv_entry ([.ref o, .int x]) (n := 2) (Nat.le_of_ble_eq_true rfl)
  rw [lg_entry_eq]
  generalize (lg_sl ([.ref o, .int x]) ++ List.replicate (2 - (lg_sl ([.ref o, .int x])).length) Slot.unset).toArray = ls at hl ⊢
  have hl : lv_has ls 2 [(0, .ref o), (1, .int x)] := hl
  refine lv_aload_n hx hb dX2_failed_0 rfl (lv_at hl 0 rfl) ?_
  refine lv_iload_n hx hb dX2_failed_1 rfl (lv_at hl 1 rfl) ?_
  refine m_put (v := x) hx hb hts hown hK hP hD hS 0 (by decide) rfl q984 rfl rfl (by decide +kernel) dX2_failed_2 (fun H locs hP hD hS => ?_)
  refine lv_bipush (v := (-10)) hx hb dX2_failed_5 (by decide) ?_
  refine lv_iload_n hx hb dX2_failed_7 rfl (lv_at hl 1 rfl) ?_
  refine lv_isub hx hb dX2_failed_8 ?_
  exact W.iret (v := ((-10) - x)) hx hb hr (fun t ht hW => ⟨⟨((-10) - x), ((upd g 0 x), a), rfl, ⟨(by first | rfl | (simp []; done)), rfl⟩, by rw [ht]; exact hP, va_K.moved hW.alike hK, hD⟩, hS.F ht⟩) hS.2.2 dX2_failed_9
set_option maxHeartbeats 4000000 in
set_option maxRecDepth 100000 in
theorem metX2_failedLong (l : Launch) (dC : Nat → ClassId) (dI : Nat → Nat → Nat) (ct : Nat → ClassId) (A : Nat → Prop) (ex : va_W) (o : Nat) (q : Nat → Nat) (g : Nat → Int32) (a : Nat → Nat → Int32) (x : Int32)  : Met l yX2_failedLong (ws_ yX2_failedLong cX2_failedLong 2 (some .long)) ({ frames := 1, cells := 0, slots := 0, locals := 19 }) (mPre dC dI ct A ex o q g a [.ref o, .int x]) (va_Ql (fun (r : Int64) (u : (Nat → Int32) × (Nat → Nat → Int32)) => r = (-9223372036854775808) ∧ u = ((upd g 0 x), a)) (mB dC dI ct A ex o q) A) 0 0 A := by
  refine Met.ofW (cc := cX2_failedLong) (maxL := 2) (ret := (some .long)) (by decide) rfl ?_
  intro p e s m args below meth c s₁ B hml hv
  obtain ⟨rfl, hP, hK, hD⟩ := hv
  have hx := B.exec
  have hb := B.bytes
  have hr := B.returns
  have hts := atoms_spec (ws := ws_ yX2_failedLong cX2_failedLong 2 (some .long)) B.pre
  have hts : ∀ w ∈ lw_all, w.before _ s = true := fun w h => hts w (List.mem_cons_of_mem _ h)
  have hown : s.vm.findClass RX2 = some m.cls := findClass_of_methodNamed B.named
  have hlocks := B.notSynchronized
  have hS : va_S A s.heap s.heap [] := va_S.rf
  have hl := lv_entry ([.ref o, .int x]) (n := 2) (Nat.le_of_ble_eq_true rfl)
  rw [lg_entry_eq]
  generalize (lg_sl ([.ref o, .int x]) ++ List.replicate (2 - (lg_sl ([.ref o, .int x])).length) Slot.unset).toArray = ls at hl ⊢
  have hl : lv_has ls 2 [(0, .ref o), (1, .int x)] := hl
  refine lv_aload_n hx hb dX2_failedLong_0 rfl (lv_at hl 0 rfl) ?_
  refine lv_iload_n hx hb dX2_failedLong_1 rfl (lv_at hl 1 rfl) ?_
  refine m_put (v := x) hx hb hts hown hK hP hD hS 0 (by decide) rfl q984 rfl rfl (by decide +kernel) dX2_failedLong_2 (fun H locs hP hD hS => ?_)
  refine vp_callSl ((va_runS (As := []) (rest := []) ⟨hx, hb, hml, hown, hts⟩ (metX2_lost l  ) (va_cwS 0 hts (lw_S q1251 q1252 q74 q1253) rfl rfl rfl (by decide +kernel) ⟨Nat.le_of_ble_eq_true rfl, Nat.le_of_ble_eq_true rfl⟩) (pcS _) rfl rfl hl.1 rfl (lv_room (Nat.le_of_ble_eq_true rfl)) dX2_failedLong_5 ⟨Nat.zero_le _, Nat.zero_le _⟩)).run (fun r hw => ?_)
  have hw : r = (-9223372036854775808) := hw
  subst hw
  exact W.lret (v := (-9223372036854775808)) hx hb hr (fun t ht hW => ⟨⟨(-9223372036854775808), ((upd g 0 x), a), rfl, ⟨(by first | rfl | (simp []; done)), rfl⟩, by rw [ht]; exact hP, va_K.moved hW.alike hK, hD⟩, hS.F ht⟩) hS.2.2 dX2_failedLong_8
set_option maxHeartbeats 4000000 in
set_option maxRecDepth 100000 in
theorem metX2_noPerson (l : Launch) (dC : Nat → ClassId) (dI : Nat → Nat → Nat) (ct : Nat → ClassId) (A : Nat → Prop) (ex : va_W) (o : Nat) (q : Nat → Nat) (g : Nat → Int32) (a : Nat → Nat → Int32) (x : Int32) (n : Nat) (hn6 : n ≤ 6) (hn : g 1 = nI n) : Met l yX2_noPerson (ws_ yX2_noPerson cX2_noPerson 2 (some .boolean)) ({ frames := 1, cells := 0, slots := 0, locals := 25 }) (mPre dC dI ct A ex o q g a [.ref o, .int x]) (vp_Si (fun r => r = (b2i (!(inP x n))))) 0 0 (fun _ => False) := by
  refine Met.ofW (cc := cX2_noPerson) (maxL := 2) (ret := (some .boolean)) (by decide) rfl ?_
  intro p e s m args below meth c s₁ B hml hv
  obtain ⟨rfl, hP, hK, hD⟩ := hv
  have hx := B.exec
  have hb := B.bytes
  have hr := B.returns
  have hts := atoms_spec (ws := ws_ yX2_noPerson cX2_noPerson 2 (some .boolean)) B.pre
  have hts : ∀ w ∈ lw_all, w.before _ s = true := fun w h => hts w (List.mem_cons_of_mem _ h)
  have hown : s.vm.findClass RX2 = some m.cls := findClass_of_methodNamed B.named
  have hlocks := B.notSynchronized
  have hS : va_S A s.heap s.heap [] := va_S.rf
  have hl := lv_entry ([.ref o, .int x]) (n := 2) (Nat.le_of_ble_eq_true rfl)
  rw [lg_entry_eq]
  generalize (lg_sl ([.ref o, .int x]) ++ List.replicate (2 - (lg_sl ([.ref o, .int x])).length) Slot.unset).toArray = ls at hl ⊢
  have hl : lv_has ls 2 [(0, .ref o), (1, .int x)] := hl
  refine lv_iload_n hx hb dX2_noPerson_0 rfl (lv_at hl 1 rfl) ?_
  refine lv_i2l (v := (Int32.toInt64 x)) hx hb dX2_noPerson_1 rfl ?_
  refine lv_lconst (v := 0) hx hb dX2_noPerson_2 (by decide) ?_
  refine lv_aload_n hx hb dX2_noPerson_3 rfl (lv_at hl 0 rfl) ?_
  refine m_get (v := .int (g 1)) hx hb hts hown hK hP 1 (by decide) rfl q985 rfl dX2_noPerson_4 ?_
  refine lv_i2l (v := (Int32.toInt64 (g 1))) hx hb dX2_noPerson_7 rfl ?_
  refine lv_lconst (v := 1) hx hb dX2_noPerson_8 (by decide) ?_
  refine lv_lsub hx hb dX2_noPerson_9 ?_
  refine vp_callSi ((va_runS (As := [.long (Int32.toInt64 x), .long 0, .long ((Int32.toInt64 (g 1)) - 1)]) (rest := []) ⟨hx, hb, hml, hown, hts⟩ (metX2_in l (Int32.toInt64 x) 0 ((Int32.toInt64 (g 1)) - 1) ) (va_cwS 3 hts (lw_S q1083 q1084 q74 q1085) rfl rfl rfl (by decide +kernel) ⟨Nat.le_of_ble_eq_true rfl, Nat.le_of_ble_eq_true rfl⟩) (pcS _) rfl rfl hl.1 rfl (lv_room (Nat.le_of_ble_eq_true rfl)) dX2_noPerson_10 ⟨Nat.zero_le _, Nat.zero_le _⟩)).run (fun r hw => ?_)
  have hw : r = (b2i (lin (Int32.toInt64 x) 0 ((Int32.toInt64 (g 1)) - 1))) := hw
  subst hw
  refine bz_ne (tgt := 20) hx hb dX2_noPerson_13 (by decide) (fun c_1 => ?_) (fun c_1 => ?_)
  · skip
    refine lv_iconst (v := 0) hx hb dX2_noPerson_20 (by decide) ?_
    exact W.zret (v := 0) hx hb hr rfl (fun t ht hW => ⟨0, rfl, (by rw [hn, lin_people _ (by omega)] at c_1; rw [c_1]; rfl), ht⟩) (fun q h => by cases h) dX2_noPerson_21
  · skip
    refine lv_iconst (v := 1) hx hb dX2_noPerson_16 (by decide) ?_
    refine lv_goto (tgt := 21) hx hb dX2_noPerson_17 (by decide) ?_
    exact W.zret (v := 1) hx hb hr rfl (fun t ht hW => ⟨1, rfl, (by rw [hn, lin_people _ (by omega)] at c_1; rw [c_1]; rfl), ht⟩) (fun q h => by cases h) dX2_noPerson_21
set_option maxHeartbeats 4000000 in
set_option maxRecDepth 100000 in
theorem metX2_noSheet (l : Launch) (x : Int32)  : Met l yX2_noSheet (ws_ yX2_noSheet cX2_noSheet 1 (some .boolean)) ({ frames := 1, cells := 0, slots := 0, locals := 25 }) (va_Pc [.int x] (fun _ => True)) (vp_Si (fun r => r = (b2i (!(inP x 4))))) 0 0 (fun _ => False) := by
  refine Met.ofW (cc := cX2_noSheet) (maxL := 1) (ret := (some .boolean)) (by decide) rfl ?_
  intro p e s m args below meth c s₁ B hml hv
  obtain ⟨rfl, -⟩ := hv
  have hx := B.exec
  have hb := B.bytes
  have hr := B.returns
  have hts := atoms_spec (ws := ws_ yX2_noSheet cX2_noSheet 1 (some .boolean)) B.pre
  have hts : ∀ w ∈ lw_all, w.before _ s = true := fun w h => hts w (List.mem_cons_of_mem _ h)
  have hown : s.vm.findClass RX2 = some m.cls := findClass_of_methodNamed B.named
  have hlocks := B.notSynchronized
  have hl := lv_entry ([.int x]) (n := 1) (Nat.le_of_ble_eq_true rfl)
  rw [lg_entry_eq]
  generalize (lg_sl ([.int x]) ++ List.replicate (1 - (lg_sl ([.int x])).length) Slot.unset).toArray = ls at hl ⊢
  have hl : lv_has ls 1 [(0, .int x)] := hl
  refine lv_iload_n hx hb dX2_noSheet_0 rfl (lv_at hl 0 rfl) ?_
  refine lv_i2l (v := (Int32.toInt64 x)) hx hb dX2_noSheet_1 rfl ?_
  refine lv_lconst (v := 0) hx hb dX2_noSheet_2 (by decide) ?_
  refine lv_ldc2 (v := 3) hx hb hown (hts _ q1082) dX2_noSheet_3 ?_
  refine vp_callSi ((va_runS (As := [.long (Int32.toInt64 x), .long 0, .long 3]) (rest := []) ⟨hx, hb, hml, hown, hts⟩ (metX2_in l (Int32.toInt64 x) 0 3 ) (va_cwS 3 hts (lw_S q1083 q1084 q74 q1085) rfl rfl rfl (by decide +kernel) ⟨Nat.le_of_ble_eq_true rfl, Nat.le_of_ble_eq_true rfl⟩) (pcS _) rfl rfl hl.1 rfl (lv_room (Nat.le_of_ble_eq_true rfl)) dX2_noSheet_6 ⟨Nat.zero_le _, Nat.zero_le _⟩)).run (fun r hw => ?_)
  have hw : r = (b2i (lin (Int32.toInt64 x) 0 3)) := hw
  subst hw
  refine bz_ne (tgt := 16) hx hb dX2_noSheet_9 (by decide) (fun c_1 => ?_) (fun c_1 => ?_)
  · skip
    refine lv_iconst (v := 0) hx hb dX2_noSheet_16 (by decide) ?_
    exact W.zret (v := 0) hx hb hr rfl (fun t ht hW => ⟨0, rfl, (by rw [lin_inP _ _ 4 (by decide)] at c_1; rw [c_1]; rfl), ht⟩) (fun q h => by cases h) dX2_noSheet_17
  · skip
    refine lv_iconst (v := 1) hx hb dX2_noSheet_12 (by decide) ?_
    refine lv_goto (tgt := 17) hx hb dX2_noSheet_13 (by decide) ?_
    exact W.zret (v := 1) hx hb hr rfl (fun t ht hW => ⟨1, rfl, (by rw [lin_inP _ _ 4 (by decide)] at c_1; rw [c_1]; rfl), ht⟩) (fun q h => by cases h) dX2_noSheet_17
set_option maxHeartbeats 4000000 in
set_option maxRecDepth 100000 in
theorem metX2_isBeyond (l : Launch) (i : Int32) (n : Int64) (sz : Int32)  : Met l yX2_isBeyond (ws_ yX2_isBeyond cX2_isBeyond 4 (some .boolean)) ({ frames := 0, cells := 0, slots := 0, locals := 0 }) (va_Pc [.int i, .long n, .int sz] (fun _ => True)) (vp_Si (fun r => r = (b2i (isBey i n sz)))) 0 0 (fun _ => False) := by
  refine Met.ofW (cc := cX2_isBeyond) (maxL := 4) (ret := (some .boolean)) (by decide) rfl ?_
  intro p e s m args below meth c s₁ B hml hv
  obtain ⟨rfl, -⟩ := hv
  have hx := B.exec
  have hb := B.bytes
  have hr := B.returns
  have hts := atoms_spec (ws := ws_ yX2_isBeyond cX2_isBeyond 4 (some .boolean)) B.pre
  have hts : ∀ w ∈ lw_all, w.before _ s = true := fun w h => hts w (List.mem_cons_of_mem _ h)
  have hown : s.vm.findClass RX2 = some m.cls := findClass_of_methodNamed B.named
  have hlocks := B.notSynchronized
  have hl := lv_entry ([.int i, .long n, .int sz]) (n := 4) (Nat.le_of_ble_eq_true rfl)
  rw [lg_entry_eq]
  generalize (lg_sl ([.int i, .long n, .int sz]) ++ List.replicate (4 - (lg_sl ([.int i, .long n, .int sz])).length) Slot.unset).toArray = ls at hl ⊢
  have hl : lv_has ls 4 [(0, .int i), (1, .long n), (3, .int sz)] := hl
  refine lv_iload_n hx hb dX2_isBeyond_0 rfl (lv_at hl 0 rfl) ?_
  refine lv_if_lt (tgt := 20) hx hb dX2_isBeyond_1 (by decide) (fun c_1 => ?_) (fun c_1 => ?_)
  · skip
    refine lv_iconst (v := 1) hx hb dX2_isBeyond_20 (by decide) ?_
    refine lv_goto (tgt := 25) hx hb dX2_isBeyond_21 (by decide) ?_
    exact W.zret (v := 1) hx hb hr rfl (fun t ht hW => ⟨1, rfl, (by first | rfl | (simp [b2i, isBey, c_1]; done)), ht⟩) (fun q h => by cases h) dX2_isBeyond_25
  · skip
    refine lv_lload_n hx hb dX2_isBeyond_4 rfl (lv_at hl 1 rfl) ?_
    refine lv_lconst (v := 0) hx hb dX2_isBeyond_5 (by decide) ?_
    refine W.lcmp hx hb dX2_isBeyond_6 ?_
    refine lc_lt (tgt := 20) hx hb dX2_isBeyond_7 (by decide) (fun c_2 => ?_) (fun c_2 => ?_)
    · skip
      refine lv_iconst (v := 1) hx hb dX2_isBeyond_20 (by decide) ?_
      refine lv_goto (tgt := 25) hx hb dX2_isBeyond_21 (by decide) ?_
      exact W.zret (v := 1) hx hb hr rfl (fun t ht hW => ⟨1, rfl, (by first | rfl | (simp [b2i, isBey, c_1, c_2]; done)), ht⟩) (fun q h => by cases h) dX2_isBeyond_25
    · skip
      refine lv_iload_n hx hb dX2_isBeyond_10 rfl (lv_at hl 0 rfl) ?_
      refine lv_i2l (v := (Int32.toInt64 i)) hx hb dX2_isBeyond_11 rfl ?_
      refine lv_lload_n hx hb dX2_isBeyond_12 rfl (lv_at hl 1 rfl) ?_
      refine lv_ladd hx hb dX2_isBeyond_13 ?_
      refine lv_iload_n hx hb dX2_isBeyond_14 rfl (lv_at hl 2 rfl) ?_
      refine lv_i2l (v := (Int32.toInt64 sz)) hx hb dX2_isBeyond_15 rfl ?_
      refine W.lcmp hx hb dX2_isBeyond_16 ?_
      refine lc_le (tgt := 24) hx hb dX2_isBeyond_17 (by decide) (fun c_3 => ?_) (fun c_3 => ?_)
      · skip
        refine lv_iconst (v := 0) hx hb dX2_isBeyond_24 (by decide) ?_
        exact W.zret (v := 0) hx hb hr rfl (fun t ht hW => ⟨0, rfl, (by first | rfl | (simp [b2i, isBey, c_1, c_2, c_3]; done)), ht⟩) (fun q h => by cases h) dX2_isBeyond_25
      · skip
        refine lv_iconst (v := 1) hx hb dX2_isBeyond_20 (by decide) ?_
        refine lv_goto (tgt := 25) hx hb dX2_isBeyond_21 (by decide) ?_
        exact W.zret (v := 1) hx hb hr rfl (fun t ht hW => ⟨1, rfl, (by first | rfl | (simp [b2i, isBey, c_1, c_2, c_3]; done)), ht⟩) (fun q h => by cases h) dX2_isBeyond_25
set_option maxHeartbeats 4000000 in
set_option maxRecDepth 100000 in
theorem metX2_everybody (l : Launch) (dC : Nat → ClassId) (dI : Nat → Nat → Nat) (ct : Nat → ClassId) (A : Nat → Prop) (ex : va_W) (o : Nat) (q : Nat → Nat) (g : Nat → Int32) (a : Nat → Nat → Int32)  (n : Nat) (hn : g 1 = nI n) : Met l yX2_everybody (ws_ yX2_everybody cX2_everybody 1 (some .int)) ({ frames := 0, cells := 0, slots := 0, locals := 0 }) (mPre dC dI ct A ex o q g a [.ref o]) (vp_Si (fun r => r = (evb n))) 0 0 (fun _ => False) := by
  refine Met.ofW (cc := cX2_everybody) (maxL := 1) (ret := (some .int)) (by decide) rfl ?_
  intro p e s m args below meth c s₁ B hml hv
  obtain ⟨rfl, hP, hK, hD⟩ := hv
  have hx := B.exec
  have hb := B.bytes
  have hr := B.returns
  have hts := atoms_spec (ws := ws_ yX2_everybody cX2_everybody 1 (some .int)) B.pre
  have hts : ∀ w ∈ lw_all, w.before _ s = true := fun w h => hts w (List.mem_cons_of_mem _ h)
  have hown : s.vm.findClass RX2 = some m.cls := findClass_of_methodNamed B.named
  have hlocks := B.notSynchronized
  have hS : va_S A s.heap s.heap [] := va_S.rf
  have hl := lv_entry ([.ref o]) (n := 1) (Nat.le_of_ble_eq_true rfl)
  rw [lg_entry_eq]
  generalize (lg_sl ([.ref o]) ++ List.replicate (1 - (lg_sl ([.ref o])).length) Slot.unset).toArray = ls at hl ⊢
  have hl : lv_has ls 1 [(0, .ref o)] := hl
  refine lv_iconst (v := 1) hx hb dX2_everybody_0 (by decide) ?_
  refine lv_aload_n hx hb dX2_everybody_1 rfl (lv_at hl 0 rfl) ?_
  refine m_get (v := .int (g 1)) hx hb hts hown hK hP 1 (by decide) rfl q985 rfl dX2_everybody_2 ?_
  refine lv_ishl hx hb dX2_everybody_5 ?_
  refine lv_iconst (v := 1) hx hb dX2_everybody_6 (by decide) ?_
  refine lv_isub hx hb dX2_everybody_7 ?_
  exact W.iret (v := ((1 <<< ((g 1) &&& 31)) - 1)) hx hb hr (fun t ht hW => ⟨((1 <<< ((g 1) &&& 31)) - 1), rfl, (by first | rfl | (simp [evb, hn]; done)), ht⟩) (fun q h => by cases h) dX2_everybody_8
set_option maxHeartbeats 4000000 in
set_option maxRecDepth 100000 in
theorem metX2_trace (l : Launch) (dC : Nat → ClassId) (dI : Nat → Nat → Nat) (ct : Nat → ClassId) (A : Nat → Prop) (ex : va_W) (o : Nat) (q : Nat → Nat) (g : Nat → Int32) (a : Nat → Nat → Int32)   : Met l yX2_trace (ws_ yX2_trace cX2_trace 1 (some .int)) ({ frames := 0, cells := 0, slots := 0, locals := 0 }) (mPre dC dI ct A ex o q g a [.ref o]) (vp_Si (fun r => r = (g 29))) 0 0 (fun _ => False) := by
  refine Met.ofW (cc := cX2_trace) (maxL := 1) (ret := (some .int)) (by decide) rfl ?_
  intro p e s m args below meth c s₁ B hml hv
  obtain ⟨rfl, hP, hK, hD⟩ := hv
  have hx := B.exec
  have hb := B.bytes
  have hr := B.returns
  have hts := atoms_spec (ws := ws_ yX2_trace cX2_trace 1 (some .int)) B.pre
  have hts : ∀ w ∈ lw_all, w.before _ s = true := fun w h => hts w (List.mem_cons_of_mem _ h)
  have hown : s.vm.findClass RX2 = some m.cls := findClass_of_methodNamed B.named
  have hlocks := B.notSynchronized
  have hS : va_S A s.heap s.heap [] := va_S.rf
  have hl := lv_entry ([.ref o]) (n := 1) (Nat.le_of_ble_eq_true rfl)
  rw [lg_entry_eq]
  generalize (lg_sl ([.ref o]) ++ List.replicate (1 - (lg_sl ([.ref o])).length) Slot.unset).toArray = ls at hl ⊢
  have hl : lv_has ls 1 [(0, .ref o)] := hl
  refine lv_aload_n hx hb dX2_trace_0 rfl (lv_at hl 0 rfl) ?_
  refine m_get (v := .int (g 29)) hx hb hts hown hK hP 29 (by decide) rfl q1013 rfl dX2_trace_1 ?_
  exact W.iret (v := (g 29)) hx hb hr (fun t ht hW => ⟨(g 29), rfl, (by first | rfl | (simp []; done)), ht⟩) (fun q h => by cases h) dX2_trace_4
set_option maxHeartbeats 4000000 in
set_option maxRecDepth 100000 in
theorem metX2_fault (l : Launch) (dC : Nat → ClassId) (dI : Nat → Nat → Nat) (ct : Nat → ClassId) (A : Nat → Prop) (ex : va_W) (o : Nat) (q : Nat → Nat) (g : Nat → Int32) (a : Nat → Nat → Int32)   : Met l yX2_fault (ws_ yX2_fault cX2_fault 1 (some .int)) ({ frames := 0, cells := 0, slots := 0, locals := 0 }) (mPre dC dI ct A ex o q g a [.ref o]) (vp_Si (fun r => r = (g 0))) 0 0 (fun _ => False) := by
  refine Met.ofW (cc := cX2_fault) (maxL := 1) (ret := (some .int)) (by decide) rfl ?_
  intro p e s m args below meth c s₁ B hml hv
  obtain ⟨rfl, hP, hK, hD⟩ := hv
  have hx := B.exec
  have hb := B.bytes
  have hr := B.returns
  have hts := atoms_spec (ws := ws_ yX2_fault cX2_fault 1 (some .int)) B.pre
  have hts : ∀ w ∈ lw_all, w.before _ s = true := fun w h => hts w (List.mem_cons_of_mem _ h)
  have hown : s.vm.findClass RX2 = some m.cls := findClass_of_methodNamed B.named
  have hlocks := B.notSynchronized
  have hS : va_S A s.heap s.heap [] := va_S.rf
  have hl := lv_entry ([.ref o]) (n := 1) (Nat.le_of_ble_eq_true rfl)
  rw [lg_entry_eq]
  generalize (lg_sl ([.ref o]) ++ List.replicate (1 - (lg_sl ([.ref o])).length) Slot.unset).toArray = ls at hl ⊢
  have hl : lv_has ls 1 [(0, .ref o)] := hl
  refine lv_aload_n hx hb dX2_fault_0 rfl (lv_at hl 0 rfl) ?_
  refine m_get (v := .int (g 0)) hx hb hts hown hK hP 0 (by decide) rfl q984 rfl dX2_fault_1 ?_
  exact W.iret (v := (g 0)) hx hb hr (fun t ht hW => ⟨(g 0), rfl, (by first | rfl | (simp []; done)), ht⟩) (fun q h => by cases h) dX2_fault_4
set_option maxHeartbeats 4000000 in
set_option maxRecDepth 100000 in
theorem metX2_many (l : Launch) (dC : Nat → ClassId) (dI : Nat → Nat → Nat) (ct : Nat → ClassId) (A : Nat → Prop) (ex : va_W) (o : Nat) (q : Nat → Nat) (g : Nat → Int32) (a : Nat → Nat → Int32) (x : Int32)  : Met l yX2_many (ws_ yX2_many cX2_many 2 (some .int)) ({ frames := 0, cells := 0, slots := 0, locals := 0 }) (mPre dC dI ct A ex o q g a [.ref o, .int x]) (vp_Si (fun r => r = (if x = 0 then (g 1) else if x = 1 then (g 21) else (-2)))) 0 0 (fun _ => False) := by
  refine Met.ofW (cc := cX2_many) (maxL := 2) (ret := (some .int)) (by decide) rfl ?_
  intro p e s m args below meth c s₁ B hml hv
  obtain ⟨rfl, hP, hK, hD⟩ := hv
  have hx := B.exec
  have hb := B.bytes
  have hr := B.returns
  have hts := atoms_spec (ws := ws_ yX2_many cX2_many 2 (some .int)) B.pre
  have hts : ∀ w ∈ lw_all, w.before _ s = true := fun w h => hts w (List.mem_cons_of_mem _ h)
  have hown : s.vm.findClass RX2 = some m.cls := findClass_of_methodNamed B.named
  have hlocks := B.notSynchronized
  have hS : va_S A s.heap s.heap [] := va_S.rf
  have hl := lv_entry ([.ref o, .int x]) (n := 2) (Nat.le_of_ble_eq_true rfl)
  rw [lg_entry_eq]
  generalize (lg_sl ([.ref o, .int x]) ++ List.replicate (2 - (lg_sl ([.ref o, .int x])).length) Slot.unset).toArray = ls at hl ⊢
  have hl : lv_has ls 2 [(0, .ref o), (1, .int x)] := hl
  refine lv_iload_n hx hb dX2_many_0 rfl (lv_at hl 1 rfl) ?_
  refine lv_if_ne (tgt := 11) hx hb dX2_many_1 (by decide) (fun c_1 => ?_) (fun c_1 => ?_)
  · skip
    refine lv_iload_n hx hb dX2_many_11 rfl (lv_at hl 1 rfl) ?_
    refine lv_iconst (v := 1) hx hb dX2_many_12 (by decide) ?_
    refine lv_icmp_ne (tgt := 23) hx hb dX2_many_13 (by decide) (fun c_2 => ?_) (fun c_2 => ?_)
    · skip
      refine lv_bipush (v := (-2)) hx hb dX2_many_23 (by decide) ?_
      exact W.iret (v := (-2)) hx hb hr (fun t ht hW => ⟨(-2), rfl, (by first | rfl | (simp [c_1, c_2]; done)), ht⟩) (fun q h => by cases h) dX2_many_25
    · skip
      refine lv_aload_n hx hb dX2_many_16 rfl (lv_at hl 0 rfl) ?_
      refine m_get (v := .int (g 21)) hx hb hts hown hK hP 21 (by decide) rfl q1005 rfl dX2_many_17 ?_
      refine lv_goto (tgt := 25) hx hb dX2_many_20 (by decide) ?_
      exact W.iret (v := (g 21)) hx hb hr (fun t ht hW => ⟨(g 21), rfl, (by first | rfl | (simp [c_1, c_2]; done)), ht⟩) (fun q h => by cases h) dX2_many_25
  · skip
    refine lv_aload_n hx hb dX2_many_4 rfl (lv_at hl 0 rfl) ?_
    refine m_get (v := .int (g 1)) hx hb hts hown hK hP 1 (by decide) rfl q985 rfl dX2_many_5 ?_
    refine lv_goto (tgt := 25) hx hb dX2_many_8 (by decide) ?_
    exact W.iret (v := (g 1)) hx hb hr (fun t ht hW => ⟨(g 1), rfl, (by first | rfl | (simp [c_1]; done)), ht⟩) (fun q h => by cases h) dX2_many_25
set_option maxHeartbeats 4000000 in
set_option maxRecDepth 100000 in
theorem metX2_traced (l : Launch) (dC : Nat → ClassId) (dI : Nat → Nat → Nat) (ct : Nat → ClassId) (A : Nat → Prop) (ex : va_W) (o : Nat) (q : Nat → Nat) (g : Nat → Int32) (a : Nat → Nat → Int32) (x : Int32)  : Met l yX2_traced (ws_ yX2_traced cX2_traced 2 none) ({ frames := 0, cells := 0, slots := 0, locals := 0 }) (mPre dC dI ct A ex o q g a [.ref o, .int x]) (va_Qv (fun (u : (Nat → Int32) × (Nat → Nat → Int32)) => u = ((upd g 29 (31 * (g 29) + x)), a)) (mB dC dI ct A ex o q) A) 0 0 A := by
  refine Met.ofW (cc := cX2_traced) (maxL := 2) (ret := none) (by decide) rfl ?_
  intro p e s m args below meth c s₁ B hml hv
  obtain ⟨rfl, hP, hK, hD⟩ := hv
  have hx := B.exec
  have hb := B.bytes
  have hr := B.returns
  have hts := atoms_spec (ws := ws_ yX2_traced cX2_traced 2 none) B.pre
  have hts : ∀ w ∈ lw_all, w.before _ s = true := fun w h => hts w (List.mem_cons_of_mem _ h)
  have hown : s.vm.findClass RX2 = some m.cls := findClass_of_methodNamed B.named
  have hlocks := B.notSynchronized
  have hS : va_S A s.heap s.heap [] := va_S.rf
  have hl := lv_entry ([.ref o, .int x]) (n := 2) (Nat.le_of_ble_eq_true rfl)
  rw [lg_entry_eq]
  generalize (lg_sl ([.ref o, .int x]) ++ List.replicate (2 - (lg_sl ([.ref o, .int x])).length) Slot.unset).toArray = ls at hl ⊢
  have hl : lv_has ls 2 [(0, .ref o), (1, .int x)] := hl
  refine lv_aload_n hx hb dX2_traced_0 rfl (lv_at hl 0 rfl) ?_
  refine lv_bipush (v := 31) hx hb dX2_traced_1 (by decide) ?_
  refine lv_aload_n hx hb dX2_traced_3 rfl (lv_at hl 0 rfl) ?_
  refine m_get (v := .int (g 29)) hx hb hts hown hK hP 29 (by decide) rfl q1013 rfl dX2_traced_4 ?_
  refine lv_imul hx hb dX2_traced_7 ?_
  refine lv_iload_n hx hb dX2_traced_8 rfl (lv_at hl 1 rfl) ?_
  refine lv_iadd hx hb dX2_traced_9 ?_
  refine m_put (v := ((31 * (g 29)) + x)) hx hb hts hown hK hP hD hS 29 (by decide) rfl q1013 rfl rfl (by decide +kernel) dX2_traced_10 (fun H locs hP hD hS => ?_)
  exact W.vret hx hb hr (fun t ht hW => ⟨⟨((upd g 29 ((31 * (g 29)) + x)), a), rfl, (by first | rfl | (simp []; done)), by rw [ht]; exact hP, va_K.moved hW.alike hK, hD⟩, hS.F ht⟩) hS.2.2 dX2_traced_13
