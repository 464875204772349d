/-! LENT YOUTHS: its sheets -/
theorem cx_nc {s : State} {C nm : String} {k : ClassId} (h : s.vm.findClass C = some k) (h2 : va_Nc C nm s) : ∃ cP, s.vm.findClass nm = some cP ∧ s.vm.assignable k cP = false := by
  obtain ⟨c, t, h3, h4, h5⟩ := h2
  cases h.symm.trans h3
  exact ⟨t, h4, h5⟩
theorem cx_io {s : State} {k : ClassId} (h2 : xI s) (h : s.vm.findClass "java/lang/ArrayIndexOutOfBoundsException" = some k) : ∃ cP, s.vm.findClass "java/lang/IndexOutOfBoundsException" = some cP ∧ s.vm.assignable k cP = true := by
  obtain ⟨c, t, h3, h4, h5⟩ := Cond.castable_spec h2
  cases h.symm.trans h3
  exact ⟨t, h4, h5⟩
abbrev rPre (dC : Nat → ClassId) (dI : Nat → Nat → Nat) (ct : Nat → ClassId) (A : Nat → Prop) (ws : va_W) (av : List Value) : Array Value → State → Prop := va_Pc av (fun U => (∀ q, U.heap.size ≤ q → A q) ∧ va_P (dC, dI) clA ws U.heap ∧ va_K (dC, dI) clA (tyA ct) U ∧ va_D A ws ∧ exE A U)
theorem rPS {dC : Nat → ClassId} {dI : Nat → Nat → Nat} {ct : Nat → ClassId} {A : Nat → Prop} {ws : va_W} {s : State} {H : Heap} {locs : List Loc} (hK : va_K (dC, dI) clA (tyA ct) s) (hP : va_P (dC, dI) clA ws H) (hD : va_D A ws) (hE : exE A s) (hS : va_S A s.heap H locs) (hA : ∀ q, s.heap.size ≤ q → A q) (As : List Value) : PreS s H (rPre dC dI ct A ws As) As :=
  ⟨fun x U k mk z => ⟨z.1, z.2.1, z.2.2.1, va_K.moved (u := U) (U := U.calling k mk x) (Vm.Alike.refl U.vm) z.2.2.2.1, z.2.2.2.2.1, z.2.2.2.2.2.call k mk x⟩, fun U hU hW => ⟨rfl, fun q hq => hA q (Nat.le_trans hS.1 (by rw [← hU]; exact hq)), by rw [hU]; exact hP, va_K.moved hW.alike hK, hD, hE.S hS hU hW⟩⟩
theorem ap_at {w1 w2 : va_W} {k : Nat} {x : Nat × va_E} (h : w1[k]? = some x) : (w1 ++ w2)[k]? = some x := by
  rw [List.getElem?_append_left (List.getElem?_eq_some_iff.mp h).1]; exact h
theorem ap_set {w1 w2 : va_W} {k : Nat} {x y : Nat × va_E} (h : w1[k]? = some x) : (w1 ++ w2).set k y = w1.set k y ++ w2 := List.set_append_left _ _ (List.getElem?_eq_some_iff.mp h).1
theorem ap_last {w1 : va_W} {x : Nat × va_E} : (w1 ++ [x])[w1.length]? = some x := by
  rw [List.getElem?_append_right (Nat.le_refl _), Nat.sub_self]; rfl
theorem inK {K : Nat} (h : K < 4) : inP (nI K) 4 = true := by rw [inP_nI (by omega)]; exact decide_eq_true h
theorem narB_c (v : Int32) : vp_nar .byte v.toInt8.toInt32 = v.toInt8.toInt32 := by
  show (v.toInt8.toInt32).toInt8.toInt32 = _
  rw [Int8.toInt8_toInt32]
theorem narS_c (v : Int32) : vp_nar .short v.toInt16.toInt32 = v.toInt16.toInt32 := by
  show (v.toInt16.toInt32).toInt16.toInt32 = _
  rw [Int16.toInt16_toInt32]
section BZ2
variable {p : Program} {l : Launch} {e : Env} {R : Room} {s : State} {m : MethodId} {args : Array Value} {below : List Frame} {meth : Method} {c : Code} {H : Heap} {locs : List Loc} {cells slots : Nat} {Q : State → Prop}
variable {cc : ByteArray} {pc : Nat} {ls : Array Slot} {rest : List Value} {D : va_G} {cl : List vw_C} {A : Nat → Prop} {a : Nat} {tys : List (ClassId × FieldType)} {ws : va_W} {H0 : Heap}
theorem ar_bst (hexec : p.tables.exec = Jvm.exec) (hb : c.code = cc) (hK : va_K D cl tys s) (hP : va_P D cl ws H) (hD : va_D A ws) (hS : va_S A H0 H locs) (q0 t0 : Nat) {cA : ClassId} {n : Nat} {f : Nat → Int32} (ha : ws[q0]? = some (a, .inl (cA, n, .inl f))) (ht : tys[t0]? = some (cA, .byte)) {i x : Int32} (j : Nat) (hi : i = nI j) (hj : j < n) (hn : n < 2 ^ 31) (hz : vp_nar .byte x = x) (hdg : decode cc pc = .ok (.bastore, 1))
    (kk : ∀ (H1 : Heap) (locs1 : List Loc), va_P D cl (ws.set q0 (a, .inl (cA, n, .inl (upd f j x)))) H1 → va_D A (ws.set q0 (a, .inl (cA, n, .inl (upd f j x)))) → va_S A H0 H1 locs1 → W p l e R s m args below meth c H1 locs1 cells slots Q (F0 m (pc + 1) ls rest)) : W p l e R s m args below meth c H locs cells slots Q (F0 m pc ls (.int x :: .int i :: .ref a :: rest)) := by
  subst hi
  refine va_bast hexec hb hK hP hD hS q0 t0 ha ht (vp_in_nI hj hn) hdg ?_
  rw [nI_clamp (by omega), hz]
  exact kk
theorem ar_sst (hexec : p.tables.exec = Jvm.exec) (hb : c.code = cc) (hK : va_K D cl tys s) (hP : va_P D cl ws H) (hD : va_D A ws) (hS : va_S A H0 H locs) (q0 t0 : Nat) {cA : ClassId} {n : Nat} {f : Nat → Int32} (ha : ws[q0]? = some (a, .inl (cA, n, .inl f))) (ht : tys[t0]? = some (cA, .short)) {i x : Int32} (j : Nat) (hi : i = nI j) (hj : j < n) (hn : n < 2 ^ 31) (hz : vp_nar .short x = x) (hdg : decode cc pc = .ok (.sastore, 1))
    (kk : ∀ (H1 : Heap) (locs1 : List Loc), va_P D cl (ws.set q0 (a, .inl (cA, n, .inl (upd f j x)))) H1 → va_D A (ws.set q0 (a, .inl (cA, n, .inl (upd f j x)))) → va_S A H0 H1 locs1 → W p l e R s m args below meth c H1 locs1 cells slots Q (F0 m (pc + 1) ls rest)) : W p l e R s m args below meth c H locs cells slots Q (F0 m pc ls (.int x :: .int i :: .ref a :: rest)) := by
  subst hi
  refine va_sast hexec hb hK hP hD hS q0 t0 ha ht (vp_in_nI hj hn) hdg ?_
  rw [nI_clamp (by omega), hz]
  exact kk
end BZ2
theorem metX0_rowW (l : Launch) (dC : Nat → ClassId) (dI : Nat → Nat → Nat) (ct : Nat → ClassId) (A : Nat → Prop) (ws : va_W) (k ad N : Nat) (f : Nat → Int32) (lx : Nat) (hlx : lx < 3) (hk : ws[k]? = some (ad, .inl (ct (lty lx), N, .inl f))) (hN : N ≤ 60) (i n : Int32) (I L : Nat) (ei : i = nI I) (en : n = nI L) (hIL : I + L ≤ N) : Met l yX0_rowOf (ws_ yX0_rowOf cX0_rowOf 6 (some (.array .int))) ({ frames := 3, cells := 1, slots := 61, locals := 200 }) (rPre dC dI ct A ws [.ref ad, .int i, .int n]) (va_Qr (fun (_ : Unit) => True) (fun _ qa t => va_P (dC, dI) clA (ws ++ [(qa, .inl (ct 0, L, .inl (cutF L (fun j => f (I + j)) (fun _ => 0))))]) t.heap ∧ va_K (dC, dI) clA (tyA ct) t ∧ va_D A (ws ++ [(qa, .inl (ct 0, L, .inl (cutF L (fun j => f (I + j)) (fun _ => 0))))])) A) 1 61 A := by
  have z := metX0_rowOf l dC dI ct A ws [] k ad N f lx hlx (by rw [List.append_nil]; exact hk) hN i n I L ei en hIL
  simp only [List.append_nil] at z
  exact z
theorem metX0_rowW_N (l : Launch) (dC : Nat → ClassId) (dI : Nat → Nat → Nat) (ct : Nat → ClassId) (A : Nat → Prop) (ws : va_W) (htr : l.stackTraces = false) (i n : Int32) : MetX l yX0_rowOf (ws_ yX0_rowOf cX0_rowOf 6 (some (.array .int))) ({ frames := 12, cells := 4, slots := 1280, locals := 10600 }) (rPre dC dI ct A ws [.null, .int i, .int n]) "java/lang/NullPointerException" 4 1280 := by
  have z := metX0_rowOf_N l dC dI ct A ws [] htr i n 
  simp only [List.append_nil] at z
  exact z
theorem metX0_rowW_S (l : Launch) (dC : Nat → ClassId) (dI : Nat → Nat → Nat) (ct : Nat → ClassId) (A : Nat → Prop) (ws : va_W) (htr : l.stackTraces = false) (k ad N : Nat) (f : Nat → Int32) (lx : Nat) (hlx : lx < 3) (hk : ws[k]? = some (ad, .inl (ct (lty lx), N, .inl f))) (hN : N ≤ 60) (i n : Int32) (hn0 : n < 0) : MetX l yX0_rowOf (ws_ yX0_rowOf cX0_rowOf 6 (some (.array .int))) ({ frames := 12, cells := 4, slots := 1280, locals := 10600 }) (rPre dC dI ct A ws [.ref ad, .int i, .int n]) "java/lang/NegativeArraySizeException" 4 1280 := by
  have z := metX0_rowOf_S l dC dI ct A ws [] htr k ad N f lx hlx (by rw [List.append_nil]; exact hk) hN i n hn0
  simp only [List.append_nil] at z
  exact z
theorem metX0_rowW_I (l : Launch) (dC : Nat → ClassId) (dI : Nat → Nat → Nat) (ct : Nat → ClassId) (A : Nat → Prop) (ws : va_W) (htr : l.stackTraces = false) (k ad N : Nat) (f : Nat → Int32) (lx : Nat) (hlx : lx < 3) (hk : ws[k]? = some (ad, .inl (ct (lty lx), N, .inl f))) (hN : N ≤ 60) (i n : Int32) (hn0 : 0 ≤ n) (hr9 : i < 0 ∨ nI N - n < i) : MetX l yX0_rowOf (ws_ yX0_rowOf cX0_rowOf 6 (some (.array .int))) ({ frames := 12, cells := 4, slots := 1280, locals := 10600 }) (rPre dC dI ct A ws [.ref ad, .int i, .int n]) "java/lang/ArrayIndexOutOfBoundsException" 4 1280 := by
  have z := metX0_rowOf_I l dC dI ct A ws [] htr k ad N f lx hlx (by rw [List.append_nil]; exact hk) hN i n hn0 hr9
  simp only [List.append_nil] at z
  exact z
set_option maxHeartbeats 4000000 in
set_option maxRecDepth 100000 in
theorem metX0_sheet_bad (l : Launch) (dC : Nat → ClassId) (dI : Nat → Nat → Nat) (ct : Nat → ClassId) (A : Nat → Prop) (ex : va_W) (o : Nat) (q : Nat → Nat) (ql qs : Nat) (md : Int32) (qe n : Nat) (y : Nat → Nat) (g : Nat → Int32) (a : Nat → Nat → Int32) (htr : l.stackTraces = false) (k : Int32) (lane : Int32) (nn : Int32) (hk4 : inP k 4 = false) : Met l yX0_sheet (wsW_ yX0_sheet cX0_sheet 5 (some .int) [((30 : Nat), (64 : Nat), (65 : Nat), (181 : Nat))]) ({ frames := 16, cells := 8, slots := 3000, locals := 12000 }) (sPre dC dI ct A ex o q (ql, qs, md, qe, n) y g a [.ref o, .int k, .int lane, .int nn]) (va_Qi (fun (r : Int32) (u : (Nat → Int32) × (Nat → Nat → Int32)) => r = (-1) ∧ u = ((upd g 0 0), a)) (fun u t => gB dC dI ct A ex o q (ql, qs, md, qe, n) y u t) A) 8 3000 A := by
  refine cx_MetW (cc := cX0_sheet) (maxL := 5) (ret := (some .int)) (hh := [((30 : Nat), (64 : Nat), (65 : Nat), (181 : Nat))]) (by decide) rfl ?_
  intro p e s m args below meth c s₁ B hml het hv
  obtain ⟨rfl, hP, hK, hD, hE, hE9, hA, hst, hI9⟩ := hv
  have hN9 := hE9.now
  have hx := B.exec
  have hb := B.bytes
  have hr := B.returns
  have hts := atoms_spec (ws := wsW_ yX0_sheet cX0_sheet 5 (some .int) [((30 : Nat), (64 : Nat), (65 : Nat), (181 : Nat))]) B.pre
  have hts : ∀ w ∈ lw_all, w.before _ s = true := fun w h => hts w (List.mem_cons_of_mem _ h)
  have hown : s.vm.findClass RX0 = some m.cls := findClass_of_methodNamed B.named
  have hlocks := B.notSynchronized
  have hS : va_S A s.heap s.heap [] := va_S.rf
  have hl := lv_entry ([.ref o, .int k, .int lane, .int nn]) (n := 5) (Nat.le_of_ble_eq_true rfl)
  rw [lg_entry_eq]
  generalize (lg_sl ([.ref o, .int k, .int lane, .int nn]) ++ List.replicate (5 - (lg_sl ([.ref o, .int k, .int lane, .int nn])).length) Slot.unset).toArray = ls at hl ⊢
  have hl : lv_has ls 5 [(0, .ref o), (1, .int k), (2, .int lane), (3, .int nn)] := hl
  refine lv_aload_n hx hb dX0_sheet_0 rfl (lv_at hl 0 rfl) ?_
  refine lv_iconst (v := 0) hx hb dX0_sheet_1 (by decide) ?_
  refine g_put (v := 0) hx hb hts hown hK hP hD hS 0 0 (by decide) rfl q144 rfl rfl (by decide +kernel) dX0_sheet_2 (fun H locs hP hD hS => ?_)
  refine lv_iload_n hx hb dX0_sheet_5 rfl (lv_at hl 1 rfl) ?_
  refine vp_callSi ((va_runS (As := [.int k]) (rest := []) ⟨hx, hb, hml, hown, hts⟩ (metX0_isSheet l k ) (va_cwS 1 hts (lw_S q376 q377 q69 q378) rfl rfl rfl (by decide +kernel) ⟨Nat.le_of_ble_eq_true rfl, Nat.le_of_ble_eq_true rfl⟩) (pcS _) rfl rfl hl.1 rfl (lv_room (Nat.le_of_ble_eq_true rfl)) dX0_sheet_6 ⟨Nat.le_of_ble_eq_true rfl, Nat.le_of_ble_eq_true rfl⟩)).run (fun r hw => ?_)
  have hw : r = (b2i (inP k 4)) := hw
  subst hw
  refine bz_ne (tgt := 14) hx hb dX0_sheet_9 (by decide) (fun c_1 => ?_) (fun c_1 => ?_)
  · skip
    exact False.elim (by rw [hk4] at c_1; cases c_1)
  · skip
    refine lv_iconst (v := (-1)) hx hb dX0_sheet_12 (by decide) ?_
    refine W.widen (k := 8) (n := 3000) (Nat.le_of_ble_eq_true rfl) (Nat.le_of_ble_eq_true rfl) ?_
    exact W.iret (v := (-1)) hx hb hr (fun t ht hW => ⟨⟨(-1), ((upd g 0 0), a), rfl, ⟨(by first | rfl | (simp [c_1]; done)), rfl⟩, by rw [ht]; exact hP, va_K.moved hW.alike hK, hD⟩, hS.F ht⟩) hS.2.2 dX0_sheet_13
set_option maxHeartbeats 4000000 in
set_option maxRecDepth 100000 in
theorem metX0_sheet_out (l : Launch) (dC : Nat → ClassId) (dI : Nat → Nat → Nat) (ct : Nat → ClassId) (A : Nat → Prop) (ex : va_W) (o : Nat) (q : Nat → Nat) (ql qs : Nat) (md : Int32) (qe n : Nat) (y : Nat → Nat) (g : Nat → Int32) (a : Nat → Nat → Int32) (htr : l.stackTraces = false) (k : Int32) (lane : Int32) (nn : Int32) (hk4 : inP k 4 = true) (ho : ¬ (inP lane 3 = true ∧ nn ≤ 60)) : Met l yX0_sheet (wsW_ yX0_sheet cX0_sheet 5 (some .int) [((30 : Nat), (64 : Nat), (65 : Nat), (181 : Nat))]) ({ frames := 16, cells := 8, slots := 3000, locals := 12000 }) (sPre dC dI ct A ex o q (ql, qs, md, qe, n) y g a [.ref o, .int k, .int lane, .int nn]) (va_Qi (fun (r : Int32) (u : (Nat → Int32) × (Nat → Nat → Int32)) => r = (-2) ∧ u = ((upd g 0 0), a)) (fun u t => gB dC dI ct A ex o q (ql, qs, md, qe, n) y u t) A) 8 3000 A := by
  refine cx_MetW (cc := cX0_sheet) (maxL := 5) (ret := (some .int)) (hh := [((30 : Nat), (64 : Nat), (65 : Nat), (181 : Nat))]) (by decide) rfl ?_
  intro p e s m args below meth c s₁ B hml het hv
  obtain ⟨rfl, hP, hK, hD, hE, hE9, hA, hst, hI9⟩ := hv
  have hN9 := hE9.now
  have hx := B.exec
  have hb := B.bytes
  have hr := B.returns
  have hts := atoms_spec (ws := wsW_ yX0_sheet cX0_sheet 5 (some .int) [((30 : Nat), (64 : Nat), (65 : Nat), (181 : Nat))]) B.pre
  have hts : ∀ w ∈ lw_all, w.before _ s = true := fun w h => hts w (List.mem_cons_of_mem _ h)
  have hown : s.vm.findClass RX0 = some m.cls := findClass_of_methodNamed B.named
  have hlocks := B.notSynchronized
  have hS : va_S A s.heap s.heap [] := va_S.rf
  have hl := lv_entry ([.ref o, .int k, .int lane, .int nn]) (n := 5) (Nat.le_of_ble_eq_true rfl)
  rw [lg_entry_eq]
  generalize (lg_sl ([.ref o, .int k, .int lane, .int nn]) ++ List.replicate (5 - (lg_sl ([.ref o, .int k, .int lane, .int nn])).length) Slot.unset).toArray = ls at hl ⊢
  have hl : lv_has ls 5 [(0, .ref o), (1, .int k), (2, .int lane), (3, .int nn)] := hl
  refine lv_aload_n hx hb dX0_sheet_0 rfl (lv_at hl 0 rfl) ?_
  refine lv_iconst (v := 0) hx hb dX0_sheet_1 (by decide) ?_
  refine g_put (v := 0) hx hb hts hown hK hP hD hS 0 0 (by decide) rfl q144 rfl rfl (by decide +kernel) dX0_sheet_2 (fun H locs hP hD hS => ?_)
  refine lv_iload_n hx hb dX0_sheet_5 rfl (lv_at hl 1 rfl) ?_
  refine vp_callSi ((va_runS (As := [.int k]) (rest := []) ⟨hx, hb, hml, hown, hts⟩ (metX0_isSheet l k ) (va_cwS 1 hts (lw_S q376 q377 q69 q378) rfl rfl rfl (by decide +kernel) ⟨Nat.le_of_ble_eq_true rfl, Nat.le_of_ble_eq_true rfl⟩) (pcS _) rfl rfl hl.1 rfl (lv_room (Nat.le_of_ble_eq_true rfl)) dX0_sheet_6 ⟨Nat.le_of_ble_eq_true rfl, Nat.le_of_ble_eq_true rfl⟩)).run (fun r hw => ?_)
  have hw : r = (b2i (inP k 4)) := hw
  subst hw
  refine bz_ne (tgt := 14) hx hb dX0_sheet_9 (by decide) (fun c_1 => ?_) (fun c_1 => ?_)
  · skip
    refine lv_iload_n hx hb dX0_sheet_14 rfl (lv_at hl 2 rfl) ?_
    refine vp_callSi ((va_runS (As := [.int lane]) (rest := []) ⟨hx, hb, hml, hown, hts⟩ (metX0_isLane l lane ) (va_cwS 1 hts (lw_S q383 q384 q69 q385) rfl rfl rfl (by decide +kernel) ⟨Nat.le_of_ble_eq_true rfl, Nat.le_of_ble_eq_true rfl⟩) (pcS _) rfl rfl hl.1 rfl (lv_room (Nat.le_of_ble_eq_true rfl)) dX0_sheet_15 ⟨Nat.le_of_ble_eq_true rfl, Nat.le_of_ble_eq_true rfl⟩)).run (fun r hw => ?_)
    have hw : r = (b2i (inP lane 3)) := hw
    subst hw
    refine bz_eq (tgt := 27) hx hb dX0_sheet_18 (by decide) (fun c_2 => ?_) (fun c_2 => ?_)
    · skip
      refine lv_bipush (v := (-2)) hx hb dX0_sheet_27 (by decide) ?_
      refine W.widen (k := 8) (n := 3000) (Nat.le_of_ble_eq_true rfl) (Nat.le_of_ble_eq_true rfl) ?_
      exact W.iret (v := (-2)) hx hb hr (fun t ht hW => ⟨⟨(-2), ((upd g 0 0), a), rfl, ⟨(by first | rfl | (simp [c_1, c_2]; done)), rfl⟩, by rw [ht]; exact hP, va_K.moved hW.alike hK, hD⟩, hS.F ht⟩) hS.2.2 dX0_sheet_29
    · skip
      refine lv_iload_n hx hb dX0_sheet_21 rfl (lv_at hl 3 rfl) ?_
      refine lv_bipush (v := 60) hx hb dX0_sheet_22 (by decide) ?_
      refine lv_icmp_le (tgt := 30) hx hb dX0_sheet_24 (by decide) (fun c_3 => ?_) (fun c_3 => ?_)
      · skip
        exact False.elim (by exact ho ⟨c_2, c_3⟩)
      · skip
        refine lv_bipush (v := (-2)) hx hb dX0_sheet_27 (by decide) ?_
        refine W.widen (k := 8) (n := 3000) (Nat.le_of_ble_eq_true rfl) (Nat.le_of_ble_eq_true rfl) ?_
        exact W.iret (v := (-2)) hx hb hr (fun t ht hW => ⟨⟨(-2), ((upd g 0 0), a), rfl, ⟨(by first | rfl | (simp [c_1, c_2, c_3]; done)), rfl⟩, by rw [ht]; exact hP, va_K.moved hW.alike hK, hD⟩, hS.F ht⟩) hS.2.2 dX0_sheet_29
  · skip
    exact False.elim (by rw [hk4] at c_1; cases c_1)
set_option maxHeartbeats 4000000 in
set_option maxRecDepth 100000 in
theorem metX0_sheet_S (l : Launch) (dC : Nat → ClassId) (dI : Nat → Nat → Nat) (ct : Nat → ClassId) (A : Nat → Prop) (ex : va_W) (o : Nat) (q : Nat → Nat) (ql qs : Nat) (md : Int32) (qe n : Nat) (y : Nat → Nat) (g : Nat → Int32) (a : Nat → Nat → Int32) (htr : l.stackTraces = false) (K : Nat) (lane : Int32) (nn : Int32) (j0 : Nat) (pl : Nat → Nat) (hj0 : ex[j0]? = some (qs, .inl (ct 5, 4, .inr (.inr (.inr (.inr (fun j => some (pl j)))))))) (hK4 : K < 4) (hl3 : inP lane 3 = true) (hn0 : nn < 0) : Met l yX0_sheet (wsW_ yX0_sheet cX0_sheet 5 (some .int) [((30 : Nat), (64 : Nat), (65 : Nat), (181 : Nat))]) ({ frames := 16, cells := 8, slots := 3000, locals := 12000 }) (sPre dC dI ct A ex o q (ql, qs, md, qe, n) y g a [.ref o, .int (nI K), .int lane, .int nn]) (va_Qi (fun (r : Int32) (u : (Nat → Int32) × (Nat → Nat → Int32)) => r = (-14) ∧ u = ((upd g 0 4), a)) (fun u t => gB dC dI ct A ex o q (ql, qs, md, qe, n) y u t) A) 8 3000 A := by
  refine cx_MetW (cc := cX0_sheet) (maxL := 5) (ret := (some .int)) (hh := [((30 : Nat), (64 : Nat), (65 : Nat), (181 : Nat))]) (by decide) rfl ?_
  intro p e s m args below meth c s₁ B hml het hv
  obtain ⟨rfl, hP, hK, hD, hE, hE9, hA, hst, hI9⟩ := hv
  have hN9 := hE9.now
  have hx := B.exec
  have hb := B.bytes
  have hr := B.returns
  have hts := atoms_spec (ws := wsW_ yX0_sheet cX0_sheet 5 (some .int) [((30 : Nat), (64 : Nat), (65 : Nat), (181 : Nat))]) B.pre
  have hts : ∀ w ∈ lw_all, w.before _ s = true := fun w h => hts w (List.mem_cons_of_mem _ h)
  have hown : s.vm.findClass RX0 = some m.cls := findClass_of_methodNamed B.named
  have hlocks := B.notSynchronized
  have hS : va_S A s.heap s.heap [] := va_S.rf
  have hl := lv_entry ([.ref o, .int (nI K), .int lane, .int nn]) (n := 5) (Nat.le_of_ble_eq_true rfl)
  rw [lg_entry_eq]
  generalize (lg_sl ([.ref o, .int (nI K), .int lane, .int nn]) ++ List.replicate (5 - (lg_sl ([.ref o, .int (nI K), .int lane, .int nn])).length) Slot.unset).toArray = ls at hl ⊢
  have hl : lv_has ls 5 [(0, .ref o), (1, .int (nI K)), (2, .int lane), (3, .int nn)] := hl
  refine lv_aload_n hx hb dX0_sheet_0 rfl (lv_at hl 0 rfl) ?_
  refine lv_iconst (v := 0) hx hb dX0_sheet_1 (by decide) ?_
  refine g_put (v := 0) hx hb hts hown hK hP hD hS 0 0 (by decide) rfl q144 rfl rfl (by decide +kernel) dX0_sheet_2 (fun H locs hP hD hS => ?_)
  refine lv_iload_n hx hb dX0_sheet_5 rfl (lv_at hl 1 rfl) ?_
  refine vp_callSi ((va_runS (As := [.int (nI K)]) (rest := []) ⟨hx, hb, hml, hown, hts⟩ (metX0_isSheet l (nI K) ) (va_cwS 1 hts (lw_S q376 q377 q69 q378) rfl rfl rfl (by decide +kernel) ⟨Nat.le_of_ble_eq_true rfl, Nat.le_of_ble_eq_true rfl⟩) (pcS _) rfl rfl hl.1 rfl (lv_room (Nat.le_of_ble_eq_true rfl)) dX0_sheet_6 ⟨Nat.le_of_ble_eq_true rfl, Nat.le_of_ble_eq_true rfl⟩)).run (fun r hw => ?_)
  have hw : r = (b2i (inP (nI K) 4)) := hw
  subst hw
  refine bz_ne (tgt := 14) hx hb dX0_sheet_9 (by decide) (fun c_1 => ?_) (fun c_1 => ?_)
  · skip
    refine lv_iload_n hx hb dX0_sheet_14 rfl (lv_at hl 2 rfl) ?_
    refine vp_callSi ((va_runS (As := [.int lane]) (rest := []) ⟨hx, hb, hml, hown, hts⟩ (metX0_isLane l lane ) (va_cwS 1 hts (lw_S q383 q384 q69 q385) rfl rfl rfl (by decide +kernel) ⟨Nat.le_of_ble_eq_true rfl, Nat.le_of_ble_eq_true rfl⟩) (pcS _) rfl rfl hl.1 rfl (lv_room (Nat.le_of_ble_eq_true rfl)) dX0_sheet_15 ⟨Nat.le_of_ble_eq_true rfl, Nat.le_of_ble_eq_true rfl⟩)).run (fun r hw => ?_)
    have hw : r = (b2i (inP lane 3)) := hw
    subst hw
    refine bz_eq (tgt := 27) hx hb dX0_sheet_18 (by decide) (fun c_2 => ?_) (fun c_2 => ?_)
    · skip
      exact False.elim (by rw [hl3] at c_2; cases c_2)
    · skip
      refine lv_iload_n hx hb dX0_sheet_21 rfl (lv_at hl 3 rfl) ?_
      refine lv_bipush (v := 60) hx hb dX0_sheet_22 (by decide) ?_
      refine lv_icmp_le (tgt := 30) hx hb dX0_sheet_24 (by decide) (fun c_3 => ?_) (fun c_3 => ?_)
      · skip
        refine lv_aload_n hx hb dX0_sheet_30 rfl (lv_at hl 0 rfl) ?_
        refine g_get (v := .ref qs) hx hb hts hown hK hP 25 (by decide) rfl q174 rfl dX0_sheet_31 ?_
        refine lv_iload_n hx hb dX0_sheet_34 rfl (lv_at hl 1 rfl) ?_
        refine s_pla hx hb hK hP (xps n + j0) ((xG_ex j0).trans hj0) K hK4 dX0_sheet_35 ?_
        refine lv_iload_n hx hb dX0_sheet_36 rfl (lv_at hl 2 rfl) ?_
        refine lv_if_ne (tgt := 46) hx hb dX0_sheet_37 (by decide) (fun c_4 => ?_) (fun c_4 => ?_)
        · skip
          refine lv_iload_n hx hb dX0_sheet_46 rfl (lv_at hl 2 rfl) ?_
          refine lv_iconst (v := 1) hx hb dX0_sheet_47 (by decide) ?_
          refine lv_icmp_ne (tgt := 57) hx hb dX0_sheet_48 (by decide) (fun c_5 => ?_) (fun c_5 => ?_)
          · skip
            refine lv_iload_n hx hb dX0_sheet_57 rfl (lv_at hl 3 rfl) ?_
            refine a_newX hx hb (hml.trans hl.1.symm) htr hN9 (nst_lo hst hS) hn0 (Nat.le_of_ble_eq_true rfl) (Nat.le_of_ble_eq_true rfl) (Nat.le_of_ble_eq_true rfl) (Nat.le_of_ble_eq_true rfl) dX0_sheet_58 (fun H ce h1 h2 h3 h4 => ?_)
            generalize _ + 2 = x9 at h2 ⊢
            have hP := h1.P hP
            have hS := h1.S hS
            refine WT.caught (own := "LentYouths") hown h2 h4 (x := ⟨30, 64, 65, 181⟩) (rest := cxT []) (nm := "java/lang/NegativeArraySizeException") ⟨rfl, by decide, hts _ q343⟩ h3 (va_asg _ _) [] (fun z hz => absurd hz List.not_mem_nil) het ?_
            refine W.eq (g2 := F0 m 65 ls [.ref x9]) rfl ?_
            refine lv_astore (lv' := [(4, .ref x9), (0, .ref o), (1, .int (nI K)), (2, .int lane), (3, .int nn)]) hx hb dX0_sheet_65 hl (by decide) rfl (fun ls hl => ?_)
            refine lv_aload_n hx hb dX0_sheet_67 rfl (lv_at hl 1 rfl) ?_
            refine lv_iconst (v := 4) hx hb dX0_sheet_68 (by decide) ?_
            refine va_calli (va_runV (As := [.int 4]) (rest := []) ⟨hx, hb, hml, hown, hts⟩ (metX0_faulty l dC dI ct A (peW ct o qe n y a ++ ex) o q ql qs md qe n (upd g 0 0) a 4 ) (cwV 1 hts (lw_V q581 q583 qs12 q69 q584) rfl rfl rfl (by decide +kernel) ⟨Nat.le_of_ble_eq_true rfl, Nat.le_of_ble_eq_true rfl⟩) (xPV hK hP hD hE _) rfl rfl hl.1 rfl (lv_room (Nat.le_of_ble_eq_true rfl)) dX0_sheet_69 ⟨Nat.le_of_ble_eq_true rfl, Nat.le_of_ble_eq_true rfl⟩) hS (fun q _ h => h) (fun q h => h) (fun r u t H1 locs ht hvm hw hB hz1 hk1 hS => ?_)
            obtain ⟨hw, hw2⟩ := hw
            have hw : r = ((-10) - 4) := hw
            subst hw
            subst hw2
            obtain ⟨hP, -, hD⟩ := hB
            rw [ht] at hP
            generalize H1 = H at hP hS ⊢
            have hP : va_P (dC, dI) clA (xG ct o q (ql, qs, md, qe, n) y (upd g 0 4) a ex) H := hP
            have hD : va_D A (xG ct o q (ql, qs, md, qe, n) y (upd g 0 4) a ex) := hD
            refine W.widen (k := 8) (n := 3000) (Nat.le_of_ble_eq_true rfl) (Nat.le_of_ble_eq_true rfl) ?_
            exact W.iret (v := ((-10) - 4)) hx hb hr (fun t ht hW => ⟨⟨((-10) - 4), ((upd g 0 4), a), rfl, ⟨(by first | rfl | (simp [c_1, c_2, c_3, c_4, c_5]; done)), rfl⟩, by rw [ht]; exact hP, va_K.moved hW.alike hK, hD⟩, hS.F ht⟩) hS.2.2 dX0_sheet_72
          · skip
            refine lv_iload_n hx hb dX0_sheet_51 rfl (lv_at hl 3 rfl) ?_
            refine a_newX hx hb (hml.trans hl.1.symm) htr hN9 (nst_lo hst hS) hn0 (Nat.le_of_ble_eq_true rfl) (Nat.le_of_ble_eq_true rfl) (Nat.le_of_ble_eq_true rfl) (Nat.le_of_ble_eq_true rfl) dX0_sheet_52 (fun H ce h1 h2 h3 h4 => ?_)
            generalize _ + 2 = x9 at h2 ⊢
            have hP := h1.P hP
            have hS := h1.S hS
            refine WT.caught (own := "LentYouths") hown h2 h4 (x := ⟨30, 64, 65, 181⟩) (rest := cxT []) (nm := "java/lang/NegativeArraySizeException") ⟨rfl, by decide, hts _ q343⟩ h3 (va_asg _ _) [] (fun z hz => absurd hz List.not_mem_nil) het ?_
            refine W.eq (g2 := F0 m 65 ls [.ref x9]) rfl ?_
            refine lv_astore (lv' := [(4, .ref x9), (0, .ref o), (1, .int (nI K)), (2, .int lane), (3, .int nn)]) hx hb dX0_sheet_65 hl (by decide) rfl (fun ls hl => ?_)
            refine lv_aload_n hx hb dX0_sheet_67 rfl (lv_at hl 1 rfl) ?_
            refine lv_iconst (v := 4) hx hb dX0_sheet_68 (by decide) ?_
            refine va_calli (va_runV (As := [.int 4]) (rest := []) ⟨hx, hb, hml, hown, hts⟩ (metX0_faulty l dC dI ct A (peW ct o qe n y a ++ ex) o q ql qs md qe n (upd g 0 0) a 4 ) (cwV 1 hts (lw_V q581 q583 qs12 q69 q584) rfl rfl rfl (by decide +kernel) ⟨Nat.le_of_ble_eq_true rfl, Nat.le_of_ble_eq_true rfl⟩) (xPV hK hP hD hE _) rfl rfl hl.1 rfl (lv_room (Nat.le_of_ble_eq_true rfl)) dX0_sheet_69 ⟨Nat.le_of_ble_eq_true rfl, Nat.le_of_ble_eq_true rfl⟩) hS (fun q _ h => h) (fun q h => h) (fun r u t H1 locs ht hvm hw hB hz1 hk1 hS => ?_)
            obtain ⟨hw, hw2⟩ := hw
            have hw : r = ((-10) - 4) := hw
            subst hw
            subst hw2
            obtain ⟨hP, -, hD⟩ := hB
            rw [ht] at hP
            generalize H1 = H at hP hS ⊢
            have hP : va_P (dC, dI) clA (xG ct o q (ql, qs, md, qe, n) y (upd g 0 4) a ex) H := hP
            have hD : va_D A (xG ct o q (ql, qs, md, qe, n) y (upd g 0 4) a ex) := hD
            refine W.widen (k := 8) (n := 3000) (Nat.le_of_ble_eq_true rfl) (Nat.le_of_ble_eq_true rfl) ?_
            exact W.iret (v := ((-10) - 4)) hx hb hr (fun t ht hW => ⟨⟨((-10) - 4), ((upd g 0 4), a), rfl, ⟨(by first | rfl | (simp [c_1, c_2, c_3, c_4, c_5]; done)), rfl⟩, by rw [ht]; exact hP, va_K.moved hW.alike hK, hD⟩, hS.F ht⟩) hS.2.2 dX0_sheet_72
        · skip
          refine lv_iload_n hx hb dX0_sheet_40 rfl (lv_at hl 3 rfl) ?_
          refine a_newX hx hb (hml.trans hl.1.symm) htr hN9 (nst_lo hst hS) hn0 (Nat.le_of_ble_eq_true rfl) (Nat.le_of_ble_eq_true rfl) (Nat.le_of_ble_eq_true rfl) (Nat.le_of_ble_eq_true rfl) dX0_sheet_41 (fun H ce h1 h2 h3 h4 => ?_)
          generalize _ + 2 = x9 at h2 ⊢
          have hP := h1.P hP
          have hS := h1.S hS
          refine WT.caught (own := "LentYouths") hown h2 h4 (x := ⟨30, 64, 65, 181⟩) (rest := cxT []) (nm := "java/lang/NegativeArraySizeException") ⟨rfl, by decide, hts _ q343⟩ h3 (va_asg _ _) [] (fun z hz => absurd hz List.not_mem_nil) het ?_
          refine W.eq (g2 := F0 m 65 ls [.ref x9]) rfl ?_
          refine lv_astore (lv' := [(4, .ref x9), (0, .ref o), (1, .int (nI K)), (2, .int lane), (3, .int nn)]) hx hb dX0_sheet_65 hl (by decide) rfl (fun ls hl => ?_)
          refine lv_aload_n hx hb dX0_sheet_67 rfl (lv_at hl 1 rfl) ?_
          refine lv_iconst (v := 4) hx hb dX0_sheet_68 (by decide) ?_
          refine va_calli (va_runV (As := [.int 4]) (rest := []) ⟨hx, hb, hml, hown, hts⟩ (metX0_faulty l dC dI ct A (peW ct o qe n y a ++ ex) o q ql qs md qe n (upd g 0 0) a 4 ) (cwV 1 hts (lw_V q581 q583 qs12 q69 q584) rfl rfl rfl (by decide +kernel) ⟨Nat.le_of_ble_eq_true rfl, Nat.le_of_ble_eq_true rfl⟩) (xPV hK hP hD hE _) rfl rfl hl.1 rfl (lv_room (Nat.le_of_ble_eq_true rfl)) dX0_sheet_69 ⟨Nat.le_of_ble_eq_true rfl, Nat.le_of_ble_eq_true rfl⟩) hS (fun q _ h => h) (fun q h => h) (fun r u t H1 locs ht hvm hw hB hz1 hk1 hS => ?_)
          obtain ⟨hw, hw2⟩ := hw
          have hw : r = ((-10) - 4) := hw
          subst hw
          subst hw2
          obtain ⟨hP, -, hD⟩ := hB
          rw [ht] at hP
          generalize H1 = H at hP hS ⊢
          have hP : va_P (dC, dI) clA (xG ct o q (ql, qs, md, qe, n) y (upd g 0 4) a ex) H := hP
          have hD : va_D A (xG ct o q (ql, qs, md, qe, n) y (upd g 0 4) a ex) := hD
          refine W.widen (k := 8) (n := 3000) (Nat.le_of_ble_eq_true rfl) (Nat.le_of_ble_eq_true rfl) ?_
          exact W.iret (v := ((-10) - 4)) hx hb hr (fun t ht hW => ⟨⟨((-10) - 4), ((upd g 0 4), a), rfl, ⟨(by first | rfl | (simp [c_1, c_2, c_3, c_4]; done)), rfl⟩, by rw [ht]; exact hP, va_K.moved hW.alike hK, hD⟩, hS.F ht⟩) hS.2.2 dX0_sheet_72
      · skip
        exact False.elim (by exact c_3 (Int32.le_of_lt (Int32.lt_trans hn0 (by decide))))
  · skip
    exact False.elim (by rw [inK hK4] at c_1; cases c_1)
set_option maxHeartbeats 4000000 in
set_option maxRecDepth 100000 in
theorem metX0_sheet_0 (l : Launch) (dC : Nat → ClassId) (dI : Nat → Nat → Nat) (ct : Nat → ClassId) (A : Nat → Prop) (ex : va_W) (o : Nat) (q : Nat → Nat) (ql qs : Nat) (md : Int32) (qe n : Nat) (y : Nat → Nat) (g : Nat → Int32) (a : Nat → Nat → Int32) (htr : l.stackTraces = false) (K : Nat) (l0 : Int32) (N : Nat) (j0 : Nat) (pl : Nat → Nat) (hj0 : ex[j0]? = some (qs, .inl (ct 5, 4, .inr (.inr (.inr (.inr (fun j => some (pl j)))))))) (hK4 : K < 4) (j1 : Nat) (v0 : Value) (hj1 : ex[j1]? = some (pl K, .inr (6, [v0]))) (hN : N ≤ 60) : Met l yX0_sheet (wsW_ yX0_sheet cX0_sheet 5 (some .int) [((30 : Nat), (64 : Nat), (65 : Nat), (181 : Nat))]) ({ frames := 16, cells := 8, slots := 3000, locals := 12000 }) (sPre dC dI ct A ex o q (ql, qs, md, qe, n) y g a [.ref o, .int (nI K), .int 0, .int (nI N)]) (va_Qi (fun (r : Int32) (u : (Nat → Int32) × (Nat → Nat → Int32)) => r = 1 ∧ u = ((upd g 0 0), a)) (fun u t => ∃ qa : Nat, gB dC dI ct A (ex.set j1 (pl K, .inr (6, [va_rf (some qa)])) ++ [(qa, .inl (ct 2, N, .inl (fun _ => 0)))]) o q (ql, qs, md, qe, n) y u t) A) 8 3000 A := by
  refine cx_MetW (cc := cX0_sheet) (maxL := 5) (ret := (some .int)) (hh := [((30 : Nat), (64 : Nat), (65 : Nat), (181 : Nat))]) (by decide) rfl ?_
  intro p e s m args below meth c s₁ B hml het hv
  obtain ⟨rfl, hP, hK, hD, hE, hE9, hA, hst, hI9⟩ := hv
  have hN9 := hE9.now
  have hx := B.exec
  have hb := B.bytes
  have hr := B.returns
  have hts := atoms_spec (ws := wsW_ yX0_sheet cX0_sheet 5 (some .int) [((30 : Nat), (64 : Nat), (65 : Nat), (181 : Nat))]) B.pre
  have hts : ∀ w ∈ lw_all, w.before _ s = true := fun w h => hts w (List.mem_cons_of_mem _ h)
  have hown : s.vm.findClass RX0 = some m.cls := findClass_of_methodNamed B.named
  have hlocks := B.notSynchronized
  have hS : va_S A s.heap s.heap [] := va_S.rf
  have hl := lv_entry ([.ref o, .int (nI K), .int 0, .int (nI N)]) (n := 5) (Nat.le_of_ble_eq_true rfl)
  rw [lg_entry_eq]
  generalize (lg_sl ([.ref o, .int (nI K), .int 0, .int (nI N)]) ++ List.replicate (5 - (lg_sl ([.ref o, .int (nI K), .int 0, .int (nI N)])).length) Slot.unset).toArray = ls at hl ⊢
  have hl : lv_has ls 5 [(0, .ref o), (1, .int (nI K)), (2, .int 0), (3, .int (nI N))] := hl
  refine lv_aload_n hx hb dX0_sheet_0 rfl (lv_at hl 0 rfl) ?_
  refine lv_iconst (v := 0) hx hb dX0_sheet_1 (by decide) ?_
  refine g_put (v := 0) hx hb hts hown hK hP hD hS 0 0 (by decide) rfl q144 rfl rfl (by decide +kernel) dX0_sheet_2 (fun H locs hP hD hS => ?_)
  refine lv_iload_n hx hb dX0_sheet_5 rfl (lv_at hl 1 rfl) ?_
  refine vp_callSi ((va_runS (As := [.int (nI K)]) (rest := []) ⟨hx, hb, hml, hown, hts⟩ (metX0_isSheet l (nI K) ) (va_cwS 1 hts (lw_S q376 q377 q69 q378) rfl rfl rfl (by decide +kernel) ⟨Nat.le_of_ble_eq_true rfl, Nat.le_of_ble_eq_true rfl⟩) (pcS _) rfl rfl hl.1 rfl (lv_room (Nat.le_of_ble_eq_true rfl)) dX0_sheet_6 ⟨Nat.le_of_ble_eq_true rfl, Nat.le_of_ble_eq_true rfl⟩)).run (fun r hw => ?_)
  have hw : r = (b2i (inP (nI K) 4)) := hw
  subst hw
  refine bz_ne (tgt := 14) hx hb dX0_sheet_9 (by decide) (fun c_1 => ?_) (fun c_1 => ?_)
  · skip
    refine lv_iload_n hx hb dX0_sheet_14 rfl (lv_at hl 2 rfl) ?_
    refine vp_callSi ((va_runS (As := [.int 0]) (rest := []) ⟨hx, hb, hml, hown, hts⟩ (metX0_isLane l 0 ) (va_cwS 1 hts (lw_S q383 q384 q69 q385) rfl rfl rfl (by decide +kernel) ⟨Nat.le_of_ble_eq_true rfl, Nat.le_of_ble_eq_true rfl⟩) (pcS _) rfl rfl hl.1 rfl (lv_room (Nat.le_of_ble_eq_true rfl)) dX0_sheet_15 ⟨Nat.le_of_ble_eq_true rfl, Nat.le_of_ble_eq_true rfl⟩)).run (fun r hw => ?_)
    have hw : r = (b2i (inP 0 3)) := hw
    subst hw
    refine bz_eq (tgt := 27) hx hb dX0_sheet_18 (by decide) (fun c_2 => ?_) (fun c_2 => ?_)
    · skip
      exact False.elim (by exact absurd c_2 (by decide))
    · skip
      refine lv_iload_n hx hb dX0_sheet_21 rfl (lv_at hl 3 rfl) ?_
      refine lv_bipush (v := 60) hx hb dX0_sheet_22 (by decide) ?_
      refine lv_icmp_le (tgt := 30) hx hb dX0_sheet_24 (by decide) (fun c_3 => ?_) (fun c_3 => ?_)
      · skip
        refine lv_aload_n hx hb dX0_sheet_30 rfl (lv_at hl 0 rfl) ?_
        refine g_get (v := .ref qs) hx hb hts hown hK hP 25 (by decide) rfl q174 rfl dX0_sheet_31 ?_
        refine lv_iload_n hx hb dX0_sheet_34 rfl (lv_at hl 1 rfl) ?_
        refine s_pla hx hb hK hP (xps n + j0) ((xG_ex j0).trans hj0) K hK4 dX0_sheet_35 ?_
        refine lv_iload_n hx hb dX0_sheet_36 rfl (lv_at hl 2 rfl) ?_
        refine lv_if_ne (tgt := 46) hx hb dX0_sheet_37 (by decide) (fun c_4 => ?_) (fun c_4 => ?_)
        · skip
          exact absurd c_4 (by decide)
        · skip
          refine lv_iload_n hx hb dX0_sheet_40 rfl (lv_at hl 3 rfl) ?_
          rw [show xG ct o q (ql, qs, md, qe, n) y (upd g 0 0) a ex = (xG ct o q (ql, qs, md, qe, n) y (upd g 0 0) a ex) ++ [] from (List.append_nil _).symm] at hP hD
          refine mk_arr (atype := .byte) (own := xG ct o q (ql, qs, md, qe, n) y (upd g 0 0) a ex) (ex := []) hx hb (hts _ q313) rfl hK hP hD hS hA 2 rfl (fun C z => by cases z) rfl N rfl (by omega) (by decide) (Nat.le_of_ble_eq_true rfl) (by show 0 + N ≤ _; exact Nat.le_trans (show 0 + N ≤ 61 by omega) (Nat.le_of_ble_eq_true rfl)) dX0_sheet_41 (fun qa H hP hD hS => ?_)
          refine W.widen (k := 1) (n := 61) (Nat.le_of_ble_eq_true rfl) (by omega) ?_
          rw [List.append_nil, ← xG_app] at hP hD
          refine lv_goto (tgt := 60) hx hb dX0_sheet_43 (by decide) ?_
          refine s_put (r := (some qa)) hx hb hts hown hK hP hD hS hE (xps n + j1) ((xG_ex j1).trans (ap_at hj1)) dX0_sheet_60 (fun H locs hP hD hS => ?_)
          rw [xG_exs, ap_set hj1] at hP hD
          refine lv_iconst (v := 1) hx hb dX0_sheet_63 (by decide) ?_
          refine W.widen (k := 8) (n := 3000) (Nat.le_of_ble_eq_true rfl) (Nat.le_of_ble_eq_true rfl) ?_
          exact W.iret (v := 1) hx hb hr (fun t ht hW => ⟨⟨1, ((upd g 0 0), a), rfl, ⟨(by first | rfl | (simp [c_1, c_2, c_3, c_4]; done)), rfl⟩, qa, by rw [ht]; exact hP, va_K.moved hW.alike hK, hD⟩, hS.F ht⟩) hS.2.2 dX0_sheet_64
      · skip
        exact False.elim (by exact c_3 ((nI_leI (b := 60) (by omega) (by decide)).mpr hN))
  · skip
    exact False.elim (by rw [inK hK4] at c_1; cases c_1)
set_option maxHeartbeats 4000000 in
set_option maxRecDepth 100000 in
theorem metX0_sheet_1 (l : Launch) (dC : Nat → ClassId) (dI : Nat → Nat → Nat) (ct : Nat → ClassId) (A : Nat → Prop) (ex : va_W) (o : Nat) (q : Nat → Nat) (ql qs : Nat) (md : Int32) (qe n : Nat) (y : Nat → Nat) (g : Nat → Int32) (a : Nat → Nat → Int32) (htr : l.stackTraces = false) (K : Nat) (l1 : Int32) (N : Nat) (j0 : Nat) (pl : Nat → Nat) (hj0 : ex[j0]? = some (qs, .inl (ct 5, 4, .inr (.inr (.inr (.inr (fun j => some (pl j)))))))) (hK4 : K < 4) (j1 : Nat) (v0 : Value) (hj1 : ex[j1]? = some (pl K, .inr (6, [v0]))) (hN : N ≤ 60) : Met l yX0_sheet (wsW_ yX0_sheet cX0_sheet 5 (some .int) [((30 : Nat), (64 : Nat), (65 : Nat), (181 : Nat))]) ({ frames := 16, cells := 8, slots := 3000, locals := 12000 }) (sPre dC dI ct A ex o q (ql, qs, md, qe, n) y g a [.ref o, .int (nI K), .int 1, .int (nI N)]) (va_Qi (fun (r : Int32) (u : (Nat → Int32) × (Nat → Nat → Int32)) => r = 1 ∧ u = ((upd g 0 0), a)) (fun u t => ∃ qa : Nat, gB dC dI ct A (ex.set j1 (pl K, .inr (6, [va_rf (some qa)])) ++ [(qa, .inl (ct 3, N, .inl (fun _ => 0)))]) o q (ql, qs, md, qe, n) y u t) A) 8 3000 A := by
  refine cx_MetW (cc := cX0_sheet) (maxL := 5) (ret := (some .int)) (hh := [((30 : Nat), (64 : Nat), (65 : Nat), (181 : Nat))]) (by decide) rfl ?_
  intro p e s m args below meth c s₁ B hml het hv
  obtain ⟨rfl, hP, hK, hD, hE, hE9, hA, hst, hI9⟩ := hv
  have hN9 := hE9.now
  have hx := B.exec
  have hb := B.bytes
  have hr := B.returns
  have hts := atoms_spec (ws := wsW_ yX0_sheet cX0_sheet 5 (some .int) [((30 : Nat), (64 : Nat), (65 : Nat), (181 : Nat))]) B.pre
  have hts : ∀ w ∈ lw_all, w.before _ s = true := fun w h => hts w (List.mem_cons_of_mem _ h)
  have hown : s.vm.findClass RX0 = some m.cls := findClass_of_methodNamed B.named
  have hlocks := B.notSynchronized
  have hS : va_S A s.heap s.heap [] := va_S.rf
  have hl := lv_entry ([.ref o, .int (nI K), .int 1, .int (nI N)]) (n := 5) (Nat.le_of_ble_eq_true rfl)
  rw [lg_entry_eq]
  generalize (lg_sl ([.ref o, .int (nI K), .int 1, .int (nI N)]) ++ List.replicate (5 - (lg_sl ([.ref o, .int (nI K), .int 1, .int (nI N)])).length) Slot.unset).toArray = ls at hl ⊢
  have hl : lv_has ls 5 [(0, .ref o), (1, .int (nI K)), (2, .int 1), (3, .int (nI N))] := hl
  refine lv_aload_n hx hb dX0_sheet_0 rfl (lv_at hl 0 rfl) ?_
  refine lv_iconst (v := 0) hx hb dX0_sheet_1 (by decide) ?_
  refine g_put (v := 0) hx hb hts hown hK hP hD hS 0 0 (by decide) rfl q144 rfl rfl (by decide +kernel) dX0_sheet_2 (fun H locs hP hD hS => ?_)
  refine lv_iload_n hx hb dX0_sheet_5 rfl (lv_at hl 1 rfl) ?_
  refine vp_callSi ((va_runS (As := [.int (nI K)]) (rest := []) ⟨hx, hb, hml, hown, hts⟩ (metX0_isSheet l (nI K) ) (va_cwS 1 hts (lw_S q376 q377 q69 q378) rfl rfl rfl (by decide +kernel) ⟨Nat.le_of_ble_eq_true rfl, Nat.le_of_ble_eq_true rfl⟩) (pcS _) rfl rfl hl.1 rfl (lv_room (Nat.le_of_ble_eq_true rfl)) dX0_sheet_6 ⟨Nat.le_of_ble_eq_true rfl, Nat.le_of_ble_eq_true rfl⟩)).run (fun r hw => ?_)
  have hw : r = (b2i (inP (nI K) 4)) := hw
  subst hw
  refine bz_ne (tgt := 14) hx hb dX0_sheet_9 (by decide) (fun c_1 => ?_) (fun c_1 => ?_)
  · skip
    refine lv_iload_n hx hb dX0_sheet_14 rfl (lv_at hl 2 rfl) ?_
    refine vp_callSi ((va_runS (As := [.int 1]) (rest := []) ⟨hx, hb, hml, hown, hts⟩ (metX0_isLane l 1 ) (va_cwS 1 hts (lw_S q383 q384 q69 q385) rfl rfl rfl (by decide +kernel) ⟨Nat.le_of_ble_eq_true rfl, Nat.le_of_ble_eq_true rfl⟩) (pcS _) rfl rfl hl.1 rfl (lv_room (Nat.le_of_ble_eq_true rfl)) dX0_sheet_15 ⟨Nat.le_of_ble_eq_true rfl, Nat.le_of_ble_eq_true rfl⟩)).run (fun r hw => ?_)
    have hw : r = (b2i (inP 1 3)) := hw
    subst hw
    refine bz_eq (tgt := 27) hx hb dX0_sheet_18 (by decide) (fun c_2 => ?_) (fun c_2 => ?_)
    · skip
      exact False.elim (by exact absurd c_2 (by decide))
    · skip
      refine lv_iload_n hx hb dX0_sheet_21 rfl (lv_at hl 3 rfl) ?_
      refine lv_bipush (v := 60) hx hb dX0_sheet_22 (by decide) ?_
      refine lv_icmp_le (tgt := 30) hx hb dX0_sheet_24 (by decide) (fun c_3 => ?_) (fun c_3 => ?_)
      · skip
        refine lv_aload_n hx hb dX0_sheet_30 rfl (lv_at hl 0 rfl) ?_
        refine g_get (v := .ref qs) hx hb hts hown hK hP 25 (by decide) rfl q174 rfl dX0_sheet_31 ?_
        refine lv_iload_n hx hb dX0_sheet_34 rfl (lv_at hl 1 rfl) ?_
        refine s_pla hx hb hK hP (xps n + j0) ((xG_ex j0).trans hj0) K hK4 dX0_sheet_35 ?_
        refine lv_iload_n hx hb dX0_sheet_36 rfl (lv_at hl 2 rfl) ?_
        refine lv_if_ne (tgt := 46) hx hb dX0_sheet_37 (by decide) (fun c_4 => ?_) (fun c_4 => ?_)
        · skip
          refine lv_iload_n hx hb dX0_sheet_46 rfl (lv_at hl 2 rfl) ?_
          refine lv_iconst (v := 1) hx hb dX0_sheet_47 (by decide) ?_
          refine lv_icmp_ne (tgt := 57) hx hb dX0_sheet_48 (by decide) (fun c_5 => ?_) (fun c_5 => ?_)
          · skip
            exact absurd c_5 (by decide)
          · skip
            refine lv_iload_n hx hb dX0_sheet_51 rfl (lv_at hl 3 rfl) ?_
            rw [show xG ct o q (ql, qs, md, qe, n) y (upd g 0 0) a ex = (xG ct o q (ql, qs, md, qe, n) y (upd g 0 0) a ex) ++ [] from (List.append_nil _).symm] at hP hD
            refine mk_arr (atype := .short) (own := xG ct o q (ql, qs, md, qe, n) y (upd g 0 0) a ex) (ex := []) hx hb (hts _ q859) rfl hK hP hD hS hA 3 rfl (fun C z => by cases z) rfl N rfl (by omega) (by decide) (Nat.le_of_ble_eq_true rfl) (by show 0 + N ≤ _; exact Nat.le_trans (show 0 + N ≤ 61 by omega) (Nat.le_of_ble_eq_true rfl)) dX0_sheet_52 (fun qa H hP hD hS => ?_)
            refine W.widen (k := 1) (n := 61) (Nat.le_of_ble_eq_true rfl) (by omega) ?_
            rw [List.append_nil, ← xG_app] at hP hD
            refine lv_goto (tgt := 60) hx hb dX0_sheet_54 (by decide) ?_
            refine s_put (r := (some qa)) hx hb hts hown hK hP hD hS hE (xps n + j1) ((xG_ex j1).trans (ap_at hj1)) dX0_sheet_60 (fun H locs hP hD hS => ?_)
            rw [xG_exs, ap_set hj1] at hP hD
            refine lv_iconst (v := 1) hx hb dX0_sheet_63 (by decide) ?_
            refine W.widen (k := 8) (n := 3000) (Nat.le_of_ble_eq_true rfl) (Nat.le_of_ble_eq_true rfl) ?_
            exact W.iret (v := 1) hx hb hr (fun t ht hW => ⟨⟨1, ((upd g 0 0), a), rfl, ⟨(by first | rfl | (simp [c_1, c_2, c_3, c_4, c_5]; done)), rfl⟩, qa, by rw [ht]; exact hP, va_K.moved hW.alike hK, hD⟩, hS.F ht⟩) hS.2.2 dX0_sheet_64
        · skip
          exact absurd c_4 (by decide)
      · skip
        exact False.elim (by exact c_3 ((nI_leI (b := 60) (by omega) (by decide)).mpr hN))
  · skip
    exact False.elim (by rw [inK hK4] at c_1; cases c_1)
set_option maxHeartbeats 4000000 in
set_option maxRecDepth 100000 in
theorem metX0_sheet_2 (l : Launch) (dC : Nat → ClassId) (dI : Nat → Nat → Nat) (ct : Nat → ClassId) (A : Nat → Prop) (ex : va_W) (o : Nat) (q : Nat → Nat) (ql qs : Nat) (md : Int32) (qe n : Nat) (y : Nat → Nat) (g : Nat → Int32) (a : Nat → Nat → Int32) (htr : l.stackTraces = false) (K : Nat) (l2 : Int32) (N : Nat) (j0 : Nat) (pl : Nat → Nat) (hj0 : ex[j0]? = some (qs, .inl (ct 5, 4, .inr (.inr (.inr (.inr (fun j => some (pl j)))))))) (hK4 : K < 4) (j1 : Nat) (v0 : Value) (hj1 : ex[j1]? = some (pl K, .inr (6, [v0]))) (hN : N ≤ 60) : Met l yX0_sheet (wsW_ yX0_sheet cX0_sheet 5 (some .int) [((30 : Nat), (64 : Nat), (65 : Nat), (181 : Nat))]) ({ frames := 16, cells := 8, slots := 3000, locals := 12000 }) (sPre dC dI ct A ex o q (ql, qs, md, qe, n) y g a [.ref o, .int (nI K), .int 2, .int (nI N)]) (va_Qi (fun (r : Int32) (u : (Nat → Int32) × (Nat → Nat → Int32)) => r = 1 ∧ u = ((upd g 0 0), a)) (fun u t => ∃ qa : Nat, gB dC dI ct A (ex.set j1 (pl K, .inr (6, [va_rf (some qa)])) ++ [(qa, .inl (ct 0, N, .inl (fun _ => 0)))]) o q (ql, qs, md, qe, n) y u t) A) 8 3000 A := by
  refine cx_MetW (cc := cX0_sheet) (maxL := 5) (ret := (some .int)) (hh := [((30 : Nat), (64 : Nat), (65 : Nat), (181 : Nat))]) (by decide) rfl ?_
  intro p e s m args below meth c s₁ B hml het hv
  obtain ⟨rfl, hP, hK, hD, hE, hE9, hA, hst, hI9⟩ := hv
  have hN9 := hE9.now
  have hx := B.exec
  have hb := B.bytes
  have hr := B.returns
  have hts := atoms_spec (ws := wsW_ yX0_sheet cX0_sheet 5 (some .int) [((30 : Nat), (64 : Nat), (65 : Nat), (181 : Nat))]) B.pre
  have hts : ∀ w ∈ lw_all, w.before _ s = true := fun w h => hts w (List.mem_cons_of_mem _ h)
  have hown : s.vm.findClass RX0 = some m.cls := findClass_of_methodNamed B.named
  have hlocks := B.notSynchronized
  have hS : va_S A s.heap s.heap [] := va_S.rf
  have hl := lv_entry ([.ref o, .int (nI K), .int 2, .int (nI N)]) (n := 5) (Nat.le_of_ble_eq_true rfl)
  rw [lg_entry_eq]
  generalize (lg_sl ([.ref o, .int (nI K), .int 2, .int (nI N)]) ++ List.replicate (5 - (lg_sl ([.ref o, .int (nI K), .int 2, .int (nI N)])).length) Slot.unset).toArray = ls at hl ⊢
  have hl : lv_has ls 5 [(0, .ref o), (1, .int (nI K)), (2, .int 2), (3, .int (nI N))] := hl
  refine lv_aload_n hx hb dX0_sheet_0 rfl (lv_at hl 0 rfl) ?_
  refine lv_iconst (v := 0) hx hb dX0_sheet_1 (by decide) ?_
  refine g_put (v := 0) hx hb hts hown hK hP hD hS 0 0 (by decide) rfl q144 rfl rfl (by decide +kernel) dX0_sheet_2 (fun H locs hP hD hS => ?_)
  refine lv_iload_n hx hb dX0_sheet_5 rfl (lv_at hl 1 rfl) ?_
  refine vp_callSi ((va_runS (As := [.int (nI K)]) (rest := []) ⟨hx, hb, hml, hown, hts⟩ (metX0_isSheet l (nI K) ) (va_cwS 1 hts (lw_S q376 q377 q69 q378) rfl rfl rfl (by decide +kernel) ⟨Nat.le_of_ble_eq_true rfl, Nat.le_of_ble_eq_true rfl⟩) (pcS _) rfl rfl hl.1 rfl (lv_room (Nat.le_of_ble_eq_true rfl)) dX0_sheet_6 ⟨Nat.le_of_ble_eq_true rfl, Nat.le_of_ble_eq_true rfl⟩)).run (fun r hw => ?_)
  have hw : r = (b2i (inP (nI K) 4)) := hw
  subst hw
  refine bz_ne (tgt := 14) hx hb dX0_sheet_9 (by decide) (fun c_1 => ?_) (fun c_1 => ?_)
  · skip
    refine lv_iload_n hx hb dX0_sheet_14 rfl (lv_at hl 2 rfl) ?_
    refine vp_callSi ((va_runS (As := [.int 2]) (rest := []) ⟨hx, hb, hml, hown, hts⟩ (metX0_isLane l 2 ) (va_cwS 1 hts (lw_S q383 q384 q69 q385) rfl rfl rfl (by decide +kernel) ⟨Nat.le_of_ble_eq_true rfl, Nat.le_of_ble_eq_true rfl⟩) (pcS _) rfl rfl hl.1 rfl (lv_room (Nat.le_of_ble_eq_true rfl)) dX0_sheet_15 ⟨Nat.le_of_ble_eq_true rfl, Nat.le_of_ble_eq_true rfl⟩)).run (fun r hw => ?_)
    have hw : r = (b2i (inP 2 3)) := hw
    subst hw
    refine bz_eq (tgt := 27) hx hb dX0_sheet_18 (by decide) (fun c_2 => ?_) (fun c_2 => ?_)
    · skip
      exact False.elim (by exact absurd c_2 (by decide))
    · skip
      refine lv_iload_n hx hb dX0_sheet_21 rfl (lv_at hl 3 rfl) ?_
      refine lv_bipush (v := 60) hx hb dX0_sheet_22 (by decide) ?_
      refine lv_icmp_le (tgt := 30) hx hb dX0_sheet_24 (by decide) (fun c_3 => ?_) (fun c_3 => ?_)
      · skip
        refine lv_aload_n hx hb dX0_sheet_30 rfl (lv_at hl 0 rfl) ?_
        refine g_get (v := .ref qs) hx hb hts hown hK hP 25 (by decide) rfl q174 rfl dX0_sheet_31 ?_
        refine lv_iload_n hx hb dX0_sheet_34 rfl (lv_at hl 1 rfl) ?_
        refine s_pla hx hb hK hP (xps n + j0) ((xG_ex j0).trans hj0) K hK4 dX0_sheet_35 ?_
        refine lv_iload_n hx hb dX0_sheet_36 rfl (lv_at hl 2 rfl) ?_
        refine lv_if_ne (tgt := 46) hx hb dX0_sheet_37 (by decide) (fun c_4 => ?_) (fun c_4 => ?_)
        · skip
          refine lv_iload_n hx hb dX0_sheet_46 rfl (lv_at hl 2 rfl) ?_
          refine lv_iconst (v := 1) hx hb dX0_sheet_47 (by decide) ?_
          refine lv_icmp_ne (tgt := 57) hx hb dX0_sheet_48 (by decide) (fun c_5 => ?_) (fun c_5 => ?_)
          · skip
            refine lv_iload_n hx hb dX0_sheet_57 rfl (lv_at hl 3 rfl) ?_
            rw [show xG ct o q (ql, qs, md, qe, n) y (upd g 0 0) a ex = (xG ct o q (ql, qs, md, qe, n) y (upd g 0 0) a ex) ++ [] from (List.append_nil _).symm] at hP hD
            refine mk_arr (atype := .int) (own := xG ct o q (ql, qs, md, qe, n) y (upd g 0 0) a ex) (ex := []) hx hb (hts _ q142) rfl hK hP hD hS hA 0 rfl (fun C z => by cases z) rfl N rfl (by omega) (by decide) (Nat.le_of_ble_eq_true rfl) (by show 0 + N ≤ _; exact Nat.le_trans (show 0 + N ≤ 61 by omega) (Nat.le_of_ble_eq_true rfl)) dX0_sheet_58 (fun qa H hP hD hS => ?_)
            refine W.widen (k := 1) (n := 61) (Nat.le_of_ble_eq_true rfl) (by omega) ?_
            rw [List.append_nil, ← xG_app] at hP hD
            refine s_put (r := (some qa)) hx hb hts hown hK hP hD hS hE (xps n + j1) ((xG_ex j1).trans (ap_at hj1)) dX0_sheet_60 (fun H locs hP hD hS => ?_)
            rw [xG_exs, ap_set hj1] at hP hD
            refine lv_iconst (v := 1) hx hb dX0_sheet_63 (by decide) ?_
            refine W.widen (k := 8) (n := 3000) (Nat.le_of_ble_eq_true rfl) (Nat.le_of_ble_eq_true rfl) ?_
            exact W.iret (v := 1) hx hb hr (fun t ht hW => ⟨⟨1, ((upd g 0 0), a), rfl, ⟨(by first | rfl | (simp [c_1, c_2, c_3, c_4, c_5]; done)), rfl⟩, qa, by rw [ht]; exact hP, va_K.moved hW.alike hK, hD⟩, hS.F ht⟩) hS.2.2 dX0_sheet_64
          · skip
            exact absurd c_5 (by decide)
        · skip
          exact absurd c_4 (by decide)
      · skip
        exact False.elim (by exact c_3 ((nI_leI (b := 60) (by omega) (by decide)).mpr hN))
  · skip
    exact False.elim (by rw [inK hK4] at c_1; cases c_1)
set_option maxHeartbeats 4000000 in
set_option maxRecDepth 100000 in
theorem metX0_lose_bad (l : Launch) (dC : Nat → ClassId) (dI : Nat → Nat → Nat) (ct : Nat → ClassId) (A : Nat → Prop) (ex : va_W) (o : Nat) (q : Nat → Nat) (ql qs : Nat) (md : Int32) (qe n : Nat) (y : Nat → Nat) (g : Nat → Int32) (a : Nat → Nat → Int32) (htr : l.stackTraces = false) (k : Int32) (hk4 : inP k 4 = false) : Met l yX0_lose (ws_ yX0_lose cX0_lose 3 (some .int)) ({ frames := 16, cells := 8, slots := 3000, locals := 12000 }) (sPre dC dI ct A ex o q (ql, qs, md, qe, n) y g a [.ref o, .int k]) (va_Qi (fun (r : Int32) (u : (Nat → Int32) × (Nat → Nat → Int32)) => r = (-1) ∧ u = (g, a)) (fun u t => gB dC dI ct A ex o q (ql, qs, md, qe, n) y u t) A) 8 3000 A := by
  refine Met.ofW (cc := cX0_lose) (maxL := 3) (ret := (some .int)) (by decide) rfl ?_
  intro p e s m args below meth c s₁ B hml hv
  obtain ⟨rfl, hP, hK, hD, hE, hE9, hA, hst, hI9⟩ := hv
  have hN9 := hE9.now
  have hx := B.exec
  have hb := B.bytes
  have hr := B.returns
  have hts := atoms_spec (ws := ws_ yX0_lose cX0_lose 3 (some .int)) B.pre
  have hts : ∀ w ∈ lw_all, w.before _ s = true := fun w h => hts w (List.mem_cons_of_mem _ h)
  have hown : s.vm.findClass RX0 = some m.cls := findClass_of_methodNamed B.named
  have hlocks := B.notSynchronized
  have hS : va_S A s.heap s.heap [] := va_S.rf
  have hl := lv_entry ([.ref o, .int k]) (n := 3) (Nat.le_of_ble_eq_true rfl)
  rw [lg_entry_eq]
  generalize (lg_sl ([.ref o, .int k]) ++ List.replicate (3 - (lg_sl ([.ref o, .int k])).length) Slot.unset).toArray = ls at hl ⊢
  have hl : lv_has ls 3 [(0, .ref o), (1, .int k)] := hl
  refine lv_iload_n hx hb dX0_lose_0 rfl (lv_at hl 1 rfl) ?_
  refine vp_callSi ((va_runS (As := [.int k]) (rest := []) ⟨hx, hb, hml, hown, hts⟩ (metX0_isSheet l k ) (va_cwS 1 hts (lw_S q376 q377 q69 q378) rfl rfl rfl (by decide +kernel) ⟨Nat.le_of_ble_eq_true rfl, Nat.le_of_ble_eq_true rfl⟩) (pcS _) rfl rfl hl.1 rfl (lv_room (Nat.le_of_ble_eq_true rfl)) dX0_lose_1 ⟨Nat.le_of_ble_eq_true rfl, Nat.le_of_ble_eq_true rfl⟩)).run (fun r hw => ?_)
  have hw : r = (b2i (inP k 4)) := hw
  subst hw
  refine bz_ne (tgt := 9) hx hb dX0_lose_4 (by decide) (fun c_1 => ?_) (fun c_1 => ?_)
  · skip
    exact False.elim (by rw [hk4] at c_1; cases c_1)
  · skip
    refine lv_iconst (v := (-1)) hx hb dX0_lose_7 (by decide) ?_
    refine W.widen (k := 8) (n := 3000) (Nat.le_of_ble_eq_true rfl) (Nat.le_of_ble_eq_true rfl) ?_
    exact W.iret (v := (-1)) hx hb hr (fun t ht hW => ⟨⟨(-1), (g, a), rfl, ⟨(by first | rfl | (simp [c_1]; done)), rfl⟩, by rw [ht]; exact hP, va_K.moved hW.alike hK, hD⟩, hS.F ht⟩) hS.2.2 dX0_lose_8
set_option maxHeartbeats 4000000 in
set_option maxRecDepth 100000 in
theorem metX0_lose_n (l : Launch) (dC : Nat → ClassId) (dI : Nat → Nat → Nat) (ct : Nat → ClassId) (A : Nat → Prop) (ex : va_W) (o : Nat) (q : Nat → Nat) (ql qs : Nat) (md : Int32) (qe n : Nat) (y : Nat → Nat) (g : Nat → Int32) (a : Nat → Nat → Int32) (htr : l.stackTraces = false) (K : Nat) (j0 : Nat) (pl : Nat → Nat) (hj0 : ex[j0]? = some (qs, .inl (ct 5, 4, .inr (.inr (.inr (.inr (fun j => some (pl j)))))))) (K : Nat) (hK4 : K < 4) (j1 : Nat) (hj1 : ex[j1]? = some (pl K, .inr (6, [.null]))) : Met l yX0_lose (ws_ yX0_lose cX0_lose 3 (some .int)) ({ frames := 16, cells := 8, slots := 3000, locals := 12000 }) (sPre dC dI ct A ex o q (ql, qs, md, qe, n) y g a [.ref o, .int (nI K)]) (va_Qi (fun (r : Int32) (u : (Nat → Int32) × (Nat → Nat → Int32)) => r = 0 ∧ u = (g, a)) (fun u t => gB dC dI ct A (ex.set j1 (pl K, .inr (6, [va_rf none]))) o q (ql, qs, md, qe, n) y u t) A) 8 3000 A := by
  refine Met.ofW (cc := cX0_lose) (maxL := 3) (ret := (some .int)) (by decide) rfl ?_
  intro p e s m args below meth c s₁ B hml hv
  obtain ⟨rfl, hP, hK, hD, hE, hE9, hA, hst, hI9⟩ := hv
  have hN9 := hE9.now
  have hx := B.exec
  have hb := B.bytes
  have hr := B.returns
  have hts := atoms_spec (ws := ws_ yX0_lose cX0_lose 3 (some .int)) B.pre
  have hts : ∀ w ∈ lw_all, w.before _ s = true := fun w h => hts w (List.mem_cons_of_mem _ h)
  have hown : s.vm.findClass RX0 = some m.cls := findClass_of_methodNamed B.named
  have hlocks := B.notSynchronized
  have hS : va_S A s.heap s.heap [] := va_S.rf
  have hl := lv_entry ([.ref o, .int (nI K)]) (n := 3) (Nat.le_of_ble_eq_true rfl)
  rw [lg_entry_eq]
  generalize (lg_sl ([.ref o, .int (nI K)]) ++ List.replicate (3 - (lg_sl ([.ref o, .int (nI K)])).length) Slot.unset).toArray = ls at hl ⊢
  have hl : lv_has ls 3 [(0, .ref o), (1, .int (nI K))] := hl
  refine lv_iload_n hx hb dX0_lose_0 rfl (lv_at hl 1 rfl) ?_
  refine vp_callSi ((va_runS (As := [.int (nI K)]) (rest := []) ⟨hx, hb, hml, hown, hts⟩ (metX0_isSheet l (nI K) ) (va_cwS 1 hts (lw_S q376 q377 q69 q378) rfl rfl rfl (by decide +kernel) ⟨Nat.le_of_ble_eq_true rfl, Nat.le_of_ble_eq_true rfl⟩) (pcS _) rfl rfl hl.1 rfl (lv_room (Nat.le_of_ble_eq_true rfl)) dX0_lose_1 ⟨Nat.le_of_ble_eq_true rfl, Nat.le_of_ble_eq_true rfl⟩)).run (fun r hw => ?_)
  have hw : r = (b2i (inP (nI K) 4)) := hw
  subst hw
  refine bz_ne (tgt := 9) hx hb dX0_lose_4 (by decide) (fun c_1 => ?_) (fun c_1 => ?_)
  · skip
    refine lv_aload_n hx hb dX0_lose_9 rfl (lv_at hl 0 rfl) ?_
    refine g_get (v := .ref qs) hx hb hts hown hK hP 25 (by decide) rfl q174 rfl dX0_lose_10 ?_
    refine lv_iload_n hx hb dX0_lose_13 rfl (lv_at hl 1 rfl) ?_
    refine s_pla hx hb hK hP (xps n + j0) ((xG_ex j0).trans hj0) K hK4 dX0_lose_14 ?_
    refine s_has hx hb hts hown hK hP hE (xps n + j1) ((xG_ex j1).trans hj1) dX0_lose_15 ?_
    refine lv_ifnonnullN hx hb dX0_lose_18 ?_
    refine lv_iconst (v := 0) hx hb dX0_lose_21 (by decide) ?_
    refine lv_goto (tgt := 26) hx hb dX0_lose_22 (by decide) ?_
    refine lv_istore_n (lv' := [(2, .int 0), (0, .ref o), (1, .int (nI K))]) hx hb dX0_lose_26 rfl hl (by decide) rfl (fun ls hl => ?_)
    refine lv_aload_n hx hb dX0_lose_27 rfl (lv_at hl 1 rfl) ?_
    refine g_get (v := .ref qs) hx hb hts hown hK hP 25 (by decide) rfl q174 rfl dX0_lose_28 ?_
    refine lv_iload_n hx hb dX0_lose_31 rfl (lv_at hl 2 rfl) ?_
    refine s_pla hx hb hK hP (xps n + j0) ((xG_ex j0).trans hj0) K hK4 dX0_lose_32 ?_
    refine lv_null hx hb dX0_lose_33 ?_
    refine s_put (r := none) hx hb hts hown hK hP hD hS hE (xps n + j1) ((xG_ex j1).trans hj1) dX0_lose_34 (fun H locs hP hD hS => ?_)
    rw [xG_exs] at hP hD
    refine lv_iload_n hx hb dX0_lose_37 rfl (lv_at hl 0 rfl) ?_
    refine W.widen (k := 8) (n := 3000) (Nat.le_of_ble_eq_true rfl) (Nat.le_of_ble_eq_true rfl) ?_
    exact W.iret (v := 0) hx hb hr (fun t ht hW => ⟨⟨0, (g, a), rfl, ⟨(by first | rfl | (simp [c_1]; done)), rfl⟩, by rw [ht]; exact hP, va_K.moved hW.alike hK, hD⟩, hS.F ht⟩) hS.2.2 dX0_lose_38
  · skip
    exact False.elim (by rw [inK hK4] at c_1; cases c_1)
set_option maxHeartbeats 4000000 in
set_option maxRecDepth 100000 in
theorem metX0_lose_a (l : Launch) (dC : Nat → ClassId) (dI : Nat → Nat → Nat) (ct : Nat → ClassId) (A : Nat → Prop) (ex : va_W) (o : Nat) (q : Nat → Nat) (ql qs : Nat) (md : Int32) (qe n : Nat) (y : Nat → Nat) (g : Nat → Int32) (a : Nat → Nat → Int32) (htr : l.stackTraces = false) (K : Nat) (ad : Nat) (j0 : Nat) (pl : Nat → Nat) (hj0 : ex[j0]? = some (qs, .inl (ct 5, 4, .inr (.inr (.inr (.inr (fun j => some (pl j)))))))) (K : Nat) (hK4 : K < 4) (j1 : Nat) (hj1 : ex[j1]? = some (pl K, .inr (6, [.ref ad]))) : Met l yX0_lose (ws_ yX0_lose cX0_lose 3 (some .int)) ({ frames := 16, cells := 8, slots := 3000, locals := 12000 }) (sPre dC dI ct A ex o q (ql, qs, md, qe, n) y g a [.ref o, .int (nI K)]) (va_Qi (fun (r : Int32) (u : (Nat → Int32) × (Nat → Nat → Int32)) => r = 1 ∧ u = (g, a)) (fun u t => gB dC dI ct A (ex.set j1 (pl K, .inr (6, [va_rf none]))) o q (ql, qs, md, qe, n) y u t) A) 8 3000 A := by
  refine Met.ofW (cc := cX0_lose) (maxL := 3) (ret := (some .int)) (by decide) rfl ?_
  intro p e s m args below meth c s₁ B hml hv
  obtain ⟨rfl, hP, hK, hD, hE, hE9, hA, hst, hI9⟩ := hv
  have hN9 := hE9.now
  have hx := B.exec
  have hb := B.bytes
  have hr := B.returns
  have hts := atoms_spec (ws := ws_ yX0_lose cX0_lose 3 (some .int)) B.pre
  have hts : ∀ w ∈ lw_all, w.before _ s = true := fun w h => hts w (List.mem_cons_of_mem _ h)
  have hown : s.vm.findClass RX0 = some m.cls := findClass_of_methodNamed B.named
  have hlocks := B.notSynchronized
  have hS : va_S A s.heap s.heap [] := va_S.rf
  have hl := lv_entry ([.ref o, .int (nI K)]) (n := 3) (Nat.le_of_ble_eq_true rfl)
  rw [lg_entry_eq]
  generalize (lg_sl ([.ref o, .int (nI K)]) ++ List.replicate (3 - (lg_sl ([.ref o, .int (nI K)])).length) Slot.unset).toArray = ls at hl ⊢
  have hl : lv_has ls 3 [(0, .ref o), (1, .int (nI K))] := hl
  refine lv_iload_n hx hb dX0_lose_0 rfl (lv_at hl 1 rfl) ?_
  refine vp_callSi ((va_runS (As := [.int (nI K)]) (rest := []) ⟨hx, hb, hml, hown, hts⟩ (metX0_isSheet l (nI K) ) (va_cwS 1 hts (lw_S q376 q377 q69 q378) rfl rfl rfl (by decide +kernel) ⟨Nat.le_of_ble_eq_true rfl, Nat.le_of_ble_eq_true rfl⟩) (pcS _) rfl rfl hl.1 rfl (lv_room (Nat.le_of_ble_eq_true rfl)) dX0_lose_1 ⟨Nat.le_of_ble_eq_true rfl, Nat.le_of_ble_eq_true rfl⟩)).run (fun r hw => ?_)
  have hw : r = (b2i (inP (nI K) 4)) := hw
  subst hw
  refine bz_ne (tgt := 9) hx hb dX0_lose_4 (by decide) (fun c_1 => ?_) (fun c_1 => ?_)
  · skip
    refine lv_aload_n hx hb dX0_lose_9 rfl (lv_at hl 0 rfl) ?_
    refine g_get (v := .ref qs) hx hb hts hown hK hP 25 (by decide) rfl q174 rfl dX0_lose_10 ?_
    refine lv_iload_n hx hb dX0_lose_13 rfl (lv_at hl 1 rfl) ?_
    refine s_pla hx hb hK hP (xps n + j0) ((xG_ex j0).trans hj0) K hK4 dX0_lose_14 ?_
    refine s_has hx hb hts hown hK hP hE (xps n + j1) ((xG_ex j1).trans hj1) dX0_lose_15 ?_
    refine lv_ifnonnull (tgt := 25) hx hb dX0_lose_18 (by decide) ?_
    refine lv_iconst (v := 1) hx hb dX0_lose_25 (by decide) ?_
    refine lv_istore_n (lv' := [(2, .int 1), (0, .ref o), (1, .int (nI K))]) hx hb dX0_lose_26 rfl hl (by decide) rfl (fun ls hl => ?_)
    refine lv_aload_n hx hb dX0_lose_27 rfl (lv_at hl 1 rfl) ?_
    refine g_get (v := .ref qs) hx hb hts hown hK hP 25 (by decide) rfl q174 rfl dX0_lose_28 ?_
    refine lv_iload_n hx hb dX0_lose_31 rfl (lv_at hl 2 rfl) ?_
    refine s_pla hx hb hK hP (xps n + j0) ((xG_ex j0).trans hj0) K hK4 dX0_lose_32 ?_
    refine lv_null hx hb dX0_lose_33 ?_
    refine s_put (r := none) hx hb hts hown hK hP hD hS hE (xps n + j1) ((xG_ex j1).trans hj1) dX0_lose_34 (fun H locs hP hD hS => ?_)
    rw [xG_exs] at hP hD
    refine lv_iload_n hx hb dX0_lose_37 rfl (lv_at hl 0 rfl) ?_
    refine W.widen (k := 8) (n := 3000) (Nat.le_of_ble_eq_true rfl) (Nat.le_of_ble_eq_true rfl) ?_
    exact W.iret (v := 1) hx hb hr (fun t ht hW => ⟨⟨1, (g, a), rfl, ⟨(by first | rfl | (simp [c_1]; done)), rfl⟩, by rw [ht]; exact hP, va_K.moved hW.alike hK, hD⟩, hS.F ht⟩) hS.2.2 dX0_lose_38
  · skip
    exact False.elim (by rw [inK hK4] at c_1; cases c_1)
