/-! LENT YOUTHS: a row of cells -/
theorem a_ins {w1 w2 : va_W} {k : Nat} {x : Nat × va_E} (h : (w1 ++ w2)[k]? = some x) : ∃ k2 : Nat, ∀ z : Nat × va_E, ((w1 ++ [z]) ++ w2)[k2]? = some x := by
  by_cases hk : k < w1.length
  · refine ⟨k, fun z => ?_⟩
    rw [List.append_assoc, List.getElem?_append_left hk]
    rwa [List.getElem?_append_left hk] at h
  · refine ⟨k + 1, fun z => ?_⟩
    rw [List.getElem?_append_right (by omega)] at h
    rw [List.getElem?_append_right (by simp; omega)]
    rw [← h]
    congr 1
    simp
theorem a_at (w1 w2 : va_W) (z : Nat × va_E) : ((w1 ++ [z]) ++ w2)[w1.length]? = some z := by
  rw [List.append_assoc, List.getElem?_append_right (Nat.le_refl _), Nat.sub_self]; rfl
theorem a_set (w1 w2 : va_W) (z z2 : Nat × va_E) : ((w1 ++ [z]) ++ w2).set w1.length z2 = (w1 ++ [z2]) ++ w2 := by
  rw [List.append_assoc, List.set_append_right _ _ (Nat.le_refl _), Nat.sub_self, List.append_assoc]; rfl
theorem a_min {n : Int32} (h : 0 ≤ n) : ∃ M : Nat, M ≤ 61 ∧ (if (61 : Int32) < n then (61 : Int32) else n) = nI M := by
  by_cases h1 : (61 : Int32) < n
  · exact ⟨61, Nat.le_refl _, by rw [if_pos h1]; rfl⟩
  · obtain ⟨e1, e2⟩ := nI_of0 h
    refine ⟨cix n, ?_, by rw [if_neg h1]; exact e1⟩
    rw [e1] at h1
    exact Nat.le_of_not_lt (fun z => h1 ((nI_ltI (a := 61) (by decide) e2).mpr z))
theorem a_grown {A : Nat → Prop} {H0 H : Heap} (h : va_S A H0 H []) : H0.size ≤ H.size := h.1
theorem same_heap {s t : State} {k n : Nat} (h : s.sameButNew t [] k n) : exH s.heap t.heap := by
  refine ⟨h.2.1, fun q hq => ?_⟩
  have hc : s.heap[q]? = some s.heap[q] := Array.getElem?_eq_getElem hq
  obtain ⟨c2, h1, h2, h3, h4⟩ := h.2.2.2.2.2 q _ hc
  rw [h1, hc]
  congr 1
  rw [h2]
  have e9 : c2.slots = s.heap[q].slots := Array.ext_getElem? (fun i => h4 i (List.not_mem_nil))
  rw [e9]
section OWN
variable {p : Program} {l : Launch} {e : Env} {R : Room} {s : State} {m : MethodId} {args : Array Value} {below : List Frame} {meth : Method} {c : Code} {H : Heap} {cells slots : Nat}
theorem a_own {cc : ByteArray} {pc : Nat} {ls : Array Slot} (hexec : p.tables.exec = Jvm.exec) (hb : c.code = cc) (hml : c.maxLocals = ls.size) (htr : l.stackTraces = false) (hown : s.vm.findClass "LentYouths" = some m.cls) {idx : Nat} (hcl : (Cond.classLink "LentYouths" idx "java/lang/ArrayIndexOutOfBoundsException").before args s = true) (hins : (Cond.instantiable "java/lang/ArrayIndexOutOfBoundsException" 6).before args s = true) (hini : (Cond.initialized "java/lang/ArrayIndexOutOfBoundsException").before args s = true)
    (hN : exNow s) (hSH : s.heap.size ≤ H.size) (hlocks : meth.locks = false) (het : c.exceptionTable.toList = []) {mc ms : Nat} (hf : 7 < R.frames) (hlc : 10240 ≤ R.locals) (hce : cells + 1 ≤ R.cells) (hsl : slots + 6 ≤ R.slots) (hmc : cells + 1 ≤ mc) (hms : slots + 6 ≤ ms)
    (d0 : decode cc pc = .ok (.new idx, 3)) (d3 : decode cc (pc + 3) = .ok (.dup, 1)) (d4 : decode cc (pc + 3 + 1) = .ok (.invokespecial 384, 3)) (d7 : decode cc (pc + 3 + 1 + 3) = .ok (.athrow, 1)) : W p l e R s m args below meth c H [] cells slots (exQ below "java/lang/ArrayIndexOutOfBoundsException" args s mc ms) (F0 m pc ls []) := by
  refine W.newc hexec hb hown hcl hins hini rfl d0 hce hsl (fun cC kC h1 h2 h3 h4 => ?_)
  refine W.eq (g2 := F0 m (pc + 3) ls [.ref H.size]) rfl ?_
  refine lv_dup hexec hb d3 rfl ?_
  intro T hT X
  have h9 : e.platform.stackTraces = false := by rw [X.admits.platform]; exact htr
  obtain ⟨U, u1, u2, u3, u4, u5, ce, u6, u7⟩ := X.ctorThrow0 hexec h9 (own := "LentYouths") (cls := "java/lang/ArrayIndexOutOfBoundsException") (names := exIRE) (ic := 384) hown (by decide) (by decide) (ex_O hN) (fun x hx => absurd hx List.not_mem_nil) (a := H.size) h1 h2 (by rw [hT]; exact Array.getElem?_push_size) hSH
    (g := F0 m (pc + 3 + 1) ls [.ref H.size, .ref H.size]) rfl hml.symm rfl rfl (rest := []) rfl (by rw [hb]; exact d4) (by rw [hb]; exact d7) (fun x hx => by rw [het] at hx; cases hx) (by show 3 + 3 < R.frames; omega) (by show 2 * 0 + 1 + (13 * (3 + 1) + 41) ≤ R.locals; omega) hlocks
  have hsh := same_heap u5
  exact ⟨U, u1, .threw H.size, u2, u3, H.size, ce, rfl, u6, u7.cls, u7.vm, hsh.1, hsh.2, u4, u5.weaken (fun _ hy _ => hy) hmc hms⟩
end OWN
set_option maxHeartbeats 4000000 in
set_option maxRecDepth 100000 in
theorem metX0_rowOf (l : Launch) (dC : Nat → ClassId) (dI : Nat → Nat → Nat) (ct : Nat → ClassId) (A : Nat → Prop) (w1 w2 : va_W) (k ad N : Nat) (f : Nat → Int32) (lx : Nat) (hlx : lx < 3) (hk : (w1 ++ w2)[k]? = some (ad, .inl (ct (lty lx), N, .inl f))) (hN : N ≤ 60) (i n : Int32) (I L : Nat) (ei : i = nI I) (en : n = nI L) (hIL : I + L ≤ N) : Met l yX0_rowOf (ws_ yX0_rowOf cX0_rowOf 6 (some (.array .int))) ({ frames := 3, cells := 1, slots := 61, locals := 200 }) (va_Pc [.ref ad, .int i, .int n] (fun U => (∀ q, U.heap.size ≤ q → A q) ∧ va_P (dC, dI) clA (w1 ++ w2) U.heap ∧ va_K (dC, dI) clA (tyA ct) U ∧ va_D A (w1 ++ w2) ∧ exE A U)) (va_Qr (fun (_ : Unit) => True) (fun _ qa t => va_P (dC, dI) clA ((w1 ++ [(qa, .inl (ct 0, L, .inl (cutF L (fun j => f (I + j)) (fun _ => 0))))]) ++ w2) t.heap ∧ va_K (dC, dI) clA (tyA ct) t ∧ va_D A ((w1 ++ [(qa, .inl (ct 0, L, .inl (cutF L (fun j => f (I + j)) (fun _ => 0))))]) ++ w2)) A) 1 61 A := by
  refine Met.ofW (cc := cX0_rowOf) (maxL := 6) (ret := (some (.array .int))) (by decide) rfl ?_
  intro p e s m args below meth c s₁ B hml hv
  obtain ⟨rfl, hA, hP, hK, hD, hE9⟩ := hv
  have hN9 := hE9.now
  have hx := B.exec
  have hb := B.bytes
  have hr := B.returns
  have hts := atoms_spec (ws := ws_ yX0_rowOf cX0_rowOf 6 (some (.array .int))) B.pre
  have hts : ∀ w ∈ lw_all, w.before _ s = true := fun w h => hts w (List.mem_cons_of_mem _ h)
  have hown : s.vm.findClass RX0 = some m.cls := findClass_of_methodNamed B.named
  have hlocks := B.notSynchronized
  have hS : va_S A s.heap s.heap [] := va_S.rf
  have hl := lv_entry ([.ref ad, .int i, .int n]) (n := 6) (Nat.le_of_ble_eq_true rfl)
  rw [lg_entry_eq]
  generalize (lg_sl ([.ref ad, .int i, .int n]) ++ List.replicate (6 - (lg_sl ([.ref ad, .int i, .int n])).length) Slot.unset).toArray = ls at hl ⊢
  have hl : lv_has ls 6 [(0, .ref ad), (1, .int i), (2, .int n)] := hl
  subst en
  obtain ⟨k2, hk2⟩ := a_ins hk
  have hmin : (if (61 : Int32) < nI L then (61 : Int32) else nI L) = nI L := if_neg (fun z => absurd ((nI_ltI (a := 61) (by decide) (by omega)).mp z) (by omega))
  refine lv_aload_n hx hb dX0_rowOf_0 rfl (lv_at hl 0 rfl) ?_
  refine vp_callSi ((va_runS (As := [.ref ad]) (rest := []) ⟨hx, hb, hml, hown, hts⟩ (metX0_lengthOf l dC dI ct A (w1 ++ w2) k ad N f lx hlx hk (by omega)) (va_cwS 1 hts (lw_S q396 q397 q69 q398) rfl rfl rfl (by decide +kernel) ⟨Nat.le_of_ble_eq_true rfl, Nat.le_of_ble_eq_true rfl⟩) (aPS hK hP hE9 hS _) rfl rfl hl.1 rfl (lv_room (Nat.le_of_ble_eq_true rfl)) dX0_rowOf_1 ⟨Nat.le_of_ble_eq_true rfl, Nat.le_of_ble_eq_true rfl⟩)).run (fun r hw => ?_)
  have hw : r = (nI N) := hw
  subst hw
  refine lv_istore_n (lv' := [(3, .int (nI N)), (0, .ref ad), (1, .int i), (2, .int (nI L))]) hx hb dX0_rowOf_4 rfl hl (by decide) rfl (fun ls hl => ?_)
  refine lv_iload_n hx hb dX0_rowOf_5 rfl (lv_at hl 3 rfl) ?_
  refine lv_bipush (v := 61) hx hb dX0_rowOf_6 (by decide) ?_
  refine va_mmin hx hb (hml.trans hl.1.symm) hown (hts _ q399) (hts _ q400) (hts _ q84) (hts _ q401) (Nat.le_of_ble_eq_true rfl) (Nat.le_of_ble_eq_true rfl) (Nat.zero_le _) (Nat.zero_le _) dX0_rowOf_8 ?_
  refine lv_topi (fun z_1 ez_1 => ?_)
  have ez_1 : z_1 = (nI L) := ez_1.trans hmin
  subst ez_1
  refine mk_arr (atype := .int) (own := w1) (ex := w2) hx hb (hts _ q142) rfl hK hP hD hS hA 0 rfl (fun C z => by cases z) rfl L rfl (by omega) (by decide) (Nat.le_of_ble_eq_true rfl) (by show 0 + L ≤ _; exact Nat.le_trans (show 0 + L ≤ 61 by omega) (Nat.le_of_ble_eq_true rfl)) dX0_rowOf_11 (fun qa H hP hD hS => ?_)
  refine W.widen (k := 1) (n := 61) (Nat.le_of_ble_eq_true rfl) (by omega) ?_
  rw [show (fun _ : Nat => (0 : Int32)) = cutF 0 (fun j => f (I + j)) (fun _ => 0) from (cutF_0 _ _).symm] at hP hD
  refine lv_astore (lv' := [(4, .ref qa), (3, .int (nI N)), (0, .ref ad), (1, .int i), (2, .int (nI L))]) hx hb dX0_rowOf_13 hl (by decide) rfl (fun ls hl => ?_)
  refine lv_iload_n hx hb dX0_rowOf_15 rfl (lv_at hl 3 rfl) ?_
  refine lv_if_lt (tgt := 26) hx hb dX0_rowOf_16 (by decide) (fun c_2 => ?_) (fun c_2 => ?_)
  · skip
    exact False.elim (by have z := c_2; rw [ei] at z; exact absurd (nI_pos' (show I < 2 ^ 31 by omega)) (Int32.not_le.mpr z))
  · skip
    refine lv_iload_n hx hb dX0_rowOf_19 rfl (lv_at hl 3 rfl) ?_
    refine lv_iload_n hx hb dX0_rowOf_20 rfl (lv_at hl 1 rfl) ?_
    refine lv_iload_n hx hb dX0_rowOf_21 rfl (lv_at hl 4 rfl) ?_
    refine lv_isub hx hb dX0_rowOf_22 ?_
    refine lv_icmp_le (tgt := 34) hx hb dX0_rowOf_23 (by decide) (fun c_3 => ?_) (fun c_3 => ?_)
    · skip
      refine lv_iconst (v := 0) hx hb dX0_rowOf_34 (by decide) ?_
      refine lv_istore (lv' := [(5, .int 0), (4, .ref qa), (3, .int (nI N)), (0, .ref ad), (1, .int i), (2, .int (nI L))]) hx hb dX0_rowOf_35 hl (by decide) rfl (fun ls hl => ?_)
      have loop1 : ∀ (f1 : Nat) (j : Nat), (j ≤ L) → (L + 1 ≤ j + f1) → ∀ (H : Heap) (locs : List Loc), va_P (dC, dI) clA ((w1 ++ [(qa, .inl (ct 0, L, .inl (cutF j (fun j => f (I + j)) (fun _ => 0))))]) ++ w2) H → va_D A ((w1 ++ [(qa, .inl (ct 0, L, .inl (cutF j (fun j => f (I + j)) (fun _ => 0))))]) ++ w2) → va_S A s.heap H locs → ∀ (ls : Array Slot), lv_has ls 6 [(5, .int (nI j)), (4, .ref qa), (3, .int (nI N)), (2, .int (nI L)), (1, .int i), (0, .ref ad)] → W p l e (headSpec (ws_ yX0_rowOf cX0_rowOf 6 (some (.array .int))) ({ frames := 3, cells := 1, slots := 61, locals := 200 })).room s m ([.ref ad, .int i, .int (nI L)] : List Value).toArray below meth c H locs 1 61 (MQ below (va_Qr (fun (_ : Unit) => True) (fun _ qa t => va_P (dC, dI) clA ((w1 ++ [(qa, .inl (ct 0, L, .inl (cutF L (fun j => f (I + j)) (fun _ => 0))))]) ++ w2) t.heap ∧ va_K (dC, dI) clA (tyA ct) t ∧ va_D A ((w1 ++ [(qa, .inl (ct 0, L, .inl (cutF L (fun j => f (I + j)) (fun _ => 0))))]) ++ w2)) A) ([.ref ad, .int i, .int (nI L)] : List Value).toArray s 1 61 A) (F0 m 37 ls []) := by
        intro f1
        induction f1 with
        | zero => intro j hj hf; exact False.elim (by omega)
        | succ f1 ih1 =>
          intro j hj hf H locs hP hD hS ls hl
          refine lv_iload hx hb dX0_rowOf_37 (lv_at hl 0 rfl) ?_
          refine lv_iload_n hx hb dX0_rowOf_39 rfl (lv_at hl 3 rfl) ?_
          refine lv_icmp_ge (tgt := 62) hx hb dX0_rowOf_40 (by decide) (fun c_4 => ?_) (fun c_4 => ?_)
          · skip
            have hge : j = L := by exact Nat.le_antisymm (by omega) ((nI_leI (by omega) (by omega)).mp c_4)
            rw [hge] at hP hD
            refine lv_aload hx hb dX0_rowOf_62 (lv_at hl 1 rfl) ?_
            exact W.aret (v := .ref qa) hx hb hr (Or.inr ⟨_, rfl⟩) (Or.inr ⟨_, rfl⟩) (fun t ht hW => ⟨⟨(), qa, rfl, trivial, by rw [ht]; exact hP, va_K.moved hW.alike hK, hD⟩, hS.F ht⟩) hS.2.2 dX0_rowOf_64
          · skip
            have hlt : j < L := by exact Nat.lt_of_not_le (fun z => c_4 ((nI_leI (by omega) (by omega)).mpr z))
            refine lv_aload hx hb dX0_rowOf_43 (lv_at hl 1 rfl) ?_
            refine lv_iload hx hb dX0_rowOf_45 (lv_at hl 0 rfl) ?_
            refine lv_aload_n hx hb dX0_rowOf_47 rfl (lv_at hl 5 rfl) ?_
            refine lv_iload_n hx hb dX0_rowOf_48 rfl (lv_at hl 4 rfl) ?_
            refine lv_iload hx hb dX0_rowOf_49 (lv_at hl 0 rfl) ?_
            refine lv_iadd hx hb dX0_rowOf_51 ?_
            refine vp_callSi ((va_runS (As := [.ref ad, .int (i + (nI j))]) (rest := [.int (nI j), .ref qa]) ⟨hx, hb, hml, hown, hts⟩ (metX0_cellOf l dC dI ct A ((w1 ++ [(qa, .inl (ct 0, L, .inl (cutF j (fun j => f (I + j)) (fun _ => 0))))]) ++ w2) k2 ad N f lx hlx (hk2 _) (by omega) ((i + (nI j))) (I + j) (by rw [ei, nI_add]) (by omega)) (va_cwS 2 hts (lw_S q409 q410 q69 q411) rfl rfl rfl (by decide +kernel) ⟨Nat.le_of_ble_eq_true rfl, Nat.le_of_ble_eq_true rfl⟩) (aPS hK hP hE9 hS _) rfl rfl hl.1 rfl (lv_room (Nat.le_of_ble_eq_true rfl)) dX0_rowOf_52 ⟨Nat.le_of_ble_eq_true rfl, Nat.le_of_ble_eq_true rfl⟩)).run (fun r hw => ?_)
            have hw : r = (f (I + j)) := hw
            subst hw
            refine ar_ist (x := (f (I + j))) hx hb hK hP hD hS w1.length 0 (a_at _ _ _) rfl j rfl hlt (by omega) dX0_rowOf_55 (fun H locs hP hD hS => ?_)
            rw [a_set, cutF_s rfl] at hP hD
            refine lv_iinc (v := (nI (j + 1))) (lv' := [(5, .int (nI (j + 1))), (4, .ref qa), (3, .int (nI N)), (2, .int (nI L)), (1, .int i), (0, .ref ad)]) hx hb dX0_rowOf_56 hl (k := 0) rfl (nI_1 j) (by decide) rfl (fun ls hl => ?_)
            refine lv_goto (tgt := 37) hx hb dX0_rowOf_59 (by decide) ?_
            exact ih1 (j + 1) (by omega) (by omega) _ _ hP hD hS _ (lv_sub hl [0, 1, 2, 3, 4, 5] rfl)
      exact loop1 (L + 1) 0 (by omega) (by omega) _ _ hP hD hS _ (lv_sub hl [0, 1, 2, 5, 4, 3] rfl)
    · skip
      exact False.elim (by have z := c_3; rw [ei, pk_sub (by omega)] at z; exact z ((nI_leI (by omega) (by omega)).mpr (by omega)))
set_option maxHeartbeats 4000000 in
set_option maxRecDepth 100000 in
theorem metX0_rowOf_N (l : Launch) (dC : Nat → ClassId) (dI : Nat → Nat → Nat) (ct : Nat → ClassId) (A : Nat → Prop) (w1 w2 : va_W) (htr : l.stackTraces = false) (i n : Int32)  : MetX l yX0_rowOf (ws_ yX0_rowOf cX0_rowOf 6 (some (.array .int))) ({ frames := 12, cells := 4, slots := 1280, locals := 10600 }) (va_Pc [.null, .int i, .int n] (fun U => (∀ q, U.heap.size ≤ q → A q) ∧ va_P (dC, dI) clA (w1 ++ w2) U.heap ∧ va_K (dC, dI) clA (tyA ct) U ∧ va_D A (w1 ++ w2) ∧ exE A U)) "java/lang/NullPointerException" 4 1280 := by
  refine MetX.ofW (cc := cX0_rowOf) (maxL := 6) (ret := (some (.array .int))) (by decide) rfl ?_
  intro p e s m args below meth c s₁ B hml het hv
  obtain ⟨rfl, hA, hP, hK, hD, hE9⟩ := hv
  have hN9 := hE9.now
  have hx := B.exec
  have hb := B.bytes
  have hr := B.returns
  have hts := atoms_spec (ws := ws_ yX0_rowOf cX0_rowOf 6 (some (.array .int))) B.pre
  have hts : ∀ w ∈ lw_all, w.before _ s = true := fun w h => hts w (List.mem_cons_of_mem _ h)
  have hown : s.vm.findClass RX0 = some m.cls := findClass_of_methodNamed B.named
  have hlocks := B.notSynchronized
  have hS : va_S A s.heap s.heap [] := va_S.rf
  have hl := lv_entry ([.null, .int i, .int n]) (n := 6) (Nat.le_of_ble_eq_true rfl)
  rw [lg_entry_eq]
  generalize (lg_sl ([.null, .int i, .int n]) ++ List.replicate (6 - (lg_sl ([.null, .int i, .int n])).length) Slot.unset).toArray = ls at hl ⊢
  have hl : lv_has ls 6 [(0, .null), (1, .int i), (2, .int n)] := hl
  refine lv_aload_nN hx hb dX0_rowOf_0 rfl (lv_at hl 0 rfl) ?_
  refine W.exCall (As := [.null]) (rest := []) ⟨hx, hb, hml, hown, hts⟩ (metX0_lengthOf_n l dC dI ct A (w1 ++ w2) htr) (va_cwS 1 hts (lw_S q396 q397 q69 q398) rfl rfl rfl (by decide +kernel) ⟨Nat.le_of_ble_eq_true rfl, Nat.le_of_ble_eq_true rfl⟩) (aPS hK hP hE9 hS _) rfl hl.1 rfl (Nat.le_of_ble_eq_true rfl) dX0_rowOf_1 ⟨Nat.le_of_ble_eq_true rfl, Nat.le_of_ble_eq_true rfl⟩ (fun H1 x ce h1 h2 h3 h4 => ?_)
  exact WT.out rfl rfl rfl het hlocks h2 h3 h4 h1 rfl (Nat.le_of_ble_eq_true rfl) (Nat.le_of_ble_eq_true rfl)
set_option maxHeartbeats 4000000 in
set_option maxRecDepth 100000 in
theorem metX0_rowOf_S (l : Launch) (dC : Nat → ClassId) (dI : Nat → Nat → Nat) (ct : Nat → ClassId) (A : Nat → Prop) (w1 w2 : va_W) (htr : l.stackTraces = false) (k ad N : Nat) (f : Nat → Int32) (lx : Nat) (hlx : lx < 3) (hk : (w1 ++ w2)[k]? = some (ad, .inl (ct (lty lx), N, .inl f))) (hN : N ≤ 60) (i n : Int32) (hn0 : n < 0) : MetX l yX0_rowOf (ws_ yX0_rowOf cX0_rowOf 6 (some (.array .int))) ({ frames := 12, cells := 4, slots := 1280, locals := 10600 }) (va_Pc [.ref ad, .int i, .int n] (fun U => (∀ q, U.heap.size ≤ q → A q) ∧ va_P (dC, dI) clA (w1 ++ w2) U.heap ∧ va_K (dC, dI) clA (tyA ct) U ∧ va_D A (w1 ++ w2) ∧ exE A U)) "java/lang/NegativeArraySizeException" 4 1280 := by
  refine MetX.ofW (cc := cX0_rowOf) (maxL := 6) (ret := (some (.array .int))) (by decide) rfl ?_
  intro p e s m args below meth c s₁ B hml het hv
  obtain ⟨rfl, hA, hP, hK, hD, hE9⟩ := hv
  have hN9 := hE9.now
  have hx := B.exec
  have hb := B.bytes
  have hr := B.returns
  have hts := atoms_spec (ws := ws_ yX0_rowOf cX0_rowOf 6 (some (.array .int))) B.pre
  have hts : ∀ w ∈ lw_all, w.before _ s = true := fun w h => hts w (List.mem_cons_of_mem _ h)
  have hown : s.vm.findClass RX0 = some m.cls := findClass_of_methodNamed B.named
  have hlocks := B.notSynchronized
  have hS : va_S A s.heap s.heap [] := va_S.rf
  have hl := lv_entry ([.ref ad, .int i, .int n]) (n := 6) (Nat.le_of_ble_eq_true rfl)
  rw [lg_entry_eq]
  generalize (lg_sl ([.ref ad, .int i, .int n]) ++ List.replicate (6 - (lg_sl ([.ref ad, .int i, .int n])).length) Slot.unset).toArray = ls at hl ⊢
  have hl : lv_has ls 6 [(0, .ref ad), (1, .int i), (2, .int n)] := hl
  refine lv_aload_n hx hb dX0_rowOf_0 rfl (lv_at hl 0 rfl) ?_
  refine vp_callSi ((va_runS (As := [.ref ad]) (rest := []) ⟨hx, hb, hml, hown, hts⟩ (metX0_lengthOf l dC dI ct A (w1 ++ w2) k ad N f lx hlx hk (by omega)) (va_cwS 1 hts (lw_S q396 q397 q69 q398) rfl rfl rfl (by decide +kernel) ⟨Nat.le_of_ble_eq_true rfl, Nat.le_of_ble_eq_true rfl⟩) (aPS hK hP hE9 hS _) rfl rfl hl.1 rfl (lv_room (Nat.le_of_ble_eq_true rfl)) dX0_rowOf_1 ⟨Nat.le_of_ble_eq_true rfl, Nat.le_of_ble_eq_true rfl⟩)).run (fun r hw => ?_)
  have hw : r = (nI N) := hw
  subst hw
  refine lv_istore_n (lv' := [(3, .int (nI N)), (0, .ref ad), (1, .int i), (2, .int n)]) hx hb dX0_rowOf_4 rfl hl (by decide) rfl (fun ls hl => ?_)
  refine lv_iload_n hx hb dX0_rowOf_5 rfl (lv_at hl 3 rfl) ?_
  refine lv_bipush (v := 61) hx hb dX0_rowOf_6 (by decide) ?_
  refine va_mmin hx hb (hml.trans hl.1.symm) hown (hts _ q399) (hts _ q400) (hts _ q84) (hts _ q401) (Nat.le_of_ble_eq_true rfl) (Nat.le_of_ble_eq_true rfl) (Nat.zero_le _) (Nat.zero_le _) dX0_rowOf_8 ?_
  refine lv_topi (fun z_1 ez_1 => ?_)
  have ez_1 : z_1 = n := ez_1.trans (if_neg (fun z => absurd (Int32.lt_trans z hn0) (by decide)))
  subst ez_1
  refine a_newX hx hb (hml.trans hl.1.symm) htr hN9 (fun x hx9 => absurd hx9 List.not_mem_nil) hn0 (Nat.le_of_ble_eq_true rfl) (Nat.le_of_ble_eq_true rfl) (Nat.le_of_ble_eq_true rfl) (Nat.le_of_ble_eq_true rfl) dX0_rowOf_11 (fun H1 ce h1 h2 h3 h4 => ?_)
  exact WT.out rfl rfl rfl het hlocks h2 h3 h4 h1 rfl (Nat.le_of_ble_eq_true rfl) (Nat.le_of_ble_eq_true rfl)
set_option maxHeartbeats 4000000 in
set_option maxRecDepth 100000 in
theorem metX0_rowOf_I (l : Launch) (dC : Nat → ClassId) (dI : Nat → Nat → Nat) (ct : Nat → ClassId) (A : Nat → Prop) (w1 w2 : va_W) (htr : l.stackTraces = false) (k ad N : Nat) (f : Nat → Int32) (lx : Nat) (hlx : lx < 3) (hk : (w1 ++ w2)[k]? = some (ad, .inl (ct (lty lx), N, .inl f))) (hN : N ≤ 60) (i n : Int32) (hn0 : 0 ≤ n) (hr9 : i < 0 ∨ nI N - n < i) : MetX l yX0_rowOf (ws_ yX0_rowOf cX0_rowOf 6 (some (.array .int))) ({ frames := 12, cells := 4, slots := 1280, locals := 10600 }) (va_Pc [.ref ad, .int i, .int n] (fun U => (∀ q, U.heap.size ≤ q → A q) ∧ va_P (dC, dI) clA (w1 ++ w2) U.heap ∧ va_K (dC, dI) clA (tyA ct) U ∧ va_D A (w1 ++ w2) ∧ exE A U)) "java/lang/ArrayIndexOutOfBoundsException" 4 1280 := by
  refine MetX.ofW (cc := cX0_rowOf) (maxL := 6) (ret := (some (.array .int))) (by decide) rfl ?_
  intro p e s m args below meth c s₁ B hml het hv
  obtain ⟨rfl, hA, hP, hK, hD, hE9⟩ := hv
  have hN9 := hE9.now
  have hx := B.exec
  have hb := B.bytes
  have hr := B.returns
  have hts := atoms_spec (ws := ws_ yX0_rowOf cX0_rowOf 6 (some (.array .int))) B.pre
  have hts : ∀ w ∈ lw_all, w.before _ s = true := fun w h => hts w (List.mem_cons_of_mem _ h)
  have hown : s.vm.findClass RX0 = some m.cls := findClass_of_methodNamed B.named
  have hlocks := B.notSynchronized
  have hS : va_S A s.heap s.heap [] := va_S.rf
  have hl := lv_entry ([.ref ad, .int i, .int n]) (n := 6) (Nat.le_of_ble_eq_true rfl)
  rw [lg_entry_eq]
  generalize (lg_sl ([.ref ad, .int i, .int n]) ++ List.replicate (6 - (lg_sl ([.ref ad, .int i, .int n])).length) Slot.unset).toArray = ls at hl ⊢
  have hl : lv_has ls 6 [(0, .ref ad), (1, .int i), (2, .int n)] := hl
  obtain ⟨M, hM61, hmin⟩ : ∃ M : Nat, M ≤ 61 ∧ (if (61 : Int32) < n then (61 : Int32) else n) = nI M := a_min hn0
  refine lv_aload_n hx hb dX0_rowOf_0 rfl (lv_at hl 0 rfl) ?_
  refine vp_callSi ((va_runS (As := [.ref ad]) (rest := []) ⟨hx, hb, hml, hown, hts⟩ (metX0_lengthOf l dC dI ct A (w1 ++ w2) k ad N f lx hlx hk (by omega)) (va_cwS 1 hts (lw_S q396 q397 q69 q398) rfl rfl rfl (by decide +kernel) ⟨Nat.le_of_ble_eq_true rfl, Nat.le_of_ble_eq_true rfl⟩) (aPS hK hP hE9 hS _) rfl rfl hl.1 rfl (lv_room (Nat.le_of_ble_eq_true rfl)) dX0_rowOf_1 ⟨Nat.le_of_ble_eq_true rfl, Nat.le_of_ble_eq_true rfl⟩)).run (fun r hw => ?_)
  have hw : r = (nI N) := hw
  subst hw
  refine lv_istore_n (lv' := [(3, .int (nI N)), (0, .ref ad), (1, .int i), (2, .int n)]) hx hb dX0_rowOf_4 rfl hl (by decide) rfl (fun ls hl => ?_)
  refine lv_iload_n hx hb dX0_rowOf_5 rfl (lv_at hl 3 rfl) ?_
  refine lv_bipush (v := 61) hx hb dX0_rowOf_6 (by decide) ?_
  refine va_mmin hx hb (hml.trans hl.1.symm) hown (hts _ q399) (hts _ q400) (hts _ q84) (hts _ q401) (Nat.le_of_ble_eq_true rfl) (Nat.le_of_ble_eq_true rfl) (Nat.zero_le _) (Nat.zero_le _) dX0_rowOf_8 ?_
  refine lv_topi (fun z_1 ez_1 => ?_)
  have ez_1 : z_1 = (nI M) := ez_1.trans hmin
  subst ez_1
  refine mk_arr (atype := .int) (own := w1) (ex := w2) hx hb (hts _ q142) rfl hK hP hD hS hA 0 rfl (fun C z => by cases z) rfl M rfl (by omega) (by decide) (Nat.le_of_ble_eq_true rfl) (by show 0 + M ≤ _; exact Nat.le_trans (show 0 + M ≤ 61 by omega) (Nat.le_of_ble_eq_true rfl)) dX0_rowOf_11 (fun qa H hP hD hS => ?_)
  refine W.widen (k := 1) (n := 61) (Nat.le_of_ble_eq_true rfl) (by omega) ?_
  refine lv_astore (lv' := [(4, .ref qa), (3, .int (nI N)), (0, .ref ad), (1, .int i), (2, .int n)]) hx hb dX0_rowOf_13 hl (by decide) rfl (fun ls hl => ?_)
  have hSH : s.heap.size ≤ H.size := a_grown hS
  refine lv_iload_n hx hb dX0_rowOf_15 rfl (lv_at hl 3 rfl) ?_
  refine lv_if_lt (tgt := 26) hx hb dX0_rowOf_16 (by decide) (fun c_2 => ?_) (fun c_2 => ?_)
  · skip
    exact a_own hx hb (hml.trans hl.1.symm) htr hown (hts _ q357) (hts _ q358) (hts _ q83) hN9 hSH hlocks het (Nat.le_of_ble_eq_true rfl) (Nat.le_of_ble_eq_true rfl) (Nat.le_of_ble_eq_true rfl) (Nat.le_of_ble_eq_true rfl) (by decide) (by decide) dX0_rowOf_26 dX0_rowOf_29 dX0_rowOf_30 dX0_rowOf_33
  · skip
    refine lv_iload_n hx hb dX0_rowOf_19 rfl (lv_at hl 3 rfl) ?_
    refine lv_iload_n hx hb dX0_rowOf_20 rfl (lv_at hl 1 rfl) ?_
    refine lv_iload_n hx hb dX0_rowOf_21 rfl (lv_at hl 4 rfl) ?_
    refine lv_isub hx hb dX0_rowOf_22 ?_
    refine lv_icmp_le (tgt := 34) hx hb dX0_rowOf_23 (by decide) (fun c_3 => ?_) (fun c_3 => ?_)
    · skip
      exact False.elim (by rcases hr9 with z | z; exact absurd z c_2; exact absurd c_3 (Int32.not_le.mpr z))
    · skip
      exact a_own hx hb (hml.trans hl.1.symm) htr hown (hts _ q357) (hts _ q358) (hts _ q83) hN9 hSH hlocks het (Nat.le_of_ble_eq_true rfl) (Nat.le_of_ble_eq_true rfl) (Nat.le_of_ble_eq_true rfl) (Nat.le_of_ble_eq_true rfl) (by decide) (by decide) dX0_rowOf_26 dX0_rowOf_29 dX0_rowOf_30 dX0_rowOf_33
