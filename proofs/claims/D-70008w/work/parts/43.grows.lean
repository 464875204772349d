/-! a field is written, where the slots are known to be apart -/
section VPUT
variable {p : Program} {l : Launch} {e : Env} {R : Room} {s : State} {m : MethodId} {args : Array Value} {below : List Frame} {meth : Method} {c : Code} {H : Heap} {locs : List Loc} {cells slots : Nat} {Q : State → Prop}
variable {cc : ByteArray} {pc : Nat} {ls : Array Slot} {rest : List Value} {D : va_G} {cl : List vw_C} {A : Nat → Prop} {a : Nat} {tys : List (ClassId × FieldType)} {ws : va_W} {H0 : Heap}
theorem v_in (hK : va_K D cl tys s) (hP : va_P D cl ws H) (hD : va_D A ws) {C : String} {T : u_T} {N ci : Nat} (hap : ∀ x y, x < N → y < N → x ≠ y → (D.2 ci) x ≠ (D.2 ci) y) {q0 : Nat} {fs : List Value} (he : ws[q0]? = some (a, .inr (ci, fs))) (hc : cl[ci]? = some (C, T, N)) {k : Nat} (hk : k < N) (hl : k < fs.length) (v : Value) {cell : Cell} (q1 : H[a]? = some cell) (q2 : cell.cls = D.1 ci) (q3 : cell.vm = .none) (q4 : ∀ j, j < N → cell.slots[(D.2 ci) j]? = some (vp_V fs j)) {H1 : Heap} (e1 : H1[a]? = some (cell.setSlot ((D.2 ci) k) v)) (e3 : ∀ q, q ≠ a → H1[q]? = H[q]?) : va_P D cl (ws.set q0 (a, .inr (ci, fs.set k v))) H1 :=
  hP.set hD he ⟨_, hc, t_OB.to (V := updV (vp_V fs) k v) ⟨_, e1, q2, q3, t_set q4 hap hk v⟩ (fun j _ => vp_updV_set hl v j)⟩ e3
theorem v_put (hexec : p.tables.exec = Jvm.exec) (hb : c.code = cc) {own ref C : String} {T : u_T} {N ci index : Nat} {Ts : List Cond} (hts : ∀ w ∈ Ts, w.before args s = true) (hin : ∀ w ∈ u_ws C T N, w ∈ Ts) (hap : ∀ x y, x < N → y < N → x ≠ y → (D.2 ci) x ≠ (D.2 ci) y) (hown : s.vm.findClass own = some m.cls) (hK : va_K D cl tys s) (hP : va_P D cl ws H) (hD : va_D A ws) (hS0 : va_S A H0 H locs) (q0 : Nat) {fs : List Value} (he : ws[q0]? = some (a, .inr (ci, fs))) (hc : cl[ci]? = some (C, T, N)) (k : Nat) (hk : k < N) (hlink : (Cond.fieldLink own index ref (T k).2.1 (T k).2.2.1).before args s = true) (hsame : ∀ x, s.fieldFound? (T k).1 (T k).2.1 (T k).2.2.1 = some x → s.fieldFound? ref (T k).2.1 (T k).2.2.1 = some x) (hfin : (T k).2.2.2 = false) {ty : FieldType} {v : Value} (hd : parseFieldDescriptor (T k).2.2.1 = some ty) (hn : narrow ty v = v) (hfit : fits ty v = true) (hl : k < fs.length) (hdg : decode cc pc = .ok (.putfield index, 3))
    (kk : ∀ (H1 : Heap) (locs1 : List Loc), va_P D cl (ws.set q0 (a, .inr (ci, fs.set k v))) H1 → va_D A (ws.set q0 (a, .inr (ci, fs.set k v))) → va_S A H0 H1 locs1 → W p l e R s m args below meth c H1 locs1 cells slots Q (F0 m (pc + 3) ls rest)) : W p l e R s m args below meth c H locs cells slots Q (F0 m pc ls (v :: .ref a :: rest)) := by
  obtain ⟨r, h1, cell, q1, q2, q3, q4⟩ := hP q0 _ he
  cases h1.symm.trans hc
  obtain ⟨hS, hfc, kC, hkC, hkind⟩ := hK.1 ci _ hc
  obtain ⟨cf, kf, fi, f, hi, hsl⟩ := hS k hk
  have hlay := hts _ (hin _ (u_in_lay hk))
  unfold u_lay at hlay
  rw [if_neg (by rw [hfin]; decide)] at hlay
  have h6 := u_store hfc hkC hkind hlay hi hd hn hfit
  refine W.putK hexec hb (f := f) ⟨hown, hlink, ⟨_, _, _, hsame _ hi⟩, (u_facts hfc hkC (u_lays hts hin hk) hi).1⟩ (by rw [q2]; exact h6) q1 q3 (by rw [hsl]; exact k2_hasslot (q4 k hk)) rfl rfl hdg fun H' e1 e2 e3 => ?_
  rw [hsl] at e1 ⊢
  exact kk H' _ (v_in hK hP hD hap he hc hk hl v q1 q2 q3 q4 e1 e3) (hD.set he) (hS0.put e2 e3 (hD.2 q0 _ he))
theorem v_putN (hexec : p.tables.exec = Jvm.exec) (hb : c.code = cc) {own ref C host : String} {T : u_T} {N ci index : Nat} {Ts : List Cond} (hts : ∀ w ∈ Ts, w.before args s = true) (hin : ∀ w ∈ u_ws C T N, w ∈ Ts) (hap : ∀ x y, x < N → y < N → x ≠ y → (D.2 ci) x ≠ (D.2 ci) y) (hown : s.vm.findClass own = some m.cls) (hK : va_K D cl tys s) (hP : va_P D cl ws H) (hD : va_D A ws) (hS0 : va_S A H0 H locs) (q0 : Nat) {fs : List Value} (he : ws[q0]? = some (a, .inr (ci, fs))) (hc : cl[ci]? = some (C, T, N)) (k : Nat) (hk : k < N) (hlink : (Cond.fieldLinkNest own index ref (T k).2.1 (T k).2.2.1 host).before args s = true) (hsame : ∀ x, s.fieldFound? (T k).1 (T k).2.1 (T k).2.2.1 = some x → s.fieldFound? ref (T k).2.1 (T k).2.2.1 = some x) (hfin : (T k).2.2.2 = false) {ty : FieldType} {v : Value} (hd : parseFieldDescriptor (T k).2.2.1 = some ty) (hn : narrow ty v = v) (hfit : fits ty v = true) (hl : k < fs.length) (hdg : decode cc pc = .ok (.putfield index, 3))
    (kk : ∀ (H1 : Heap) (locs1 : List Loc), va_P D cl (ws.set q0 (a, .inr (ci, fs.set k v))) H1 → va_D A (ws.set q0 (a, .inr (ci, fs.set k v))) → va_S A H0 H1 locs1 → W p l e R s m args below meth c H1 locs1 cells slots Q (F0 m (pc + 3) ls rest)) : W p l e R s m args below meth c H locs cells slots Q (F0 m pc ls (v :: .ref a :: rest)) := by
  obtain ⟨r, h1, cell, q1, q2, q3, q4⟩ := hP q0 _ he
  cases h1.symm.trans hc
  obtain ⟨hS, hfc, kC, hkC, hkind⟩ := hK.1 ci _ hc
  obtain ⟨cf, kf, fi, f, hi, hsl⟩ := hS k hk
  have hlay := hts _ (hin _ (u_in_lay hk))
  unfold u_lay at hlay
  rw [if_neg (by rw [hfin]; decide)] at hlay
  have h6 := u_store hfc hkC hkind hlay hi hd hn hfit
  refine va_WputK hexec hb (f := f) hown hlink (hsame _ hi) (u_facts hfc hkC (u_lays hts hin hk) hi).1 (by rw [q2]; exact h6) q1 q3 (by rw [hsl]; exact k2_hasslot (q4 k hk)) rfl rfl hdg fun H' e1 e2 e3 => ?_
  rw [hsl] at e1 ⊢
  exact kk H' _ (v_in hK hP hD hap he hc hk hl v q1 q2 q3 q4 e1 e3) (hD.set he) (hS0.put e2 e3 (hD.2 q0 _ he))
end VPUT
/-! ROWS of the people's world -/
theorem b2i_or (b : Bool) : b2i b = 0 ∨ b2i b = 1 := by cases b <;> decide
abbrev gPre (dC : Nat → ClassId) (dI : Nat → Nat → Nat) (ct : Nat → ClassId) (A : Nat → Prop) (ex : va_W) (o : Nat) (q : Nat → Nat) (L : XL) (y : Nat → Nat) (g : Nat → Int32) (a : Nat → Nat → Int32) (av : List Value) : Array Value → State → Prop := va_Pc av (fun U => va_P (dC, dI) clA (xG ct o q L y g a ex) U.heap ∧ va_K (dC, dI) clA (tyA ct) U ∧ va_D A (xG ct o q L y g a ex) ∧ xE U)
abbrev gB (dC : Nat → ClassId) (dI : Nat → Nat → Nat) (ct : Nat → ClassId) (A : Nat → Prop) (ex : va_W) (o : Nat) (q : Nat → Nat) (L : XL) (y : Nat → Nat) (u : MS) (t : State) : Prop := va_P (dC, dI) clA (xG ct o q L y u.1 u.2 ex) t.heap ∧ va_K (dC, dI) clA (tyA ct) t ∧ va_D A (xG ct o q L y u.1 u.2 ex)
theorem gPV {dC : Nat → ClassId} {dI : Nat → Nat → Nat} {ct : Nat → ClassId} {A : Nat → Prop} {ex : va_W} {o : Nat} {q : Nat → Nat} {ql qs : Nat} {md : Int32} {qe n : Nat} {y : Nat → Nat} {g : Nat → Int32} {a : Nat → Nat → Int32} {s : State} {H : Heap} (hK : va_K (dC, dI) clA (tyA ct) s) (hP : va_P (dC, dI) clA (xG ct o q (ql, qs, md, qe, n) y g a ex) H) (hD : va_D A (xG ct o q (ql, qs, md, qe, n) y g a ex)) (hE : xE s) (As : List Value) : PreV s H RX0 o (gPre dC dI ct A ex o q (ql, qs, md, qe, n) y g a (.ref o :: As)) As :=
  ⟨fun x U k mk z => ⟨z.1, z.2.1, va_K.moved (u := U) (U := U.calling k mk x) (Vm.Alike.refl U.vm) z.2.2.1, z.2.2.2.1, xE.call z.2.2.2.2 k mk x⟩, va_recv hK hP (ci := 0) (q0 := 0) rfl rfl, fun U hU hW => ⟨rfl, by rw [hU]; exact hP, va_K.moved hW.alike hK, hD, hE.warm hW⟩⟩
theorem gPS {dC : Nat → ClassId} {dI : Nat → Nat → Nat} {ct : Nat → ClassId} {A : Nat → Prop} {ex : va_W} {o : Nat} {q : Nat → Nat} {ql qs : Nat} {md : Int32} {qe n : Nat} {y : Nat → Nat} {g : Nat → Int32} {a : Nat → Nat → Int32} {s : State} {H : Heap} (hK : va_K (dC, dI) clA (tyA ct) s) (hP : va_P (dC, dI) clA (xG ct o q (ql, qs, md, qe, n) y g a ex) H) (hD : va_D A (xG ct o q (ql, qs, md, qe, n) y g a ex)) (hE : xE s) (As : List Value) : PreS s H (gPre dC dI ct A ex o q (ql, qs, md, qe, n) y g a As) As :=
  ⟨fun x U k mk z => ⟨z.1, z.2.1, va_K.moved (u := U) (U := U.calling k mk x) (Vm.Alike.refl U.vm) z.2.2.1, z.2.2.2.1, xE.call z.2.2.2.2 k mk x⟩, fun U hU hW => ⟨rfl, by rw [hU]; exact hP, va_K.moved hW.alike hK, hD, hE.warm hW⟩⟩
theorem xG_c0 {ct : Nat → ClassId} {o : Nat} {q : Nat → Nat} {ql qs : Nat} {md : Int32} {qe n : Nat} {y : Nat → Nat} {g : Nat → Int32} {a : Nat → Nat → Int32} {ex : va_W} {x : Nat} (hx : x < n) (hk : kdN (a 2 x) = 0) : (xG ct o q (ql, qs, md, qe, n) y g a ex)[16 + x]? = some (y x, .inr (3, chF o a x)) := by
  rw [xG_ch hx]
  unfold chE
  rw [hk]
theorem cPV0 {dC : Nat → ClassId} {dI : Nat → Nat → Nat} {ct : Nat → ClassId} {A : Nat → Prop} {ex : va_W} {o : Nat} {q : Nat → Nat} {ql qs : Nat} {md : Int32} {qe n : Nat} {y : Nat → Nat} {g : Nat → Int32} {a : Nat → Nat → Int32} {s : State} {H : Heap} {x : Nat} (hx : x < n) (hk : kdN (a 2 x) = 0) (hK : va_K (dC, dI) clA (tyA ct) s) (hP : va_P (dC, dI) clA (xG ct o q (ql, qs, md, qe, n) y g a ex) H) (hD : va_D A (xG ct o q (ql, qs, md, qe, n) y g a ex)) (hE : xE s) (As : List Value) : PreV s H RX3 (y x) (gPre dC dI ct A ex o q (ql, qs, md, qe, n) y g a (.ref (y x) :: As)) As :=
  ⟨fun x U k mk z => ⟨z.1, z.2.1, va_K.moved (u := U) (U := U.calling k mk x) (Vm.Alike.refl U.vm) z.2.2.1, z.2.2.2.1, xE.call z.2.2.2.2 k mk x⟩, va_recv hK hP (ci := 3) (q0 := 16 + x) rfl (xG_c0 hx hk), fun U hU hW => ⟨rfl, by rw [hU]; exact hP, va_K.moved hW.alike hK, hD, hE.warm hW⟩⟩
theorem cAt0 {dC : Nat → ClassId} {dI : Nat → Nat → Nat} {ct : Nat → ClassId} {s : State} (hK : va_K (dC, dI) clA (tyA ct) s) : ClassAt s RX3 (dC 3) := (hK.1 3 _ rfl).2
theorem chF_len0 {o x : Nat} {a : Nat → Nat → Int32} (hk : kdN (a 2 x) = 0) : (chF o a x).length = 7 := by
  unfold chF
  rw [hk]
  rfl
theorem xG_c1 {ct : Nat → ClassId} {o : Nat} {q : Nat → Nat} {ql qs : Nat} {md : Int32} {qe n : Nat} {y : Nat → Nat} {g : Nat → Int32} {a : Nat → Nat → Int32} {ex : va_W} {x : Nat} (hx : x < n) (hk : kdN (a 2 x) = 1) : (xG ct o q (ql, qs, md, qe, n) y g a ex)[16 + x]? = some (y x, .inr (4, chF o a x)) := by
  rw [xG_ch hx]
  unfold chE
  rw [hk]
theorem cPV1 {dC : Nat → ClassId} {dI : Nat → Nat → Nat} {ct : Nat → ClassId} {A : Nat → Prop} {ex : va_W} {o : Nat} {q : Nat → Nat} {ql qs : Nat} {md : Int32} {qe n : Nat} {y : Nat → Nat} {g : Nat → Int32} {a : Nat → Nat → Int32} {s : State} {H : Heap} {x : Nat} (hx : x < n) (hk : kdN (a 2 x) = 1) (hK : va_K (dC, dI) clA (tyA ct) s) (hP : va_P (dC, dI) clA (xG ct o q (ql, qs, md, qe, n) y g a ex) H) (hD : va_D A (xG ct o q (ql, qs, md, qe, n) y g a ex)) (hE : xE s) (As : List Value) : PreV s H RX4 (y x) (gPre dC dI ct A ex o q (ql, qs, md, qe, n) y g a (.ref (y x) :: As)) As :=
  ⟨fun x U k mk z => ⟨z.1, z.2.1, va_K.moved (u := U) (U := U.calling k mk x) (Vm.Alike.refl U.vm) z.2.2.1, z.2.2.2.1, xE.call z.2.2.2.2 k mk x⟩, va_recv hK hP (ci := 4) (q0 := 16 + x) rfl (xG_c1 hx hk), fun U hU hW => ⟨rfl, by rw [hU]; exact hP, va_K.moved hW.alike hK, hD, hE.warm hW⟩⟩
theorem cAt1 {dC : Nat → ClassId} {dI : Nat → Nat → Nat} {ct : Nat → ClassId} {s : State} (hK : va_K (dC, dI) clA (tyA ct) s) : ClassAt s RX4 (dC 4) := (hK.1 4 _ rfl).2
theorem chF_len1 {o x : Nat} {a : Nat → Nat → Int32} (hk : kdN (a 2 x) = 1) : (chF o a x).length = 8 := by
  unfold chF
  rw [hk]
  rfl
theorem xG_c2 {ct : Nat → ClassId} {o : Nat} {q : Nat → Nat} {ql qs : Nat} {md : Int32} {qe n : Nat} {y : Nat → Nat} {g : Nat → Int32} {a : Nat → Nat → Int32} {ex : va_W} {x : Nat} (hx : x < n) (hk : kdN (a 2 x) = 2) : (xG ct o q (ql, qs, md, qe, n) y g a ex)[16 + x]? = some (y x, .inr (5, chF o a x)) := by
  rw [xG_ch hx]
  unfold chE
  rw [hk]
theorem cPV2 {dC : Nat → ClassId} {dI : Nat → Nat → Nat} {ct : Nat → ClassId} {A : Nat → Prop} {ex : va_W} {o : Nat} {q : Nat → Nat} {ql qs : Nat} {md : Int32} {qe n : Nat} {y : Nat → Nat} {g : Nat → Int32} {a : Nat → Nat → Int32} {s : State} {H : Heap} {x : Nat} (hx : x < n) (hk : kdN (a 2 x) = 2) (hK : va_K (dC, dI) clA (tyA ct) s) (hP : va_P (dC, dI) clA (xG ct o q (ql, qs, md, qe, n) y g a ex) H) (hD : va_D A (xG ct o q (ql, qs, md, qe, n) y g a ex)) (hE : xE s) (As : List Value) : PreV s H RX5 (y x) (gPre dC dI ct A ex o q (ql, qs, md, qe, n) y g a (.ref (y x) :: As)) As :=
  ⟨fun x U k mk z => ⟨z.1, z.2.1, va_K.moved (u := U) (U := U.calling k mk x) (Vm.Alike.refl U.vm) z.2.2.1, z.2.2.2.1, xE.call z.2.2.2.2 k mk x⟩, va_recv hK hP (ci := 5) (q0 := 16 + x) rfl (xG_c2 hx hk), fun U hU hW => ⟨rfl, by rw [hU]; exact hP, va_K.moved hW.alike hK, hD, hE.warm hW⟩⟩
theorem cAt2 {dC : Nat → ClassId} {dI : Nat → Nat → Nat} {ct : Nat → ClassId} {s : State} (hK : va_K (dC, dI) clA (tyA ct) s) : ClassAt s RX5 (dC 5) := (hK.1 5 _ rfl).2
theorem chF_len2 {o x : Nat} {a : Nat → Nat → Int32} (hk : kdN (a 2 x) = 2) : (chF o a x).length = 9 := by
  unfold chF
  rw [hk]
  rfl
theorem gWa8 (ct : Nat → ClassId) (o : Nat) (q : Nat → Nat) (ql qs : Nat) (md : Int32) (qe n : Nat) (y : Nat → Nat) (g : Nat → Int32) (a : Nat → Nat → Int32) (ex : va_W) : (xG ct o q (ql, qs, md, qe, n) y g a ex)[1]? = some (q 8, .inl (ct 0, 6, .inl (a 8))) := rfl
theorem gWs8 (ct : Nat → ClassId) (o : Nat) (q : Nat → Nat) (ql qs : Nat) (md : Int32) (qe n : Nat) (y : Nat → Nat) (g : Nat → Int32) (a : Nat → Nat → Int32) (ex : va_W) (f : Nat → Int32) : (xG ct o q (ql, qs, md, qe, n) y g a ex).set 1 (q 8, .inl (ct 0, 6, .inl f)) = xG ct o q (ql, qs, md, qe, n) y g (va_up a 8 f) ex := by
  rw [xG_def, xG_def, peW_up (by decide)]
  rfl
theorem gWa9 (ct : Nat → ClassId) (o : Nat) (q : Nat → Nat) (ql qs : Nat) (md : Int32) (qe n : Nat) (y : Nat → Nat) (g : Nat → Int32) (a : Nat → Nat → Int32) (ex : va_W) : (xG ct o q (ql, qs, md, qe, n) y g a ex)[2]? = some (q 9, .inl (ct 0, 6, .inl (a 9))) := rfl
theorem gWs9 (ct : Nat → ClassId) (o : Nat) (q : Nat → Nat) (ql qs : Nat) (md : Int32) (qe n : Nat) (y : Nat → Nat) (g : Nat → Int32) (a : Nat → Nat → Int32) (ex : va_W) (f : Nat → Int32) : (xG ct o q (ql, qs, md, qe, n) y g a ex).set 2 (q 9, .inl (ct 0, 6, .inl f)) = xG ct o q (ql, qs, md, qe, n) y g (va_up a 9 f) ex := by
  rw [xG_def, xG_def, peW_up (by decide)]
  rfl
theorem gWa10 (ct : Nat → ClassId) (o : Nat) (q : Nat → Nat) (ql qs : Nat) (md : Int32) (qe n : Nat) (y : Nat → Nat) (g : Nat → Int32) (a : Nat → Nat → Int32) (ex : va_W) : (xG ct o q (ql, qs, md, qe, n) y g a ex)[3]? = some (q 10, .inl (ct 0, 6, .inl (a 10))) := rfl
theorem gWs10 (ct : Nat → ClassId) (o : Nat) (q : Nat → Nat) (ql qs : Nat) (md : Int32) (qe n : Nat) (y : Nat → Nat) (g : Nat → Int32) (a : Nat → Nat → Int32) (ex : va_W) (f : Nat → Int32) : (xG ct o q (ql, qs, md, qe, n) y g a ex).set 3 (q 10, .inl (ct 0, 6, .inl f)) = xG ct o q (ql, qs, md, qe, n) y g (va_up a 10 f) ex := by
  rw [xG_def, xG_def, peW_up (by decide)]
  rfl
theorem gWa11 (ct : Nat → ClassId) (o : Nat) (q : Nat → Nat) (ql qs : Nat) (md : Int32) (qe n : Nat) (y : Nat → Nat) (g : Nat → Int32) (a : Nat → Nat → Int32) (ex : va_W) : (xG ct o q (ql, qs, md, qe, n) y g a ex)[4]? = some (q 11, .inl (ct 0, 6, .inl (a 11))) := rfl
theorem gWs11 (ct : Nat → ClassId) (o : Nat) (q : Nat → Nat) (ql qs : Nat) (md : Int32) (qe n : Nat) (y : Nat → Nat) (g : Nat → Int32) (a : Nat → Nat → Int32) (ex : va_W) (f : Nat → Int32) : (xG ct o q (ql, qs, md, qe, n) y g a ex).set 4 (q 11, .inl (ct 0, 6, .inl f)) = xG ct o q (ql, qs, md, qe, n) y g (va_up a 11 f) ex := by
  rw [xG_def, xG_def, peW_up (by decide)]
  rfl
theorem gWa12 (ct : Nat → ClassId) (o : Nat) (q : Nat → Nat) (ql qs : Nat) (md : Int32) (qe n : Nat) (y : Nat → Nat) (g : Nat → Int32) (a : Nat → Nat → Int32) (ex : va_W) : (xG ct o q (ql, qs, md, qe, n) y g a ex)[5]? = some (q 12, .inl (ct 0, 6, .inl (a 12))) := rfl
theorem gWs12 (ct : Nat → ClassId) (o : Nat) (q : Nat → Nat) (ql qs : Nat) (md : Int32) (qe n : Nat) (y : Nat → Nat) (g : Nat → Int32) (a : Nat → Nat → Int32) (ex : va_W) (f : Nat → Int32) : (xG ct o q (ql, qs, md, qe, n) y g a ex).set 5 (q 12, .inl (ct 0, 6, .inl f)) = xG ct o q (ql, qs, md, qe, n) y g (va_up a 12 f) ex := by
  rw [xG_def, xG_def, peW_up (by decide)]
  rfl
theorem gWa15 (ct : Nat → ClassId) (o : Nat) (q : Nat → Nat) (ql qs : Nat) (md : Int32) (qe n : Nat) (y : Nat → Nat) (g : Nat → Int32) (a : Nat → Nat → Int32) (ex : va_W) : (xG ct o q (ql, qs, md, qe, n) y g a ex)[6]? = some (q 15, .inl (ct 0, 6, .inl (a 15))) := rfl
theorem gWs15 (ct : Nat → ClassId) (o : Nat) (q : Nat → Nat) (ql qs : Nat) (md : Int32) (qe n : Nat) (y : Nat → Nat) (g : Nat → Int32) (a : Nat → Nat → Int32) (ex : va_W) (f : Nat → Int32) : (xG ct o q (ql, qs, md, qe, n) y g a ex).set 6 (q 15, .inl (ct 0, 6, .inl f)) = xG ct o q (ql, qs, md, qe, n) y g (va_up a 15 f) ex := by
  rw [xG_def, xG_def, peW_up (by decide)]
  rfl
theorem gWa16 (ct : Nat → ClassId) (o : Nat) (q : Nat → Nat) (ql qs : Nat) (md : Int32) (qe n : Nat) (y : Nat → Nat) (g : Nat → Int32) (a : Nat → Nat → Int32) (ex : va_W) : (xG ct o q (ql, qs, md, qe, n) y g a ex)[7]? = some (q 16, .inl (ct 0, 36, .inl (a 16))) := rfl
theorem gWs16 (ct : Nat → ClassId) (o : Nat) (q : Nat → Nat) (ql qs : Nat) (md : Int32) (qe n : Nat) (y : Nat → Nat) (g : Nat → Int32) (a : Nat → Nat → Int32) (ex : va_W) (f : Nat → Int32) : (xG ct o q (ql, qs, md, qe, n) y g a ex).set 7 (q 16, .inl (ct 0, 36, .inl f)) = xG ct o q (ql, qs, md, qe, n) y g (va_up a 16 f) ex := by
  rw [xG_def, xG_def, peW_up (by decide)]
  rfl
theorem gWa19 (ct : Nat → ClassId) (o : Nat) (q : Nat → Nat) (ql qs : Nat) (md : Int32) (qe n : Nat) (y : Nat → Nat) (g : Nat → Int32) (a : Nat → Nat → Int32) (ex : va_W) : (xG ct o q (ql, qs, md, qe, n) y g a ex)[8]? = some (q 19, .inl (ct 0, 3, .inl (a 19))) := rfl
theorem gWs19 (ct : Nat → ClassId) (o : Nat) (q : Nat → Nat) (ql qs : Nat) (md : Int32) (qe n : Nat) (y : Nat → Nat) (g : Nat → Int32) (a : Nat → Nat → Int32) (ex : va_W) (f : Nat → Int32) : (xG ct o q (ql, qs, md, qe, n) y g a ex).set 8 (q 19, .inl (ct 0, 3, .inl f)) = xG ct o q (ql, qs, md, qe, n) y g (va_up a 19 f) ex := by
  rw [xG_def, xG_def, peW_up (by decide)]
  rfl
theorem gWa20 (ct : Nat → ClassId) (o : Nat) (q : Nat → Nat) (ql qs : Nat) (md : Int32) (qe n : Nat) (y : Nat → Nat) (g : Nat → Int32) (a : Nat → Nat → Int32) (ex : va_W) : (xG ct o q (ql, qs, md, qe, n) y g a ex)[9]? = some (q 20, .inl (ct 0, 6, .inl (a 20))) := rfl
theorem gWs20 (ct : Nat → ClassId) (o : Nat) (q : Nat → Nat) (ql qs : Nat) (md : Int32) (qe n : Nat) (y : Nat → Nat) (g : Nat → Int32) (a : Nat → Nat → Int32) (ex : va_W) (f : Nat → Int32) : (xG ct o q (ql, qs, md, qe, n) y g a ex).set 9 (q 20, .inl (ct 0, 6, .inl f)) = xG ct o q (ql, qs, md, qe, n) y g (va_up a 20 f) ex := by
  rw [xG_def, xG_def, peW_up (by decide)]
  rfl
theorem gWa22 (ct : Nat → ClassId) (o : Nat) (q : Nat → Nat) (ql qs : Nat) (md : Int32) (qe n : Nat) (y : Nat → Nat) (g : Nat → Int32) (a : Nat → Nat → Int32) (ex : va_W) : (xG ct o q (ql, qs, md, qe, n) y g a ex)[11]? = some (q 22, .inl (ct 0, 8, .inl (a 22))) := rfl
theorem gWs22 (ct : Nat → ClassId) (o : Nat) (q : Nat → Nat) (ql qs : Nat) (md : Int32) (qe n : Nat) (y : Nat → Nat) (g : Nat → Int32) (a : Nat → Nat → Int32) (ex : va_W) (f : Nat → Int32) : (xG ct o q (ql, qs, md, qe, n) y g a ex).set 11 (q 22, .inl (ct 0, 8, .inl f)) = xG ct o q (ql, qs, md, qe, n) y g (va_up a 22 f) ex := by
  rw [xG_def, xG_def, peW_up (by decide)]
  rfl
theorem gWa23 (ct : Nat → ClassId) (o : Nat) (q : Nat → Nat) (ql qs : Nat) (md : Int32) (qe n : Nat) (y : Nat → Nat) (g : Nat → Int32) (a : Nat → Nat → Int32) (ex : va_W) : (xG ct o q (ql, qs, md, qe, n) y g a ex)[12]? = some (q 23, .inl (ct 0, 8, .inl (a 23))) := rfl
theorem gWs23 (ct : Nat → ClassId) (o : Nat) (q : Nat → Nat) (ql qs : Nat) (md : Int32) (qe n : Nat) (y : Nat → Nat) (g : Nat → Int32) (a : Nat → Nat → Int32) (ex : va_W) (f : Nat → Int32) : (xG ct o q (ql, qs, md, qe, n) y g a ex).set 12 (q 23, .inl (ct 0, 8, .inl f)) = xG ct o q (ql, qs, md, qe, n) y g (va_up a 23 f) ex := by
  rw [xG_def, xG_def, peW_up (by decide)]
  rfl
theorem gWa24 (ct : Nat → ClassId) (o : Nat) (q : Nat → Nat) (ql qs : Nat) (md : Int32) (qe n : Nat) (y : Nat → Nat) (g : Nat → Int32) (a : Nat → Nat → Int32) (ex : va_W) : (xG ct o q (ql, qs, md, qe, n) y g a ex)[13]? = some (q 24, .inl (ct 1, 8, .inl (a 24))) := rfl
theorem gWs24 (ct : Nat → ClassId) (o : Nat) (q : Nat → Nat) (ql qs : Nat) (md : Int32) (qe n : Nat) (y : Nat → Nat) (g : Nat → Int32) (a : Nat → Nat → Int32) (ex : va_W) (f : Nat → Int32) : (xG ct o q (ql, qs, md, qe, n) y g a ex).set 13 (q 24, .inl (ct 1, 8, .inl f)) = xG ct o q (ql, qs, md, qe, n) y g (va_up a 24 f) ex := by
  rw [xG_def, xG_def, peW_up (by decide)]
  rfl
theorem gWa30 (ct : Nat → ClassId) (o : Nat) (q : Nat → Nat) (ql qs : Nat) (md : Int32) (qe n : Nat) (y : Nat → Nat) (g : Nat → Int32) (a : Nat → Nat → Int32) (ex : va_W) : (xG ct o q (ql, qs, md, qe, n) y g a ex)[10]? = some (q 30, .inl (ct 0, 6, .inl (a 30))) := rfl
theorem gWs30 (ct : Nat → ClassId) (o : Nat) (q : Nat → Nat) (ql qs : Nat) (md : Int32) (qe n : Nat) (y : Nat → Nat) (g : Nat → Int32) (a : Nat → Nat → Int32) (ex : va_W) (f : Nat → Int32) : (xG ct o q (ql, qs, md, qe, n) y g a ex).set 10 (q 30, .inl (ct 0, 6, .inl f)) = xG ct o q (ql, qs, md, qe, n) y g (va_up a 30 f) ex := by
  rw [xG_def, xG_def, peW_up (by decide)]
  rfl
section GROWS
variable {p : Program} {l : Launch} {e : Env} {R : Room} {s : State} {m : MethodId} {args : Array Value} {below : List Frame} {meth : Method} {c : Code} {H : Heap} {locs : List Loc} {cells slots : Nat} {Q : State → Prop}
variable {cc : ByteArray} {pc : Nat} {ls : Array Slot} {rest : List Value} {dC : Nat → ClassId} {dI : Nat → Nat → Nat} {ct : Nat → ClassId} {A : Nat → Prop} {ex : va_W} {o : Nat} {q : Nat → Nat} {ql qs : Nat} {md : Int32} {qe n : Nat} {y : Nat → Nat} {g : Nat → Int32} {a : Nat → Nat → Int32} {H0 : Heap}

theorem g_get (hexec : p.tables.exec = Jvm.exec) (hb : c.code = cc) (hts : ∀ w ∈ lw_all, w.before args s = true) (hown : s.vm.findClass RX0 = some m.cls) (hK : va_K (dC, dI) clA (tyA ct) s) (hP : va_P (dC, dI) clA (xG ct o q (ql, qs, md, qe, n) y g a ex) H) (k : Nat) {v : Value} (hk : k < 26) (hv : (xF q (ql, qs, md, qe, n) g)[k]? = some v) {idx : Nat} (hq : Cond.fieldLink RX0 idx RX0 (TX0 k).2.1 (TX0 k).2.2.1 ∈ lw_all) (hT : (TX0 k).1 = RX0) (hdg : decode cc pc = .ok (.getfield idx, 3))
    (kk : W p l e R s m args below meth c H locs cells slots Q (F0 m (pc + 3) ls (v :: rest))) : W p l e R s m args below meth c H locs cells slots Q (F0 m pc ls (.ref o :: rest)) :=
  va_get (D := (dC, dI)) (ci := 0) (C := RX0) (T := TX0) (N := 26) hexec hb hts in_X0 hown hK hP 0 rfl rfl k hk (hts _ hq) (fun _ h9 => by rw [hT] at h9; exact h9) hv hdg kk
theorem g_getN {own host : String} (hexec : p.tables.exec = Jvm.exec) (hb : c.code = cc) (hts : ∀ w ∈ lw_all, w.before args s = true) (hown : s.vm.findClass own = some m.cls) (hK : va_K (dC, dI) clA (tyA ct) s) (hP : va_P (dC, dI) clA (xG ct o q (ql, qs, md, qe, n) y g a ex) H) (k : Nat) {v : Value} (hk : k < 26) (hv : (xF q (ql, qs, md, qe, n) g)[k]? = some v) {idx : Nat} (hq : va_Nw (Cond.fieldLinkNest own idx RX0 (TX0 k).2.1 (TX0 k).2.2.1 host) s) (hT : (TX0 k).1 = RX0) (hdg : decode cc pc = .ok (.getfield idx, 3))
    (kk : W p l e R s m args below meth c H locs cells slots Q (F0 m (pc + 3) ls (v :: rest))) : W p l e R s m args below meth c H locs cells slots Q (F0 m pc ls (.ref o :: rest)) :=
  va_getN (D := (dC, dI)) (ci := 0) (C := RX0) (T := TX0) (N := 26) hexec hb hts in_X0 hown hK hP 0 rfl rfl k hk (va_Nw.use rfl hq) (fun _ h9 => by rw [hT] at h9; exact h9) hv hdg kk
theorem g_put (hexec : p.tables.exec = Jvm.exec) (hb : c.code = cc) (hts : ∀ w ∈ lw_all, w.before args s = true) (hown : s.vm.findClass RX0 = some m.cls) (hK : va_K (dC, dI) clA (tyA ct) s) (hP : va_P (dC, dI) clA (xG ct o q (ql, qs, md, qe, n) y g a ex) H) (hD : va_D A (xG ct o q (ql, qs, md, qe, n) y g a ex)) (hS : va_S A H0 H locs) (k k1 : Nat) {v : Int32} (hk : k < 26) (hset : (xF q (ql, qs, md, qe, n) g).set k (.int v) = xF q (ql, qs, md, qe, n) (upd g k1 v)) {idx : Nat} (hq : Cond.fieldLink RX0 idx RX0 (TX0 k).2.1 (TX0 k).2.2.1 ∈ lw_all) (hT : (TX0 k).1 = RX0) (hf : (TX0 k).2.2.2 = false) (hi : parseFieldDescriptor (TX0 k).2.2.1 = some .int) (hdg : decode cc pc = .ok (.putfield idx, 3))
    (kk : ∀ (H1 : Heap) (locs1 : List Loc), va_P (dC, dI) clA (xG ct o q (ql, qs, md, qe, n) y (upd g k1 v) a ex) H1 → va_D A (xG ct o q (ql, qs, md, qe, n) y (upd g k1 v) a ex) → va_S A H0 H1 locs1 → W p l e R s m args below meth c H1 locs1 cells slots Q (F0 m (pc + 3) ls rest)) : W p l e R s m args below meth c H locs cells slots Q (F0 m pc ls (.int v :: .ref o :: rest)) := by
  refine va_put (D := (dC, dI)) (ci := 0) (v := .int v) (ty := .int) (C := RX0) (T := TX0) (N := 26) hexec hb hts in_X0 tyX0 tyX0_ok nmX0 hown hK hP hD hS 0 rfl rfl k hk (hts _ hq) (fun _ h9 => by rw [hT] at h9; exact h9) hf hi rfl rfl hk hdg (fun H1 locs1 hP1 hD1 hS1 => ?_)
  have e : (xG ct o q (ql, qs, md, qe, n) y g a ex).set 0 (o, .inr (0, (xF q (ql, qs, md, qe, n) g).set k (.int v))) = xG ct o q (ql, qs, md, qe, n) y (upd g k1 v) a ex := by
    rw [hset]
    rfl
  exact kk H1 locs1 (by rw [e] at hP1; exact hP1) (by rw [e] at hD1; exact hD1) hS1
theorem g_putz (hexec : p.tables.exec = Jvm.exec) (hb : c.code = cc) (hts : ∀ w ∈ lw_all, w.before args s = true) (hown : s.vm.findClass RX0 = some m.cls) (hK : va_K (dC, dI) clA (tyA ct) s) (hP : va_P (dC, dI) clA (xG ct o q (ql, qs, md, qe, n) y g a ex) H) (hD : va_D A (xG ct o q (ql, qs, md, qe, n) y g a ex)) (hS : va_S A H0 H locs) (k k1 : Nat) {v : Int32} (hk : k < 26) (hset : (xF q (ql, qs, md, qe, n) g).set k (.int v) = xF q (ql, qs, md, qe, n) (upd g k1 v)) {idx : Nat} (hq : Cond.fieldLink RX0 idx RX0 (TX0 k).2.1 (TX0 k).2.2.1 ∈ lw_all) (hT : (TX0 k).1 = RX0) (hf : (TX0 k).2.2.2 = false) (hi : parseFieldDescriptor (TX0 k).2.2.1 = some .boolean) (hz : v = 0 ∨ v = 1) (hdg : decode cc pc = .ok (.putfield idx, 3))
    (kk : ∀ (H1 : Heap) (locs1 : List Loc), va_P (dC, dI) clA (xG ct o q (ql, qs, md, qe, n) y (upd g k1 v) a ex) H1 → va_D A (xG ct o q (ql, qs, md, qe, n) y (upd g k1 v) a ex) → va_S A H0 H1 locs1 → W p l e R s m args below meth c H1 locs1 cells slots Q (F0 m (pc + 3) ls rest)) : W p l e R s m args below meth c H locs cells slots Q (F0 m pc ls (.int v :: .ref o :: rest)) := by
  refine va_put (D := (dC, dI)) (ci := 0) (v := .int v) (ty := .boolean) (C := RX0) (T := TX0) (N := 26) hexec hb hts in_X0 tyX0 tyX0_ok nmX0 hown hK hP hD hS 0 rfl rfl k hk (hts _ hq) (fun _ h9 => by rw [hT] at h9; exact h9) hf hi (by rcases hz with rfl | rfl <;> rfl) (by rcases hz with rfl | rfl <;> rfl) hk hdg (fun H1 locs1 hP1 hD1 hS1 => ?_)
  have e : (xG ct o q (ql, qs, md, qe, n) y g a ex).set 0 (o, .inr (0, (xF q (ql, qs, md, qe, n) g).set k (.int v))) = xG ct o q (ql, qs, md, qe, n) y (upd g k1 v) a ex := by
    rw [hset]
    rfl
  exact kk H1 locs1 (by rw [e] at hP1; exact hP1) (by rw [e] at hD1; exact hD1) hS1
theorem tx4 {k : Nat} (hk : k < 7) : TX4 k = TX3 k := by
  match k, hk with
  | 0, _ => rfl
  | 1, _ => rfl
  | 2, _ => rfl
  | 3, _ => rfl
  | 4, _ => rfl
  | 5, _ => rfl
  | 6, _ => rfl
theorem tx5 {k : Nat} (hk : k < 7) : TX5 k = TX3 k := by
  match k, hk with
  | 0, _ => rfl
  | 1, _ => rfl
  | 2, _ => rfl
  | 3, _ => rfl
  | 4, _ => rfl
  | 5, _ => rfl
  | 6, _ => rfl
theorem tx30 {k : Nat} (hk : k < 7) : (TX3 k).1 = RX3 := by
  match k, hk with
  | 0, _ => rfl
  | 1, _ => rfl
  | 2, _ => rfl
  | 3, _ => rfl
  | 4, _ => rfl
  | 5, _ => rfl
  | 6, _ => rfl
theorem c_get {own : String} (hexec : p.tables.exec = Jvm.exec) (hb : c.code = cc) (hts : ∀ w ∈ lw_all, w.before args s = true) (hown : s.vm.findClass own = some m.cls) (hK : va_K (dC, dI) clA (tyA ct) s) (hP : va_P (dC, dI) clA (xG ct o q (ql, qs, md, qe, n) y g a ex) H) {x : Nat} (hx : x < n) (k : Nat) {v : Value} (hk : k < 7) (hv : (chF o a x)[k]? = some v) {idx : Nat} (hq : Cond.fieldLink own idx RX3 (TX3 k).2.1 (TX3 k).2.2.1 ∈ lw_all) (hdg : decode cc pc = .ok (.getfield idx, 3))
    (kk : W p l e R s m args below meth c H locs cells slots Q (F0 m (pc + 3) ls (v :: rest))) : W p l e R s m args below meth c H locs cells slots Q (F0 m pc ls (.ref (y x) :: rest)) := by
  rcases kdN_cases (a 2 x) with h | h | h
  · exact va_get (D := (dC, dI)) (ci := 3) (C := RX3) (T := TX3) (N := 7) hexec hb hts in_X3 hown hK hP (16 + x) (xG_c0 hx h) rfl k (by omega) (by exact (hts _ hq)) (fun _ h9 => by rw [tx30 hk] at h9; exact h9) hv hdg kk
  · have e := tx4 hk; exact va_get (D := (dC, dI)) (ci := 4) (C := RX4) (T := TX4) (N := 8) hexec hb hts in_X4 hown hK hP (16 + x) (xG_c1 hx h) rfl k (by omega) (by rw [e]; exact (hts _ hq)) (fun _ h9 => by rw [e] at h9 ⊢; rw [tx30 hk] at h9; exact h9) hv hdg kk
  · have e := tx5 hk; exact va_get (D := (dC, dI)) (ci := 5) (C := RX5) (T := TX5) (N := 9) hexec hb hts in_X5 hown hK hP (16 + x) (xG_c2 hx h) rfl k (by omega) (by rw [e]; exact (hts _ hq)) (fun _ h9 => by rw [e] at h9 ⊢; rw [tx30 hk] at h9; exact h9) hv hdg kk
theorem c_getN {own host : String} (hexec : p.tables.exec = Jvm.exec) (hb : c.code = cc) (hts : ∀ w ∈ lw_all, w.before args s = true) (hown : s.vm.findClass own = some m.cls) (hK : va_K (dC, dI) clA (tyA ct) s) (hP : va_P (dC, dI) clA (xG ct o q (ql, qs, md, qe, n) y g a ex) H) {x : Nat} (hx : x < n) (k : Nat) {v : Value} (hk : k < 7) (hv : (chF o a x)[k]? = some v) {idx : Nat} (hq : va_Nw (Cond.fieldLinkNest own idx RX3 (TX3 k).2.1 (TX3 k).2.2.1 host) s) (hdg : decode cc pc = .ok (.getfield idx, 3))
    (kk : W p l e R s m args below meth c H locs cells slots Q (F0 m (pc + 3) ls (v :: rest))) : W p l e R s m args below meth c H locs cells slots Q (F0 m pc ls (.ref (y x) :: rest)) := by
  rcases kdN_cases (a 2 x) with h | h | h
  · exact va_getN (D := (dC, dI)) (ci := 3) (C := RX3) (T := TX3) (N := 7) hexec hb hts in_X3 hown hK hP (16 + x) (xG_c0 hx h) rfl k (by omega) (by exact (va_Nw.use rfl hq)) (fun _ h9 => by rw [tx30 hk] at h9; exact h9) hv hdg kk
  · have e := tx4 hk; exact va_getN (D := (dC, dI)) (ci := 4) (C := RX4) (T := TX4) (N := 8) hexec hb hts in_X4 hown hK hP (16 + x) (xG_c1 hx h) rfl k (by omega) (by rw [e]; exact (va_Nw.use rfl hq)) (fun _ h9 => by rw [e] at h9 ⊢; rw [tx30 hk] at h9; exact h9) hv hdg kk
  · have e := tx5 hk; exact va_getN (D := (dC, dI)) (ci := 5) (C := RX5) (T := TX5) (N := 9) hexec hb hts in_X5 hown hK hP (16 + x) (xG_c2 hx h) rfl k (by omega) (by rw [e]; exact (va_Nw.use rfl hq)) (fun _ h9 => by rw [e] at h9 ⊢; rw [tx30 hk] at h9; exact h9) hv hdg kk
theorem apX3 : apOk TX3 7 := by
  unfold apOk
  decide
theorem apX4 : apOk TX4 8 := by
  unfold apOk
  decide
theorem apX5 : apOk TX5 9 := by
  unfold apOk
  decide
theorem c_put {own : String} (hexec : p.tables.exec = Jvm.exec) (hb : c.code = cc) (hts : ∀ w ∈ lw_all, w.before args s = true) (hown : s.vm.findClass own = some m.cls) (hK : va_K (dC, dI) clA (tyA ct) s) (hP : va_P (dC, dI) clA (xG ct o q (ql, qs, md, qe, n) y g a ex) H) (hD : va_D A (xG ct o q (ql, qs, md, qe, n) y g a ex)) (hS : va_S A H0 H locs) {x : Nat} (hx : x < n) (k k1 : Nat) {v : Int32} (hk : chK k k1) {idx : Nat} (hq : Cond.fieldLink own idx RX3 (TX3 k).2.1 (TX3 k).2.2.1 ∈ lw_all) (hdg : decode cc pc = .ok (.putfield idx, 3))
    (kk : ∀ (H1 : Heap) (locs1 : List Loc), va_P (dC, dI) clA (xG ct o q (ql, qs, md, qe, n) y g (va_up a k1 (upd (a k1) x v)) ex) H1 → va_D A (xG ct o q (ql, qs, md, qe, n) y g (va_up a k1 (upd (a k1) x v)) ex) → va_S A H0 H1 locs1 → W p l e R s m args below meth c H1 locs1 cells slots Q (F0 m (pc + 3) ls rest)) : W p l e R s m args below meth c H locs cells slots Q (F0 m pc ls (.int v :: .ref (y x) :: rest)) := by
  have hk7 : k < 7 := by rcases hk with h | h | h | h | h <;> omega
  have hfin : (TX3 k).2.2.2 = false := by rcases hk with ⟨rfl, rfl⟩ | ⟨rfl, rfl⟩ | ⟨rfl, rfl⟩ | ⟨rfl, rfl⟩ | ⟨rfl, rfl⟩ <;> rfl
  have hi : parseFieldDescriptor (TX3 k).2.2.1 = some .int := by rcases hk with ⟨rfl, rfl⟩ | ⟨rfl, rfl⟩ | ⟨rfl, rfl⟩ | ⟨rfl, rfl⟩ | ⟨rfl, rfl⟩ <;> decide +kernel
  rcases kdN_cases (a 2 x) with h | h | h
  · have es := xG_set (ct := ct) (o := o) (q := q) (ql := ql) (qs := qs) (md := md) (qe := qe) (y := y) (g := g) (a := a) (ex := ex) (v := v) hk hx
    rw [h] at es
    refine v_put (D := (dC, dI)) (ci := 3) (C := RX3) (T := TX3) (N := 7) (ty := .int) (v := .int v) hexec hb hts in_X3 (ap_all hts in_X3 tyX3 tyX3_ok apX3 hK rfl) hown hK hP hD hS (16 + x) (xG_c0 hx h) rfl k (by omega) (by exact (hts _ hq)) (fun _ h9 => by rw [tx30 hk7] at h9; exact h9) (by exact hfin) (by exact hi) rfl rfl (by rw [chF_len0 h]; omega) hdg (fun H1 locs1 hP1 hD1 hS1 => ?_)
    have e9 : 3 + 0 = 3 := rfl
    rw [e9] at es
    rw [es] at hP1 hD1
    exact kk H1 locs1 hP1 hD1 hS1
  · have es := xG_set (ct := ct) (o := o) (q := q) (ql := ql) (qs := qs) (md := md) (qe := qe) (y := y) (g := g) (a := a) (ex := ex) (v := v) hk hx
    rw [h] at es
    have e := tx4 hk7
    refine v_put (D := (dC, dI)) (ci := 4) (C := RX4) (T := TX4) (N := 8) (ty := .int) (v := .int v) hexec hb hts in_X4 (ap_all hts in_X4 tyX4 tyX4_ok apX4 hK rfl) hown hK hP hD hS (16 + x) (xG_c1 hx h) rfl k (by omega) (by rw [e]; exact (hts _ hq)) (fun _ h9 => by rw [e] at h9 ⊢; rw [tx30 hk7] at h9; exact h9) (by rw [e]; exact hfin) (by rw [e]; exact hi) rfl rfl (by rw [chF_len1 h]; omega) hdg (fun H1 locs1 hP1 hD1 hS1 => ?_)
    have e9 : 3 + 1 = 4 := rfl
    rw [e9] at es
    rw [es] at hP1 hD1
    exact kk H1 locs1 hP1 hD1 hS1
  · have es := xG_set (ct := ct) (o := o) (q := q) (ql := ql) (qs := qs) (md := md) (qe := qe) (y := y) (g := g) (a := a) (ex := ex) (v := v) hk hx
    rw [h] at es
    have e := tx5 hk7
    refine v_put (D := (dC, dI)) (ci := 5) (C := RX5) (T := TX5) (N := 9) (ty := .int) (v := .int v) hexec hb hts in_X5 (ap_all hts in_X5 tyX5 tyX5_ok apX5 hK rfl) hown hK hP hD hS (16 + x) (xG_c2 hx h) rfl k (by omega) (by rw [e]; exact (hts _ hq)) (fun _ h9 => by rw [e] at h9 ⊢; rw [tx30 hk7] at h9; exact h9) (by rw [e]; exact hfin) (by rw [e]; exact hi) rfl rfl (by rw [chF_len2 h]; omega) hdg (fun H1 locs1 hP1 hD1 hS1 => ?_)
    have e9 : 3 + 2 = 5 := rfl
    rw [e9] at es
    rw [es] at hP1 hD1
    exact kk H1 locs1 hP1 hD1 hS1
theorem c_putN {own host : String} (hexec : p.tables.exec = Jvm.exec) (hb : c.code = cc) (hts : ∀ w ∈ lw_all, w.before args s = true) (hown : s.vm.findClass own = some m.cls) (hK : va_K (dC, dI) clA (tyA ct) s) (hP : va_P (dC, dI) clA (xG ct o q (ql, qs, md, qe, n) y g a ex) H) (hD : va_D A (xG ct o q (ql, qs, md, qe, n) y g a ex)) (hS : va_S A H0 H locs) {x : Nat} (hx : x < n) (k k1 : Nat) {v : Int32} (hk : chK k k1) {idx : Nat} (hq : va_Nw (Cond.fieldLinkNest own idx RX3 (TX3 k).2.1 (TX3 k).2.2.1 host) s) (hdg : decode cc pc = .ok (.putfield idx, 3))
    (kk : ∀ (H1 : Heap) (locs1 : List Loc), va_P (dC, dI) clA (xG ct o q (ql, qs, md, qe, n) y g (va_up a k1 (upd (a k1) x v)) ex) H1 → va_D A (xG ct o q (ql, qs, md, qe, n) y g (va_up a k1 (upd (a k1) x v)) ex) → va_S A H0 H1 locs1 → W p l e R s m args below meth c H1 locs1 cells slots Q (F0 m (pc + 3) ls rest)) : W p l e R s m args below meth c H locs cells slots Q (F0 m pc ls (.int v :: .ref (y x) :: rest)) := by
  have hk7 : k < 7 := by rcases hk with h | h | h | h | h <;> omega
  have hfin : (TX3 k).2.2.2 = false := by rcases hk with ⟨rfl, rfl⟩ | ⟨rfl, rfl⟩ | ⟨rfl, rfl⟩ | ⟨rfl, rfl⟩ | ⟨rfl, rfl⟩ <;> rfl
  have hi : parseFieldDescriptor (TX3 k).2.2.1 = some .int := by rcases hk with ⟨rfl, rfl⟩ | ⟨rfl, rfl⟩ | ⟨rfl, rfl⟩ | ⟨rfl, rfl⟩ | ⟨rfl, rfl⟩ <;> decide +kernel
  rcases kdN_cases (a 2 x) with h | h | h
  · have es := xG_set (ct := ct) (o := o) (q := q) (ql := ql) (qs := qs) (md := md) (qe := qe) (y := y) (g := g) (a := a) (ex := ex) (v := v) hk hx
    rw [h] at es
    refine v_putN (D := (dC, dI)) (ci := 3) (C := RX3) (T := TX3) (N := 7) (ty := .int) (v := .int v) hexec hb hts in_X3 (ap_all hts in_X3 tyX3 tyX3_ok apX3 hK rfl) hown hK hP hD hS (16 + x) (xG_c0 hx h) rfl k (by omega) (by exact (va_Nw.use rfl hq)) (fun _ h9 => by rw [tx30 hk7] at h9; exact h9) (by exact hfin) (by exact hi) rfl rfl (by rw [chF_len0 h]; omega) hdg (fun H1 locs1 hP1 hD1 hS1 => ?_)
    have e9 : 3 + 0 = 3 := rfl
    rw [e9] at es
    rw [es] at hP1 hD1
    exact kk H1 locs1 hP1 hD1 hS1
  · have es := xG_set (ct := ct) (o := o) (q := q) (ql := ql) (qs := qs) (md := md) (qe := qe) (y := y) (g := g) (a := a) (ex := ex) (v := v) hk hx
    rw [h] at es
    have e := tx4 hk7
    refine v_putN (D := (dC, dI)) (ci := 4) (C := RX4) (T := TX4) (N := 8) (ty := .int) (v := .int v) hexec hb hts in_X4 (ap_all hts in_X4 tyX4 tyX4_ok apX4 hK rfl) hown hK hP hD hS (16 + x) (xG_c1 hx h) rfl k (by omega) (by rw [e]; exact (va_Nw.use rfl hq)) (fun _ h9 => by rw [e] at h9 ⊢; rw [tx30 hk7] at h9; exact h9) (by rw [e]; exact hfin) (by rw [e]; exact hi) rfl rfl (by rw [chF_len1 h]; omega) hdg (fun H1 locs1 hP1 hD1 hS1 => ?_)
    have e9 : 3 + 1 = 4 := rfl
    rw [e9] at es
    rw [es] at hP1 hD1
    exact kk H1 locs1 hP1 hD1 hS1
  · have es := xG_set (ct := ct) (o := o) (q := q) (ql := ql) (qs := qs) (md := md) (qe := qe) (y := y) (g := g) (a := a) (ex := ex) (v := v) hk hx
    rw [h] at es
    have e := tx5 hk7
    refine v_putN (D := (dC, dI)) (ci := 5) (C := RX5) (T := TX5) (N := 9) (ty := .int) (v := .int v) hexec hb hts in_X5 (ap_all hts in_X5 tyX5 tyX5_ok apX5 hK rfl) hown hK hP hD hS (16 + x) (xG_c2 hx h) rfl k (by omega) (by rw [e]; exact (va_Nw.use rfl hq)) (fun _ h9 => by rw [e] at h9 ⊢; rw [tx30 hk7] at h9; exact h9) (by rw [e]; exact hfin) (by rw [e]; exact hi) rfl rfl (by rw [chF_len2 h]; omega) hdg (fun H1 locs1 hP1 hD1 hS1 => ?_)
    have e9 : 3 + 2 = 5 := rfl
    rw [e9] at es
    rw [es] at hP1 hD1
    exact kk H1 locs1 hP1 hD1 hS1
theorem g_ild (hexec : p.tables.exec = Jvm.exec) (hb : c.code = cc) (hK : va_K (dC, dI) clA (tyA ct) s) (hP : va_P (dC, dI) clA (xG ct o q (ql, qs, md, qe, n) y g a ex) H) {k pos nn : Nat} (hat : (xG ct o q (ql, qs, md, qe, n) y g a ex)[pos]? = some (q k, .inl (ct 0, nn, .inl (a k)))) (f : Nat → Int32) (hf : a k = f) {i : Int32} (j : Nat) (hi : i = nI j) (hj : j < nn) (hn : nn < 2 ^ 31) (hdg : decode cc pc = .ok (.iaload, 1))
    (kk : W p l e R s m args below meth c H locs cells slots Q (F0 m (pc + 1) ls (.int (f j) :: rest))) : W p l e R s m args below meth c H locs cells slots Q (F0 m pc ls (.int i :: .ref (q k) :: rest)) := by
  subst hf
  exact ar_ild hexec hb hK hP pos 0 hat rfl j hi hj hn hdg kk
theorem g_zld (hexec : p.tables.exec = Jvm.exec) (hb : c.code = cc) (hK : va_K (dC, dI) clA (tyA ct) s) (hP : va_P (dC, dI) clA (xG ct o q (ql, qs, md, qe, n) y g a ex) H) {k pos nn : Nat} (hat : (xG ct o q (ql, qs, md, qe, n) y g a ex)[pos]? = some (q k, .inl (ct 1, nn, .inl (a k)))) (f : Nat → Int32) (hf : a k = f) {i : Int32} (j : Nat) (hi : i = nI j) (hj : j < nn) (hn : nn < 2 ^ 31) (hdg : decode cc pc = .ok (.baload, 1))
    (kk : W p l e R s m args below meth c H locs cells slots Q (F0 m (pc + 1) ls (.int (f j) :: rest))) : W p l e R s m args below meth c H locs cells slots Q (F0 m pc ls (.int i :: .ref (q k) :: rest)) := by
  subst hf
  exact ar_zld hexec hb hK hP pos 1 hat rfl j hi hj hn hdg kk
theorem g_ist (hexec : p.tables.exec = Jvm.exec) (hb : c.code = cc) (hK : va_K (dC, dI) clA (tyA ct) s) (hP : va_P (dC, dI) clA (xG ct o q (ql, qs, md, qe, n) y g a ex) H) (hD : va_D A (xG ct o q (ql, qs, md, qe, n) y g a ex)) (hS : va_S A H0 H locs) {k pos nn : Nat} (hat : (xG ct o q (ql, qs, md, qe, n) y g a ex)[pos]? = some (q k, .inl (ct 0, nn, .inl (a k)))) (hset : ∀ f, (xG ct o q (ql, qs, md, qe, n) y g a ex).set pos (q k, .inl (ct 0, nn, .inl f)) = xG ct o q (ql, qs, md, qe, n) y g (va_up a k f) ex) (f : Nat → Int32) (hf : a k = f) {i x : Int32} (j : Nat) (hi : i = nI j) (hj : j < nn) (hn : nn < 2 ^ 31) (hdg : decode cc pc = .ok (.iastore, 1))
    (kk : ∀ (H1 : Heap) (locs1 : List Loc), va_P (dC, dI) clA (xG ct o q (ql, qs, md, qe, n) y g (va_up a k (upd f j x)) ex) H1 → va_D A (xG ct o q (ql, qs, md, qe, n) y g (va_up a k (upd f j x)) ex) → va_S A H0 H1 locs1 → W p l e R s m args below meth c H1 locs1 cells slots Q (F0 m (pc + 1) ls rest)) : W p l e R s m args below meth c H locs cells slots Q (F0 m pc ls (.int x :: .int i :: .ref (q k) :: rest)) := by
  subst hf
  refine ar_ist hexec hb hK hP hD hS pos 0 hat rfl j hi hj hn hdg (fun H1 l1 h1 h2 h3 => ?_)
  rw [hset] at h1 h2
  exact kk H1 l1 h1 h2 h3
theorem g_zst (hexec : p.tables.exec = Jvm.exec) (hb : c.code = cc) (hK : va_K (dC, dI) clA (tyA ct) s) (hP : va_P (dC, dI) clA (xG ct o q (ql, qs, md, qe, n) y g a ex) H) (hD : va_D A (xG ct o q (ql, qs, md, qe, n) y g a ex)) (hS : va_S A H0 H locs) {k pos nn : Nat} (hat : (xG ct o q (ql, qs, md, qe, n) y g a ex)[pos]? = some (q k, .inl (ct 1, nn, .inl (a k)))) (hset : ∀ f, (xG ct o q (ql, qs, md, qe, n) y g a ex).set pos (q k, .inl (ct 1, nn, .inl f)) = xG ct o q (ql, qs, md, qe, n) y g (va_up a k f) ex) (f : Nat → Int32) (hf : a k = f) {i x : Int32} (j : Nat) (hi : i = nI j) (hj : j < nn) (hn : nn < 2 ^ 31) (hz : vp_nar .boolean x = x) (hdg : decode cc pc = .ok (.bastore, 1))
    (kk : ∀ (H1 : Heap) (locs1 : List Loc), va_P (dC, dI) clA (xG ct o q (ql, qs, md, qe, n) y g (va_up a k (upd f j x)) ex) H1 → va_D A (xG ct o q (ql, qs, md, qe, n) y g (va_up a k (upd f j x)) ex) → va_S A H0 H1 locs1 → W p l e R s m args below meth c H1 locs1 cells slots Q (F0 m (pc + 1) ls rest)) : W p l e R s m args below meth c H locs cells slots Q (F0 m pc ls (.int x :: .int i :: .ref (q k) :: rest)) := by
  subst hf
  refine ar_zst hexec hb hK hP hD hS pos 1 hat rfl j hi hj hn hz hdg (fun H1 l1 h1 h2 h3 => ?_)
  rw [hset] at h1 h2
  exact kk H1 l1 h1 h2 h3

end GROWS
