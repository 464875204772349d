/-! CALLS by interface, by an inherited or overriding method, by super; THE LIST in any world -/
theorem lw_F {own : String} {idx : Nat} {C : String} {x y : MethodName} {b : ByteArray} {L : Nat} {r : Option FieldType} (h1 : Cond.methodLink own idx x ∈ lw_all) (h2 : Cond.selects C x y ∈ lw_all) (h3 : Cond.instanceMethod y ∈ lw_all) (h4 : Cond.initialized y.cls ∈ lw_all) (h5 : Cond.code y b L r ∈ lw_all) : GoodIn lw_all (va_wsF own idx C x y (ws_ y b L r)) := by
  refine lw_app ?_ (lw_meth h5)
  intro w hw
  simp only [List.mem_cons, List.not_mem_nil, or_false] at hw
  rcases hw with rfl | rfl | rfl | rfl <;> assumption
theorem lw_U {own : String} {idx : Nat} {C owner : String} {x y : MethodName} {b : ByteArray} {L : Nat} {r : Option FieldType} (h1 : Cond.methodLink own idx x ∈ lw_all) (h6 : Cond.sameMethod x.cls owner x.name x.desc ∈ lw_all) (h2 : Cond.selects C x y ∈ lw_all) (h3 : Cond.instanceMethod y ∈ lw_all) (h4 : Cond.initialized y.cls ∈ lw_all) (h5 : Cond.code y b L r ∈ lw_all) : GoodIn lw_all (va_wsU own idx C owner x y (ws_ y b L r)) := by
  refine lw_app ?_ (lw_meth h5)
  intro w hw
  simp only [List.mem_cons, List.not_mem_nil, or_false] at hw
  rcases hw with rfl | rfl | rfl | rfl | rfl <;> assumption
theorem lw_O {own : String} {idx : Nat} {C owner : String} {x y : MethodName} {b : ByteArray} {L : Nat} {r : Option FieldType} (h1 : Cond.methodLink own idx x ∈ lw_all) (h6 : Cond.sameMethod x.cls owner x.name x.desc ∈ lw_all) (h7 : Cond.instanceMethod ⟨owner, x.name, x.desc⟩ ∈ lw_all) (h2 : Cond.selects C x y ∈ lw_all) (h3 : Cond.instanceMethod y ∈ lw_all) (h4 : Cond.initialized y.cls ∈ lw_all) (h5 : Cond.code y b L r ∈ lw_all) : GoodIn lw_all (va_wsO own idx C owner x y (ws_ y b L r)) := by
  refine lw_app ?_ (lw_meth h5)
  intro w hw
  simp only [List.mem_cons, List.not_mem_nil, or_false] at hw
  rcases hw with rfl | rfl | rfl | rfl | rfl | rfl <;> assumption
theorem lw_SU {own : String} {idx : Nat} {y : MethodName} {b : ByteArray} {L : Nat} {r : Option FieldType} (h1 : Cond.methodLink own idx y ∈ lw_all) (h6 : Cond.sameMethod y.cls y.cls y.name y.desc ∈ lw_all) (h2 : Cond.superclass own y.cls ∈ lw_all) (h3 : Cond.instanceMethod y ∈ lw_all) (h4 : Cond.initialized y.cls ∈ lw_all) (h5 : Cond.code y b L r ∈ lw_all) : GoodIn lw_all (va_wsSU own idx y (ws_ y b L r)) := by
  refine lw_app ?_ (lw_meth h5)
  intro w hw
  simp only [List.mem_cons, List.not_mem_nil, or_false] at hw
  rcases hw with rfl | rfl | rfl | rfl | rfl <;> assumption
/-- a list's cell: modCount, elementData, size -/
abbrev liE (ql : Nat) (md : Int32) (qe n : Nat) : Nat × va_E := (ql, .inr (1, [.int md, .ref qe, .int (nI n)]))
abbrev jPre (dC : Nat → ClassId) (dI : Nat → Nat → Nat) (ct : Nat → ClassId) (ws : va_W) (av : List Value) : Array Value → State → Prop := va_Pc av (fun U => va_P (dC, dI) clA ws U.heap ∧ va_K (dC, dI) clA (tyA ct) U)
theorem jPV {dC : Nat → ClassId} {dI : Nat → Nat → Nat} {ct : Nat → ClassId} {ws : va_W} {ql qe n k : Nat} {md : Int32} {s : State} {H : Heap} (hK : va_K (dC, dI) clA (tyA ct) s) (hP : va_P (dC, dI) clA ws H) (hk : ws[k]? = some (liE ql md qe n)) (As : List Value) : PreV s H RJ2 ql (jPre dC dI ct ws (.ref ql :: As)) As :=
  ⟨fun x U k mk z => ⟨z.1, z.2.1, va_K.moved (u := U) (U := U.calling k mk x) (Vm.Alike.refl U.vm) z.2.2⟩, va_recv hK hP (ci := 1) (q0 := k) rfl hk, fun U hU hW => ⟨rfl, by rw [hU]; exact hP, va_K.moved hW.alike hK⟩⟩
theorem jAt {dC : Nat → ClassId} {dI : Nat → Nat → Nat} {ct : Nat → ClassId} {s : State} (hK : va_K (dC, dI) clA (tyA ct) s) : ClassAt s RJ2 (dC 1) := (hK.1 1 _ rfl).2
section JROWS
variable {p : Program} {l : Launch} {e : Env} {R : Room} {s : State} {m : MethodId} {args : Array Value} {below : List Frame} {meth : Method} {c : Code} {H : Heap} {locs : List Loc} {cells slots : Nat} {Q : State → Prop}
variable {cc : ByteArray} {pc : Nat} {ls : Array Slot} {rest : List Value} {dC : Nat → ClassId} {dI : Nat → Nat → Nat} {ct : Nat → ClassId} {A : Nat → Prop} {ws : va_W} {ql qe n : Nat} {md : Int32} {H0 : Heap}
theorem j_get (hexec : p.tables.exec = Jvm.exec) (hb : c.code = cc) (hts : ∀ w ∈ lw_all, w.before args s = true) (hown : s.vm.findClass RJ2 = some m.cls) (hK : va_K (dC, dI) clA (tyA ct) s) (hP : va_P (dC, dI) clA ws H) {k : Nat} (hk : ws[k]? = some (liE ql md qe n)) (i : Nat) {v : Value} (hi : i < 3) (hv : [Value.int md, .ref qe, .int (nI n)][i]? = some v) {idx : Nat} (hq : Cond.fieldLink RJ2 idx RJ2 (TJ2 i).2.1 (TJ2 i).2.2.1 ∈ lw_all) (hdg : decode cc pc = .ok (.getfield idx, 3))
    (kk : W p l e R s m args below meth c H locs cells slots Q (F0 m (pc + 3) ls (v :: rest))) : W p l e R s m args below meth c H locs cells slots Q (F0 m pc ls (.ref ql :: rest)) :=
  va_get (D := (dC, dI)) (ci := 1) (C := RJ2) (T := TJ2) (N := 3) hexec hb hts in_J2 hown hK hP k hk rfl i hi (hts _ hq) (fun x h9 => by
    match i, hi with
    | 0, _ => exact u_same (hts _ q120) x h9
    | 1, _ => exact h9
    | 2, _ => exact h9) hv hdg kk
theorem j_put (hexec : p.tables.exec = Jvm.exec) (hb : c.code = cc) (hts : ∀ w ∈ lw_all, w.before args s = true) (hown : s.vm.findClass RJ2 = some m.cls) (hK : va_K (dC, dI) clA (tyA ct) s) (hP : va_P (dC, dI) clA ws H) (hD : va_D A ws) (hS : va_S A H0 H locs) {k : Nat} (hk : ws[k]? = some (liE ql md qe n)) (i : Nat) {v : Value} {ty : FieldType} (hi : i < 3) {idx : Nat} (hq : Cond.fieldLink RJ2 idx RJ2 (TJ2 i).2.1 (TJ2 i).2.2.1 ∈ lw_all) (hd : parseFieldDescriptor (TJ2 i).2.2.1 = some ty) (hn : narrow ty v = v) (hfit : fits ty v = true) (hdg : decode cc pc = .ok (.putfield idx, 3)) {ws1 : va_W} (hw1 : ws.set k (ql, .inr (1, [Value.int md, .ref qe, .int (nI n)].set i v)) = ws1)
    (kk : ∀ (H1 : Heap) (locs1 : List Loc), va_P (dC, dI) clA ws1 H1 → va_D A ws1 → va_S A H0 H1 locs1 → W p l e R s m args below meth c H1 locs1 cells slots Q (F0 m (pc + 3) ls rest)) : W p l e R s m args below meth c H locs cells slots Q (F0 m pc ls (v :: .ref ql :: rest)) := by
  subst hw1
  refine va_put (D := (dC, dI)) (ci := 1) (v := v) (ty := ty) (C := RJ2) (T := TJ2) (N := 3) hexec hb hts in_J2 tyJ2 tyJ2_ok nmJ2 hown hK hP hD hS k hk rfl i hi (hts _ hq) (fun x h9 => ?_) ?_ hd hn hfit hi hdg kk
  · match i, hi with
    | 0, _ => exact u_same (hts _ q120) x h9
    | 1, _ => exact h9
    | 2, _ => exact h9
  · match i, hi with
    | 0, _ => rfl
    | 1, _ => rfl
    | 2, _ => rfl
end JROWS
