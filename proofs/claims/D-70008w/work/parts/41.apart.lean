/-! FIELDS OF ONE NAME in a class and its superclass: their slots are apart -/
theorem fc_name {vm : Vm} {name : String} {c : ClassId} {k : Class} (h : vm.findClass name = some c) (hk : vm.classes[c]? = some k) : k.name = name := by
  obtain ⟨hlt, hp, -⟩ := Array.findIdx?_eq_some_iff_getElem.mp h
  have e : vm.classes[c] = k := Option.some.inj ((Array.getElem?_eq_getElem hlt).symm.trans hk)
  rw [e] at hp
  simp only [Bool.and_eq_true, beq_iff_eq] at hp
  exact hp.1.1.1
theorem ff_class {s : State} {cls name desc : String} {c i : Nat} {k : Class} {f : Field} (h : s.fieldFound? cls name desc = some (c, k, i, f)) : s.vm.classes[c]? = some k := by
  simp only [State.fieldFound?, Option.bind_eq_bind, Option.bind_eq_some_iff, Option.pure_def, Option.some.injEq, Prod.mk.injEq, Prod.exists] at h
  obtain ⟨_, _, _, _, _, _, _, _, h9, _, _, rfl, rfl, rfl, rfl⟩ := h
  exact h9
theorem ap_fin {args : Array Value} {s : State} {C O f d O' f' d' : String} (h : (Cond.laysFinal C O f d).before args s = true) (h' : (Cond.laysFinal C O' f' d').before args s = true) {cf kf fi fd cf' kf' fi' fd'} (hi : s.fieldFound? O f d = some (cf, kf, fi, fd)) (hi' : s.fieldFound? O' f' d' = some (cf', kf', fi', fd')) (hne : O ≠ O') : fd.slot ≠ fd'.slot := by
  intro e
  obtain ⟨c1, k1, c1', k1', i1, f1, a1, -, a3, -, -, -, a7, -, d1, a9, a10, -⟩ := Cond.laysFinal_spec h
  obtain ⟨c2, k2, c2', k2', i2, f2, b1, -, b3, -, -, -, b7, -, d2, b9, b10, -⟩ := Cond.laysFinal_spec h'
  cases hi.symm.trans a3
  cases hi'.symm.trans b3
  cases a1.symm.trans b1
  rw [e] at a9
  cases a9.symm.trans b9
  have n1 := fc_name a7 (ff_class hi)
  have n2 := fc_name b7 (ff_class hi')
  exact hne (by rw [← n1, ← n2, ← a10, ← b10])
def apOk (T : u_T) (N : Nat) : Prop := ∀ a, a < N → ∀ b, b < N → a ≠ b → (T a).2.1 ≠ (T b).2.1 ∨ ((T a).2.2.2 = true ∧ (T b).2.2.2 = true ∧ (T a).1 ≠ (T b).1)
theorem ap_all {args : Array Value} {s : State} {D : va_G} {cl : List vw_C} {tys : List (ClassId × FieldType)} {C : String} {T : u_T} {N ci : Nat} {Ts : List Cond} (hts : ∀ w ∈ Ts, w.before args s = true) (hin : ∀ w ∈ u_ws C T N, w ∈ Ts) (ty : Nat → FieldType) (hty : ∀ k, k < N → parseFieldDescriptor (T k).2.2.1 = some (ty k)) (hnm : apOk T N) (hK : va_K D cl tys s) (hc : cl[ci]? = some (C, T, N)) : ∀ x y, x < N → y < N → x ≠ y → (D.2 ci) x ≠ (D.2 ci) y := by
  intro x y hx hy hne
  obtain ⟨hS, -⟩ := hK.1 ci _ hc
  obtain ⟨_, _, _, fa, hia, ea⟩ := hS x hx
  obtain ⟨_, _, _, fb, hib, eb⟩ := hS y hy
  rw [← ea, ← eb]
  rcases hnm x hx y hy hne with h9 | ⟨h8, h9, h10⟩
  · refine u_apart (u_lays hts hin hx) (u_lays hts hin hy) hia hib ?_
    rw [(State.fieldFound?_type hia (hty x hx)).1, (State.fieldFound?_type hib (hty y hy)).1]
    exact h9
  · have l1 := hts _ (hin _ (u_in_lay hx))
    have l2 := hts _ (hin _ (u_in_lay hy))
    unfold u_lay at l1 l2
    rw [if_pos h8] at l1
    rw [if_pos h9] at l2
    exact ap_fin l1 l2 hia hib h10
