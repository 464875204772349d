/-! WORLDS IN ANOTHER ORDER; new cells -/
theorem vD_iff {A : Nat → Prop} {ws : va_W} : va_D A ws ↔ (ws.map Prod.fst).Nodup ∧ ∀ q ∈ ws, A q.1 := by
  constructor
  · intro h
    refine ⟨?_, fun q hq => ?_⟩
    · rw [List.nodup_iff_pairwise_ne, List.pairwise_iff_getElem]
      intro i j hi hj hij e
      rw [List.length_map] at hi hj
      rw [List.getElem_map, List.getElem_map] at e
      have := h.1 i j ws[i] ws[j] (List.getElem?_eq_getElem hi) (List.getElem?_eq_getElem hj) e
      omega
    · obtain ⟨i, hi⟩ := List.getElem?_of_mem hq
      exact h.2 i q hi
  · intro h
    refine ⟨fun i j x y hx hy e => ?_, fun k q hk => h.2 q (List.mem_of_getElem? hk)⟩
    obtain ⟨hi, ex⟩ := List.getElem?_eq_some_iff.mp hx
    obtain ⟨hj, ey⟩ := List.getElem?_eq_some_iff.mp hy
    have hn := h.1
    rw [List.nodup_iff_pairwise_ne, List.pairwise_iff_getElem] at hn
    rcases Nat.lt_trichotomy i j with l | l | l
    · exact absurd (by rw [List.getElem_map, List.getElem_map, ex, ey]; exact e) (hn i j (by rw [List.length_map]; exact hi) (by rw [List.length_map]; exact hj) l)
    · exact l
    · exact absurd (by rw [List.getElem_map, List.getElem_map, ex, ey]; exact e.symm) (hn j i (by rw [List.length_map]; exact hj) (by rw [List.length_map]; exact hi) l)
theorem vP_iff {D : va_G} {cl : List vw_C} {ws : va_W} {H : Heap} : va_P D cl ws H ↔ ∀ q ∈ ws, va_at D cl q H := by
  constructor
  · intro h q hq
    obtain ⟨i, hi⟩ := List.getElem?_of_mem hq
    exact h i q hi
  · intro h k q hk
    exact h q (List.mem_of_getElem? hk)
theorem vP_perm {D : va_G} {cl : List vw_C} {ws ws' : va_W} {H : Heap} (hp : ws.Perm ws') (h : va_P D cl ws H) : va_P D cl ws' H := vP_iff.mpr (fun q hq => vP_iff.mp h q (hp.mem_iff.mpr hq))
theorem vD_perm {A : Nat → Prop} {ws ws' : va_W} (hp : ws.Perm ws') (h : va_D A ws) : va_D A ws' := by
  obtain ⟨h1, h2⟩ := vD_iff.mp h
  exact vD_iff.mpr ⟨(hp.map Prod.fst).nodup_iff.mp h1, fun q hq => h2 q (hp.mem_iff.mpr hq)⟩
/-- an array class is known by its name: the new array's class is the one that the tables gave -/
theorem ct_of {D : va_G} {cl : List vw_C} {tys : List (ClassId × FieldType)} {s : State} {cA cB : ClassId} {ty : FieldType} (hK : va_K D cl (tys ++ [(cA, ty)]) s) {t0 : Nat} (h : tys[t0]? = some (cB, ty)) (hty : ∀ C, ty ≠ .object C) : cA = cB := by
  have h1 := (hK.2 tys.length (cA, ty) (by rw [List.getElem?_append_right (Nat.le_refl _), Nat.sub_self]; rfl)).2
  have h2 := (hK.2 t0 (cB, ty) (by rw [List.getElem?_append_left (List.getElem?_eq_some_iff.mp h).1]; exact h)).2
  cases ty with
  | object C => exact absurd rfl (hty C)
  | _ => exact Option.some.inj (h1.symm.trans h2)
section MK
variable {p : Program} {l : Launch} {e : Env} {R : Room} {s : State} {m : MethodId} {args : Array Value} {below : List Frame} {meth : Method} {c : Code} {H : Heap} {locs : List Loc} {cells slots : Nat} {Q : State → Prop}
variable {cc : ByteArray} {pc : Nat} {ls : Array Slot} {rest : List Value} {D : va_G} {cl : List vw_C} {A : Nat → Prop} {tys : List (ClassId × FieldType)} {own ex : va_W} {H0 : Heap}
/-- a new array of ints, bytes, shorts or booleans: it joins the own cells -/
theorem mk_arr (hexec : p.tables.exec = Jvm.exec) (hb : c.code = cc) {atype : ArrayType} (harr : (Cond.arrayClass (newarray.typeOf atype)).before args s = true) {ty : FieldType} (hty : newarray.typeOf atype = ty) (hK : va_K D cl tys s) (hP : va_P D cl (own ++ ex) H) (hD : va_D A (own ++ ex)) (hS : va_S A H0 H locs) (hA : ∀ q, H0.size ≤ q → A q)
    {cA : ClassId} (t0 : Nat) (ht0 : tys[t0]? = some (cA, ty)) (hno : ∀ C, ty ≠ .object C) (hdf : defaultValue ty = .int 0) {n : Int32} (N : Nat) (hn : n = nI N) (hN : N ≤ 1000000) (hcb : componentBytes ty ≤ 8) (hcells : cells + 1 ≤ R.cells) (hslots : slots + N ≤ R.slots) (hdg : decode cc pc = .ok (.newarray atype, 2))
    (kk : ∀ (q : Nat) (H1 : Heap), va_P D cl ((own ++ [(q, .inl (cA, N, .inl (fun _ => 0)))]) ++ ex) H1 → va_D A ((own ++ [(q, .inl (cA, N, .inl (fun _ => 0)))]) ++ ex) → va_S A H0 H1 locs →
      W p l e R s m args below meth c H1 locs (cells + 1) (slots + N) Q (F0 m (pc + 2) ls (.ref q :: rest))) : W p l e R s m args below meth c H locs cells slots Q (F0 m pc ls (.int n :: rest)) := by
  subst hn
  refine va_newa (N' := N) (a0 := (N, .inl (fun _ => 0))) hexec hb harr hty hK hP hD hS hA (fun cA => ?_) (nI_pos (by omega)) (nI_clamp (by omega)) (Nat.le_trans (Nat.mul_le_mul hN hcb) (by omega)) hcells hslots hdg (fun q cA' H1 hK1 hP1 hD1 hS1 => ?_)
  · rw [hdf]; rfl
  · have e : cA' = cA := ct_of hK1 ht0 hno
    subst e
    exact kk q H1 (va_P.swap hP1) (va_D.swap hD1) hS1
end MK
