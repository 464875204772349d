/-! OWN ROWS: booleans as 0/1, compares of longs, arrays at a Nat place -/
def b2i (b : Bool) : Int32 := if b = true then 1 else 0
theorem b2i_eq0 {b : Bool} (h : b2i b = 0) : b = false := by cases b with | false => rfl | true => exact absurd h (by decide)
theorem b2i_ne0 {b : Bool} (h : ¬ b2i b = 0) : b = true := by cases b with | true => rfl | false => exact absurd rfl h
theorem b2i_t : b2i true = 1 := rfl
theorem b2i_f : b2i false = 0 := rfl
theorem b2i_inj {b d : Bool} : b2i b = b2i d ↔ b = d := by cases b <;> cases d <;> decide
theorem nar_b2i (b : Bool) : narrow .boolean (.int (b2i b)) = .int (b2i b) := by cases b <;> rfl
theorem narZ_b2i (b : Bool) : vp_nar .boolean (b2i b) = b2i b := by cases b <;> rfl
def lin (v lo hi : Int64) : Bool := decide (lo ≤ v) && decide (v ≤ hi)
def inP (p : Int32) (n : Nat) : Bool := decide (0 ≤ p.toInt) && decide (p.toInt < (n : Int))
def bq (x k : Int32) : Bool := decide ((x >>> (k &&& 31)) &&& 1 = 1)
def cix (x : Int32) : Nat := x.toNatClampNeg
theorem cix_nI {n : Nat} (h : n < 2 ^ 31) : cix (nI n) = n := nI_clamp h
theorem inP_nI {i n : Nat} (hi : i < 2 ^ 31) : inP (nI i) n = decide (i < n) := by
  unfold inP
  rw [nI_toInt hi]
  have h0 : (0 : Int) ≤ (i : Int) := by omega
  by_cases h : i < n
  · have h1 : (i : Int) < (n : Int) := by omega
    simp [h, h1]
  · have h1 : ¬ (i : Int) < (n : Int) := by omega
    simp [h]
theorem inP_of {x : Int32} {n : Nat} (hn : n < 2 ^ 31) (h : inP x n = true) : ∃ j : Nat, j < n ∧ x = nI j := by
  unfold inP at h
  simp only [Bool.and_eq_true, decide_eq_true_eq] at h
  exact vp_in_of (vp_in_iff.mpr h) hn
theorem inP_not {x : Int32} {n : Nat} (h : inP x n = false) : ∀ j : Nat, j < n → n < 2 ^ 31 → x ≠ nI j := by
  intro j hj hn e
  rw [e, inP_nI (by omega), decide_eq_false_iff_not] at h
  exact h hj
theorem inP_0 (x : Int32) : inP x 0 = false := by
  unfold inP
  by_cases h : (0 : Int) ≤ x.toInt
  · have : ¬ x.toInt < (0 : Int) := by omega
    simp
  · simp [h]
theorem lin_inP (x : Int32) (hi : Int64) (n : Nat) (h : hi.toInt = (n : Int) - 1) : lin x.toInt64 0 hi = inP x n := by
  unfold lin inP
  have e1 : (0 ≤ x.toInt64) ↔ 0 ≤ x.toInt := by
    rw [Int64.le_iff_toInt_le, Int32.toInt_toInt64]
    exact Iff.rfl
  have e2 : (x.toInt64 ≤ hi) ↔ x.toInt < (n : Int) := by
    rw [Int64.le_iff_toInt_le, Int32.toInt_toInt64, h]
    omega
  simp only [e1, e2]
theorem lin_people (x : Int32) {n : Nat} (hn : n ≤ 60) : lin x.toInt64 0 ((nI n).toInt64 - 1) = inP x n := by
  refine lin_inP x _ n ?_
  have h : ∀ k, k < 61 → ((nI k).toInt64 - 1).toInt = (k : Int) - 1 := by decide +kernel
  exact h n (by omega)
section BZ
variable {p : Program} {l : Launch} {e : Env} {R : Room} {s : State} {m : MethodId} {args : Array Value} {below : List Frame} {meth : Method} {c : Code} {H : Heap} {locs : List Loc} {cells slots : Nat} {Q : State → Prop}
variable {cc : ByteArray} {pc : Nat} {ls : Array Slot} {rest : List Value}
theorem bz_eq (hexec : p.tables.exec = Jvm.exec) (hb : c.code = cc) {b : Bool} {off : Int} {tgt : Nat} (hdg : decode cc pc = .ok (.ifCond .eq off, 3)) (ht : (pc : Int) + off = (tgt : Int))
    (kt : b = false → W p l e R s m args below meth c H locs cells slots Q (F0 m tgt ls rest)) (kf : b = true → W p l e R s m args below meth c H locs cells slots Q (F0 m (pc + 3) ls rest)) : W p l e R s m args below meth c H locs cells slots Q (F0 m pc ls (.int (b2i b) :: rest)) :=
  lv_if_eq hexec hb hdg ht (fun h => kt (b2i_eq0 h)) (fun h => kf (b2i_ne0 h))
theorem bz_ne (hexec : p.tables.exec = Jvm.exec) (hb : c.code = cc) {b : Bool} {off : Int} {tgt : Nat} (hdg : decode cc pc = .ok (.ifCond .ne off, 3)) (ht : (pc : Int) + off = (tgt : Int))
    (kt : b = true → W p l e R s m args below meth c H locs cells slots Q (F0 m tgt ls rest)) (kf : b = false → W p l e R s m args below meth c H locs cells slots Q (F0 m (pc + 3) ls rest)) : W p l e R s m args below meth c H locs cells slots Q (F0 m pc ls (.int (b2i b) :: rest)) :=
  lv_if_ne hexec hb hdg ht (fun h => kt (b2i_ne0 h)) (fun h => kf (b2i_eq0 h))
theorem lc_lt (hexec : p.tables.exec = Jvm.exec) (hb : c.code = cc) {x y : Int64} {off : Int} {tgt : Nat} (hdg : decode cc pc = .ok (.ifCond .lt off, 3)) (ht : (pc : Int) + off = (tgt : Int))
    (kt : x < y → W p l e R s m args below meth c H locs cells slots Q (F0 m tgt ls rest)) (kf : ¬ x < y → W p l e R s m args below meth c H locs cells slots Q (F0 m (pc + 3) ls rest)) : W p l e R s m args below meth c H locs cells slots Q (F0 m pc ls (.int (lg_cmp x y) :: rest)) :=
  lv_if_lt hexec hb hdg ht (fun h => kt ((lg_cmp_lt x y).mp h)) (fun h => kf (fun z => h ((lg_cmp_lt x y).mpr z)))
theorem lc_gt (hexec : p.tables.exec = Jvm.exec) (hb : c.code = cc) {x y : Int64} {off : Int} {tgt : Nat} (hdg : decode cc pc = .ok (.ifCond .gt off, 3)) (ht : (pc : Int) + off = (tgt : Int))
    (kt : y < x → W p l e R s m args below meth c H locs cells slots Q (F0 m tgt ls rest)) (kf : ¬ y < x → W p l e R s m args below meth c H locs cells slots Q (F0 m (pc + 3) ls rest)) : W p l e R s m args below meth c H locs cells slots Q (F0 m pc ls (.int (lg_cmp x y) :: rest)) :=
  lv_if_gt hexec hb hdg ht (fun h => kt ((lg_cmp_gt x y).mp h)) (fun h => kf (fun z => h ((lg_cmp_gt x y).mpr z)))
theorem lc_ge (hexec : p.tables.exec = Jvm.exec) (hb : c.code = cc) {x y : Int64} {off : Int} {tgt : Nat} (hdg : decode cc pc = .ok (.ifCond .ge off, 3)) (ht : (pc : Int) + off = (tgt : Int))
    (kt : y ≤ x → W p l e R s m args below meth c H locs cells slots Q (F0 m tgt ls rest)) (kf : ¬ y ≤ x → W p l e R s m args below meth c H locs cells slots Q (F0 m (pc + 3) ls rest)) : W p l e R s m args below meth c H locs cells slots Q (F0 m pc ls (.int (lg_cmp x y) :: rest)) :=
  lv_if_ge hexec hb hdg ht (fun h => kt ((lg_cmp_ge x y).mp h)) (fun h => kf (fun z => h ((lg_cmp_ge x y).mpr z)))
theorem lc_le (hexec : p.tables.exec = Jvm.exec) (hb : c.code = cc) {x y : Int64} {off : Int} {tgt : Nat} (hdg : decode cc pc = .ok (.ifCond .le off, 3)) (ht : (pc : Int) + off = (tgt : Int))
    (kt : x ≤ y → W p l e R s m args below meth c H locs cells slots Q (F0 m tgt ls rest)) (kf : ¬ x ≤ y → W p l e R s m args below meth c H locs cells slots Q (F0 m (pc + 3) ls rest)) : W p l e R s m args below meth c H locs cells slots Q (F0 m pc ls (.int (lg_cmp x y) :: rest)) :=
  lv_if_le hexec hb hdg ht (fun h => kt ((lg_cmp_le x y).mp h)) (fun h => kf (fun z => h ((lg_cmp_le x y).mpr z)))
theorem lc_eq (hexec : p.tables.exec = Jvm.exec) (hb : c.code = cc) {x y : Int64} {off : Int} {tgt : Nat} (hdg : decode cc pc = .ok (.ifCond .eq off, 3)) (ht : (pc : Int) + off = (tgt : Int))
    (kt : x = y → W p l e R s m args below meth c H locs cells slots Q (F0 m tgt ls rest)) (kf : ¬ x = y → W p l e R s m args below meth c H locs cells slots Q (F0 m (pc + 3) ls rest)) : W p l e R s m args below meth c H locs cells slots Q (F0 m pc ls (.int (lg_cmp x y) :: rest)) :=
  lv_if_eq hexec hb hdg ht (fun h => kt ((lg_cmp_eq x y).mp h)) (fun h => kf (fun z => h ((lg_cmp_eq x y).mpr z)))
variable {D : va_G} {cl : List vw_C} {A : Nat → Prop} {a : Nat} {tys : List (ClassId × FieldType)} {ws : va_W} {H0 : Heap}
theorem ar_ild (hexec : p.tables.exec = Jvm.exec) (hb : c.code = cc) (hK : va_K D cl tys s) (hP : va_P D cl ws H) (q0 t0 : Nat) {cA : ClassId} {n : Nat} {f : Nat → Int32} (ha : ws[q0]? = some (a, .inl (cA, n, .inl f))) (ht : tys[t0]? = some (cA, .int)) {i : Int32} (j : Nat) (hi : i = nI j) (hj : j < n) (hn : n < 2 ^ 31) (hdg : decode cc pc = .ok (.iaload, 1))
    (kk : W p l e R s m args below meth c H locs cells slots Q (F0 m (pc + 1) ls (.int (f j) :: rest))) : W p l e R s m args below meth c H locs cells slots Q (F0 m pc ls (.int i :: .ref a :: rest)) := by
  subst hi
  refine va_iald hexec hb hK hP q0 t0 ha ht (vp_in_nI hj hn) hdg ?_
  rw [nI_clamp (by omega)]
  exact kk
theorem ar_zld (hexec : p.tables.exec = Jvm.exec) (hb : c.code = cc) (hK : va_K D cl tys s) (hP : va_P D cl ws H) (q0 t0 : Nat) {cA : ClassId} {n : Nat} {f : Nat → Int32} (ha : ws[q0]? = some (a, .inl (cA, n, .inl f))) (ht : tys[t0]? = some (cA, .boolean)) {i : Int32} (j : Nat) (hi : i = nI j) (hj : j < n) (hn : n < 2 ^ 31) (hdg : decode cc pc = .ok (.baload, 1))
    (kk : W p l e R s m args below meth c H locs cells slots Q (F0 m (pc + 1) ls (.int (f j) :: rest))) : W p l e R s m args below meth c H locs cells slots Q (F0 m pc ls (.int i :: .ref a :: rest)) := by
  subst hi
  refine va_zald hexec hb hK hP q0 t0 ha ht (vp_in_nI hj hn) hdg ?_
  rw [nI_clamp (by omega)]
  exact kk
theorem ar_bld (hexec : p.tables.exec = Jvm.exec) (hb : c.code = cc) (hK : va_K D cl tys s) (hP : va_P D cl ws H) (q0 t0 : Nat) {cA : ClassId} {n : Nat} {f : Nat → Int32} (ha : ws[q0]? = some (a, .inl (cA, n, .inl f))) (ht : tys[t0]? = some (cA, .byte)) {i : Int32} (j : Nat) (hi : i = nI j) (hj : j < n) (hn : n < 2 ^ 31) (hdg : decode cc pc = .ok (.baload, 1))
    (kk : W p l e R s m args below meth c H locs cells slots Q (F0 m (pc + 1) ls (.int (f j) :: rest))) : W p l e R s m args below meth c H locs cells slots Q (F0 m pc ls (.int i :: .ref a :: rest)) := by
  subst hi
  refine va_bald hexec hb hK hP q0 t0 ha ht (vp_in_nI hj hn) hdg ?_
  rw [nI_clamp (by omega)]
  exact kk
theorem ar_sld (hexec : p.tables.exec = Jvm.exec) (hb : c.code = cc) (hK : va_K D cl tys s) (hP : va_P D cl ws H) (q0 t0 : Nat) {cA : ClassId} {n : Nat} {f : Nat → Int32} (ha : ws[q0]? = some (a, .inl (cA, n, .inl f))) (ht : tys[t0]? = some (cA, .short)) {i : Int32} (j : Nat) (hi : i = nI j) (hj : j < n) (hn : n < 2 ^ 31) (hdg : decode cc pc = .ok (.saload, 1))
    (kk : W p l e R s m args below meth c H locs cells slots Q (F0 m (pc + 1) ls (.int (f j) :: rest))) : W p l e R s m args below meth c H locs cells slots Q (F0 m pc ls (.int i :: .ref a :: rest)) := by
  subst hi
  refine va_sald hexec hb hK hP q0 t0 ha ht (vp_in_nI hj hn) hdg ?_
  rw [nI_clamp (by omega)]
  exact kk
theorem ar_ist (hexec : p.tables.exec = Jvm.exec) (hb : c.code = cc) (hK : va_K D cl tys s) (hP : va_P D cl ws H) (hD : va_D A ws) (hS : va_S A H0 H locs) (q0 t0 : Nat) {cA : ClassId} {n : Nat} {f : Nat → Int32} (ha : ws[q0]? = some (a, .inl (cA, n, .inl f))) (ht : tys[t0]? = some (cA, .int)) {i x : Int32} (j : Nat) (hi : i = nI j) (hj : j < n) (hn : n < 2 ^ 31) (hdg : decode cc pc = .ok (.iastore, 1))
    (kk : ∀ (H1 : Heap) (locs1 : List Loc), va_P D cl (ws.set q0 (a, .inl (cA, n, .inl (upd f j x)))) H1 → va_D A (ws.set q0 (a, .inl (cA, n, .inl (upd f j x)))) → va_S A H0 H1 locs1 → W p l e R s m args below meth c H1 locs1 cells slots Q (F0 m (pc + 1) ls rest)) : W p l e R s m args below meth c H locs cells slots Q (F0 m pc ls (.int x :: .int i :: .ref a :: rest)) := by
  subst hi
  refine va_iast hexec hb hK hP hD hS q0 t0 ha ht (vp_in_nI hj hn) hdg ?_
  rw [nI_clamp (by omega)]
  exact kk
theorem ar_zst (hexec : p.tables.exec = Jvm.exec) (hb : c.code = cc) (hK : va_K D cl tys s) (hP : va_P D cl ws H) (hD : va_D A ws) (hS : va_S A H0 H locs) (q0 t0 : Nat) {cA : ClassId} {n : Nat} {f : Nat → Int32} (ha : ws[q0]? = some (a, .inl (cA, n, .inl f))) (ht : tys[t0]? = some (cA, .boolean)) {i x : Int32} (j : Nat) (hi : i = nI j) (hj : j < n) (hn : n < 2 ^ 31) (hz : vp_nar .boolean x = x) (hdg : decode cc pc = .ok (.bastore, 1))
    (kk : ∀ (H1 : Heap) (locs1 : List Loc), va_P D cl (ws.set q0 (a, .inl (cA, n, .inl (upd f j x)))) H1 → va_D A (ws.set q0 (a, .inl (cA, n, .inl (upd f j x)))) → va_S A H0 H1 locs1 → W p l e R s m args below meth c H1 locs1 cells slots Q (F0 m (pc + 1) ls rest)) : W p l e R s m args below meth c H locs cells slots Q (F0 m pc ls (.int x :: .int i :: .ref a :: rest)) := by
  subst hi
  refine va_zast hexec hb hK hP hD hS q0 t0 ha ht (vp_in_nI hj hn) hdg ?_
  rw [nI_clamp (by omega), hz]
  exact kk
end BZ
