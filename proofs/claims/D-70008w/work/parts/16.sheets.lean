/-! SHEETS, plainly -/
def szOk (f : Nat → Int32) : Prop := ∀ k, k < 4 → (f k).toInt ≤ 60
def barV (sz ln lane i : Int32) (n : Int64) : Int32 := if 0 ≤ sz ∧ ¬ ln = lane then 2 else if sz < 0 then 1 else if n < 0 then 4 else if isBey i n sz = true then 3 else 0
def allP (n : Nat) (f : Nat → Int32) : Nat → Bool
  | 0 => true
  | t + 1 => allP n f t && inP (f t) n
def nocV (sz i : Int32) : Int32 := if sz < 0 then 1 else if inP i (cix sz) = true then 0 else 3
def zeroF (b n : Nat) (f : Nat → Int32) : Nat → Int32 := fun j => if b ≤ j ∧ j < b + n then 0 else f j
theorem zeroF_0 (b : Nat) (f : Nat → Int32) : zeroF b 0 f = f := by
  funext j
  have h : ¬ (b ≤ j ∧ j < b + 0) := by omega
  simp only [zeroF, if_neg h]
theorem zeroF_s (b n : Nat) (f : Nat → Int32) : upd (zeroF b n f) (b + n) 0 = zeroF b (n + 1) f := by
  funext j
  simp only [upd, zeroF]
  by_cases h1 : j = b + n
  · subst h1; simp
  · by_cases h2 : b ≤ j ∧ j < b + n
    · have h3 : b ≤ j ∧ j < b + (n + 1) := by omega
      simp [h1, h2, h3]
    · have h3 : ¬ (b ≤ j ∧ j < b + (n + 1)) := by omega
      simp [h1, h2, h3]
def narL (ln v : Int32) : Int32 := if ln = 0 then v.toInt8.toInt32 else if ln = 1 then v.toInt16.toInt32 else v
theorem neg_iff {x : Int32} : x < 0 ↔ x.toInt < 0 := by rw [Int32.lt_iff_toInt_lt]; rfl
theorem nneg_iff {x : Int32} : 0 ≤ x ↔ 0 ≤ x.toInt := by rw [Int32.le_iff_toInt_le]; rfl
theorem not_neg {x : Int32} (h : 0 ≤ x) : ¬ x < 0 := by rw [neg_iff]; rw [nneg_iff] at h; omega
theorem neg_of {x : Int32} (h : ¬ 0 ≤ x) : x < 0 := by rw [neg_iff]; rw [nneg_iff] at h; omega
theorem nI_of0 {x : Int32} (h : 0 ≤ x) : x = nI (cix x) ∧ cix x < 2 ^ 31 := by
  obtain ⟨j, hj, e⟩ := nI_of (not_neg h)
  rw [e, cix_nI hj]
  exact ⟨rfl, hj⟩
theorem cix_toInt {x : Int32} (h : 0 ≤ x) : (cix x : Int) = x.toInt := by
  obtain ⟨e, hl⟩ := nI_of0 h
  generalize cix x = j at e hl
  rw [e, nI_toInt hl]
/-- what is not beyond: a run of places within the size -/
theorem isBey_f {i : Int32} {n : Int64} {sz : Int32} (h : isBey i n sz = false) (hn : n.toInt ≤ 2 ^ 40) : 0 ≤ i ∧ ¬ n < 0 ∧ (cix i : Int) + n.toInt ≤ sz.toInt := by
  unfold isBey at h
  simp only [Bool.or_eq_false_iff, decide_eq_false_iff_not] at h
  obtain ⟨h1, h2, h3⟩ := h
  have h0 : 0 ≤ i := by rw [nneg_iff]; rw [neg_iff] at h1; omega
  refine ⟨h0, h2, ?_⟩
  rw [Int64.lt_iff_toInt_lt] at h2 h3
  have hb := i.toInt_lt
  have e : (i.toInt64 + n).toInt = i.toInt + n.toInt := by
    rw [Int64.toInt_add, Int32.toInt_toInt64]
    rw [nneg_iff] at h0
    have h20 : (0 : Int64).toInt = 0 := rfl
    rw [h20] at h2
    apply Int.bmod_eq_of_le <;> omega
  rw [e, Int32.toInt_toInt64] at h3
  rw [cix_toInt h0]
  omega
theorem isBey_t {i : Int32} {n : Int64} {sz : Int32} (h0 : 0 ≤ i) (hn0 : ¬ n < 0) (hn : n.toInt ≤ 2 ^ 40) (h : (cix i : Int) + n.toInt ≤ sz.toInt) : isBey i n sz = false := by
  unfold isBey
  simp only [Bool.or_eq_false_iff, decide_eq_false_iff_not]
  refine ⟨not_neg h0, hn0, ?_⟩
  rw [Int64.lt_iff_toInt_lt] at hn0 ⊢
  have hb := i.toInt_lt
  have e : (i.toInt64 + n).toInt = i.toInt + n.toInt := by
    rw [Int64.toInt_add, Int32.toInt_toInt64]
    rw [nneg_iff] at h0
    have h20 : (0 : Int64).toInt = 0 := rfl
    rw [h20] at hn0
    apply Int.bmod_eq_of_le <;> omega
  rw [e, Int32.toInt_toInt64]
  rw [cix_toInt h0] at h
  omega
/-- the cells may be taken: where they lie -/
theorem barV_0 {sz ln lane i : Int32} {n : Int64} (h : barV sz ln lane i n = 0) (hn : n.toInt ≤ 2 ^ 40) : 0 ≤ sz ∧ ln = lane ∧ 0 ≤ i ∧ ¬ n < 0 ∧ (cix i : Int) + n.toInt ≤ sz.toInt := by
  unfold barV at h
  by_cases h1 : 0 ≤ sz ∧ ¬ ln = lane
  · rw [if_pos h1] at h; exact absurd h (by decide)
  · rw [if_neg h1] at h
    by_cases h2 : sz < 0
    · rw [if_pos h2] at h; exact absurd h (by decide)
    · rw [if_neg h2] at h
      by_cases h3 : n < 0
      · rw [if_pos h3] at h; exact absurd h (by decide)
      · rw [if_neg h3] at h
        by_cases h4 : isBey i n sz = true
        · rw [if_pos h4] at h; exact absurd h (by decide)
        · have h5 : 0 ≤ sz := by rw [nneg_iff]; rw [neg_iff] at h2; omega
          obtain ⟨a1, a2, a3⟩ := isBey_f (Bool.not_eq_true _ ▸ h4) hn
          exact ⟨h5, Decidable.of_not_not (fun z => h1 ⟨h5, z⟩), a1, a2, a3⟩
theorem barV_le (sz ln lane i : Int32) (n : Int64) : barV sz ln lane i n = 0 ∨ barV sz ln lane i n = 1 ∨ barV sz ln lane i n = 2 ∨ barV sz ln lane i n = 3 ∨ barV sz ln lane i n = 4 := by
  unfold barV
  split
  · simp
  · split
    · simp
    · split
      · simp
      · split <;> simp
theorem barN {x : Int32} (h : x = 0 ∨ x = 1 ∨ x = 2 ∨ x = 3 ∨ x = 4) : (0 ≤ (if x = 0 then 0 else (-10) - x)) ↔ x = 0 := by
  rcases h with h | h | h | h | h <;> subst h <;> decide
theorem ix_60 (k i : Nat) : 60 * nI k + nI i = nI (60 * k + i) := by
  rw [show (60 : Int32) = nI 60 from rfl, pk_mul, nI_add]
theorem ix_60t (k i t : Nat) : 60 * nI k + nI i + nI t = nI (60 * k + i + t) := by
  rw [ix_60, nI_add]
theorem mul2L {N : Nat} (h : N ≤ 1000) : (2 * (nI N).toInt64).toInt = 2 * (N : Int) := by
  rw [nI_l (by omega), show (2 : Int64) = lN 2 from rfl, lN_mul, lN_toInt (by omega)]
  omega
theorem mul2L' {N : Nat} (h : N ≤ 1000) : 2 * (nI N).toInt64 = lN (2 * N) := by
  rw [nI_l (by omega), show (2 : Int64) = lN 2 from rfl, lN_mul]
theorem nI_mul2 (N : Nat) : 2 * nI N = nI (2 * N) := by rw [show (2 : Int32) = nI 2 from rfl, pk_mul]
theorem allP_congr {n : Nat} {f k : Nat → Int32} : ∀ {N : Nat}, (∀ t, t < N → f t = k t) → allP n f N = allP n k N
  | 0, _ => rfl
  | N + 1, h => by
    show (allP n f N && _) = (allP n k N && _)
    rw [allP_congr (fun t ht => h t (by omega)), h N (by omega)]
theorem allP_at {n : Nat} {f : Nat → Int32} : ∀ {N : Nat}, allP n f N = true → ∀ t, t < N → inP (f t) n = true
  | 0, _, t, ht => absurd ht (Nat.not_lt_zero t)
  | N + 1, h, t, ht => by
    have h' : (allP n f N && inP (f N) n) = true := h
    rw [Bool.and_eq_true] at h'
    by_cases e : t = N
    · rw [e]; exact h'.2
    · exact allP_at h'.1 t (by omega)
theorem allP_not {n : Nat} {f : Nat → Int32} {t : Nat} (h : inP (f t) n = false) : ∀ {N : Nat}, t < N → allP n f N = false
  | 0, ht => absurd ht (Nat.not_lt_zero t)
  | N + 1, ht => by
    show (allP n f N && inP (f N) n) = false
    by_cases e : t = N
    · rw [← e, h, Bool.and_false]
    · rw [allP_not h (by omega), Bool.false_and]
theorem inP_e {x : Int32} {n : Nat} (hn : n < 2 ^ 31) (h : inP x n = true) : x = nI (cix x) ∧ cix x < n := by
  obtain ⟨j, hj, e⟩ := inP_of hn h
  rw [e, cix_nI (by omega)]
  exact ⟨rfl, hj⟩
theorem lin_size (i sz : Int32) (h : 0 ≤ sz) : lin i.toInt64 0 (sz.toInt64 - 1) = inP i (cix sz) := by
  refine lin_inP i _ _ ?_
  rw [cix_toInt h, Int64.toInt_sub, Int32.toInt_toInt64, show (1 : Int64).toInt = 1 from rfl]
  rw [nneg_iff] at h
  have hb := sz.toInt_lt
  apply Int.bmod_eq_of_le <;> omega
