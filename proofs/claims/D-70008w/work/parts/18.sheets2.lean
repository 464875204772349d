/-! THE MODEL's OPERATIONS ON SHEETS, plainly -/
abbrev MS : Type := (Nat → Int32) × (Nat → Nat → Int32)
def M_sheet (g : Nat → Int32) (a : Nat → Nat → Int32) (k lane n : Int32) : Int32 × MS :=
  if inP k 4 = true then (if inP lane 3 = true ∧ n ≤ 60 then (if 0 ≤ n then (1, upd g 0 0, va_up (va_up (va_up a 25 (upd (a 25) (cix k) n)) 26 (upd (a 26) (cix k) lane)) 27 (zeroF (60 * cix k) (cix n) (a 27))) else (-14, upd g 0 4, a)) else (-2, upd g 0 0, a)) else (-1, upd g 0 0, a)
def M_lose (g : Nat → Int32) (a : Nat → Nat → Int32) (k : Int32) : Int32 × MS :=
  if inP k 4 = true then ((if 0 ≤ a 25 (cix k) then 1 else 0), g, va_up a 25 (upd (a 25) (cix k) (-1))) else (-1, g, a)
def M_put (g : Nat → Int32) (a : Nat → Nat → Int32) (k i v : Int32) : Int32 × MS :=
  if inP k 4 = true then (if nocV (a 25 (cix k)) i ≤ 0 then (1, upd g 0 0, va_up a 27 (upd (a 27) (60 * cix k + cix i) (narL (a 26 (cix k)) v))) else ((-10) - nocV (a 25 (cix k)) i, upd g 0 (nocV (a 25 (cix k)) i), a)) else (-1, upd g 0 0, a)
def M_cell (g : Nat → Int32) (a : Nat → Nat → Int32) (k i lane : Int32) : Int64 × MS :=
  if inP k 4 = true ∧ inP lane 3 = true then (if 0 ≤ a 25 (cix k) ∧ ¬ a 26 (cix k) = lane then (-9223372036854775808, upd g 0 2, a) else if nocV (a 25 (cix k)) i ≤ 0 then ((a 27 (60 * cix k + cix i)).toInt64, upd g 0 0, a) else (-9223372036854775808, upd g 0 (nocV (a 25 (cix k)) i), a)) else (-9223372036854775808, upd g 0 0, a)
def M_copy (g : Nat → Int32) (a : Nat → Nat → Int32) (k i y j n : Int32) : Int32 × MS :=
  if inP k 4 = true ∧ inP y 4 = true then (if a 25 (cix k) < 0 ∨ a 25 (cix y) < 0 then (-11, upd g 0 1, a) else if ¬ a 26 (cix k) = a 26 (cix y) then (-12, upd g 0 2, a) else if isBey i n.toInt64 (a 25 (cix k)) = true ∨ isBey j n.toInt64 (a 25 (cix y)) = true then (-13, upd g 0 3, a) else
    (n, upd g 0 0, va_up (va_up a 27 (va_cpy (a 27) (a 27) (60 * cix k + cix i) (60 * cix y + cix j) (cix n))) 28 (cutF (cix n) (fun t => a 27 (60 * cix k + cix i + t)) (a 28)))) else (-1, upd g 0 0, a)
theorem nocV_c (sz i : Int32) : nocV sz i = 1 ∨ nocV sz i = 0 ∨ nocV sz i = 3 := by
  unfold nocV
  split
  · simp
  · split <;> simp
theorem nocV_0 {sz i : Int32} (h : nocV sz i ≤ 0) : 0 ≤ sz ∧ inP i (cix sz) = true := by
  unfold nocV at h
  by_cases h1 : sz < 0
  · rw [if_pos h1] at h; exact absurd h (by decide)
  · rw [if_neg h1] at h
    by_cases h2 : inP i (cix sz) = true
    · refine ⟨?_, h2⟩
      rw [nneg_iff]; rw [neg_iff] at h1; omega
    · rw [if_neg h2] at h; exact absurd h (by decide)
theorem nocV_at {sz i : Int32} (h : nocV sz i ≤ 0) (hz : sz.toInt ≤ 60) : i = nI (cix i) ∧ cix i < 60 := by
  obtain ⟨h1, h2⟩ := nocV_0 h
  have h3 := cix_toInt h1
  obtain ⟨e, hl⟩ := inP_e (by omega) h2
  exact ⟨e, by omega⟩
theorem cpy_s (f g : Nat → Int32) (dp x : Nat) : upd (va_cpy f g 0 dp x) (dp + x) (f x) = va_cpy f g 0 dp (x + 1) := by
  funext j
  simp only [upd, va_cpy]
  by_cases h1 : j = dp + x
  · subst h1
    have h2 : dp ≤ dp + x ∧ dp + x < dp + (x + 1) := by omega
    have h3 : 0 + (dp + x - dp) = x := by omega
    simp only [if_true, if_pos h2, h3]
  · by_cases h2 : dp ≤ j ∧ j < dp + x
    · have h3 : dp ≤ j ∧ j < dp + (x + 1) := by omega
      simp only [if_neg h1, if_pos h2, if_pos h3]
    · have h3 : ¬ (dp ≤ j ∧ j < dp + (x + 1)) := by omega
      simp only [if_neg h1, if_neg h2, if_neg h3]
theorem cpy_0 (f g : Nat → Int32) (sp dp : Nat) : va_cpy f g sp dp 0 = g := by
  funext j
  have h : ¬ (dp ≤ j ∧ j < dp + 0) := by omega
  simp only [va_cpy, if_neg h]
theorem cpy_hands (f h0 g : Nat → Int32) (sp dp n : Nat) : va_cpy (cutF n (fun t => f (sp + t)) h0) g 0 dp n = va_cpy f g sp dp n := by
  funext j
  simp only [va_cpy]
  by_cases h : dp ≤ j ∧ j < dp + n
  · simp only [if_pos h]
    rw [cutF_in (by omega)]
    congr 1
    omega
  · simp only [if_neg h]
theorem toL {n : Int32} : n.toInt64.toInt ≤ 2 ^ 40 := by
  rw [Int32.toInt_toInt64]
  have := n.toInt_lt
  omega
theorem neg64 {n : Int32} (h : ¬ n.toInt64 < 0) : 0 ≤ n := by
  rw [Int64.lt_iff_toInt_lt, Int32.toInt_toInt64, show (0 : Int64).toInt = 0 from rfl] at h
  rw [nneg_iff]; omega
