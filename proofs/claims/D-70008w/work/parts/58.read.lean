/-! LENT YOUTHS, plainly: a text is read -/
def sgV (tx : Nat → Int32) (L at0 : Nat) (k : Int32) : Bool := decide (pcode tx L at0 = k)
def sgN (tx : Nat → Int32) (L at0 : Nat) (k : Int32) : Nat := if pcode tx L at0 = k then at0 + 1 else at0
theorem upd_at {g : Nat → Int32} {k : Nat} {v : Int32} (h : g k = v) : upd g k v = g := by rw [← h]; exact upd_id g k
theorem sg_end {tx : Nat → Int32} {L at0 : Nat} {k : Int32} (h : at0 = L) (hk : ¬ k = -9) : ¬ pcode tx L at0 = k := by
  rw [pcode, if_neg (by omega)]
  exact fun z => hk z.symm
theorem sg_in {tx : Nat → Int32} {L at0 : Nat} (h : at0 < L) : pcode tx L at0 = tx at0 := by rw [pcode, if_pos h]
theorem sgV_f {tx : Nat → Int32} {L at0 : Nat} {k : Int32} (h : ¬ pcode tx L at0 = k) : sgV tx L at0 k = false := decide_eq_false h
theorem sgV_t {tx : Nat → Int32} {L at0 : Nat} {k : Int32} (h : pcode tx L at0 = k) : sgV tx L at0 k = true := decide_eq_true h
theorem sgN_f {tx : Nat → Int32} {L at0 : Nat} {k : Int32} (h : ¬ pcode tx L at0 = k) : sgN tx L at0 k = at0 := if_neg h
theorem sgN_t {tx : Nat → Int32} {L at0 : Nat} {k : Int32} (h : pcode tx L at0 = k) : sgN tx L at0 k = at0 + 1 := if_pos h
theorem sg_lt {tx : Nat → Int32} {L at0 : Nat} {k : Int32} (hk : ¬ k = -9) (h : pcode tx L at0 = k) : at0 < L := by
  rw [pcode] at h
  split at h
  · assumption
  · exact absurd h.symm hk
theorem dg_lt1 {tx : Nat → Int32} {L at0 : Nat} {lo hi : Int32} (h0 : 0 ≤ lo.toInt) (h : dgok (pcode tx L at0) lo hi = true) : at0 < L := by
  rw [pcode] at h
  split at h
  · assumption
  · exfalso
    unfold dgok lin at h
    simp only [Bool.and_eq_true, decide_eq_true_eq] at h
    have h2 := h.1
    rw [Int64.le_iff_toInt_le, Int32.toInt_toInt64, Int32.toInt_toInt64] at h2
    have h3 : ((-9 : Int32) - 48).toInt = -57 := by decide
    omega
theorem dg_end {tx : Nat → Int32} {L at0 : Nat} {lo hi : Int32} (h0 : 0 ≤ lo.toInt) (h : at0 = L) : dgok (pcode tx L at0) lo hi = false := by
  cases e : dgok (pcode tx L at0) lo hi with
  | false => rfl
  | true => have := dg_lt1 h0 e; omega
theorem dg_long {c lo hi : Int32} (h0 : 0 ≤ lo.toInt) (h9 : hi.toInt ≤ 9) : lin (c.toInt64 - 48) lo.toInt64 hi.toInt64 = dgok c lo hi := by
  unfold dgok lin
  have hc1 := Int32.le_toInt c
  have hc2 := Int32.toInt_lt c
  have e1 : (c.toInt64 - 48).toInt = c.toInt - 48 := by
    rw [Int64.toInt_sub, Int32.toInt_toInt64]
    show (c.toInt - 48).bmod (2 ^ 64) = _
    rw [Int.bmod_eq_of_le (by omega) (by omega)]
  have e2 : (c - 48).toInt64.toInt = (c.toInt - 48).bmod (2 ^ 32) := by
    rw [Int32.toInt_toInt64, Int32.toInt_sub]
    rfl
  have hb : (c.toInt - 48).bmod (2 ^ 32) = c.toInt - 48 ∨ (2147483000 < (c.toInt - 48).bmod (2 ^ 32) ∧ c.toInt - 48 < 0) := by
    by_cases h : -2147483648 ≤ c.toInt - 48
    · left; exact Int.bmod_eq_of_le (by omega) (by omega)
    · right
      refine ⟨?_, by omega⟩
      have h3 : (c.toInt - 48).bmod (2 ^ 32) = c.toInt - 48 + 4294967296 := by
        rw [← Int.add_bmod_right]
        exact Int.bmod_eq_of_le (by omega) (by omega)
      omega
  have k1 : decide (lo.toInt64 ≤ c.toInt64 - 48) = decide (lo.toInt ≤ c.toInt - 48) := decide_eq_decide.mpr (by rw [Int64.le_iff_toInt_le, e1, Int32.toInt_toInt64])
  have k2 : decide (c.toInt64 - 48 ≤ hi.toInt64) = decide (c.toInt - 48 ≤ hi.toInt) := decide_eq_decide.mpr (by rw [Int64.le_iff_toInt_le, e1, Int32.toInt_toInt64])
  have k3 : decide (lo.toInt64 ≤ (c - 48).toInt64) = decide (lo.toInt ≤ (c.toInt - 48).bmod (2 ^ 32)) := decide_eq_decide.mpr (by rw [Int64.le_iff_toInt_le, e2, Int32.toInt_toInt64])
  have k4 : decide ((c - 48).toInt64 ≤ hi.toInt64) = decide ((c.toInt - 48).bmod (2 ^ 32) ≤ hi.toInt) := decide_eq_decide.mpr (by rw [Int64.le_iff_toInt_le, e2, Int32.toInt_toInt64])
  rw [k1, k2, k3, k4]
  rcases hb with h | ⟨h1, h2⟩
  · rw [h]
  · rw [decide_eq_false (show ¬ lo.toInt ≤ c.toInt - 48 by omega), decide_eq_false (show ¬ (c.toInt - 48).bmod (2 ^ 32) ≤ hi.toInt by omega), Bool.false_and, Bool.and_false]
theorem dg_ne9 {c lo hi : Int32} (h0 : 0 ≤ lo) (h : dgok c lo hi = true) : ¬ dgv c lo hi = -9 := by
  intro z
  have : ¬ 0 ≤ dgv c lo hi := by rw [z]; decide
  rw [dg_neg h0 this] at h
  cases h
theorem dg_is9 {c lo hi : Int32} (h : dgok c lo hi = false) : dgv c lo hi = -9 := by rw [dgv, if_neg (by rw [h]; decide)]
theorem dg_iff9 {c lo hi : Int32} (h0 : 0 ≤ lo) : dgv c lo hi = -9 ↔ dgok c lo hi = false := by
  constructor
  · intro z
    cases e : dgok c lo hi with
    | false => rfl
    | true => exact absurd z (dg_ne9 h0 e)
  · exact dg_is9
def rs_hi (c : Int32) : Int32 := if dgv c 0 6 = 6 then 3 else 9
def rsOk (tx : Nat → Int32) (L t0 : Nat) : Bool := dgok (pcode tx L t0) 0 6 && dgok (pcode tx L (t0 + 1)) 0 (rs_hi (pcode tx L t0))
def rsV (tx : Nat → Int32) (L t0 : Nat) : Int32 := if rsOk tx L t0 = true then 10 * dgv (pcode tx L t0) 0 6 + dgv (pcode tx L (t0 + 1)) 0 (rs_hi (pcode tx L t0)) else -9
def rsN (tx : Nat → Int32) (L t0 : Nat) : Nat := if dgok (pcode tx L t0) 0 6 = true then t0 + 1 + dgn (pcode tx L (t0 + 1)) 0 (rs_hi (pcode tx L t0)) else t0
theorem dgv_rng {c lo hi : Int32} (h : dgok c lo hi = true) : lo.toInt ≤ (dgv c lo hi).toInt ∧ (dgv c lo hi).toInt ≤ hi.toInt := by
  rw [dgv, if_pos h]
  unfold dgok lin at h
  simp only [Bool.and_eq_true, decide_eq_true_eq] at h
  have h1 := Int64.le_iff_toInt_le.mp h.1
  have h2 := Int64.le_iff_toInt_le.mp h.2
  rw [Int32.toInt_toInt64, Int32.toInt_toInt64] at h1 h2
  exact ⟨h1, h2⟩
theorem rs_ne9 {x z : Int32} (hx : 0 ≤ x.toInt ∧ x.toInt ≤ 6) (hz : 0 ≤ z.toInt ∧ z.toInt ≤ 9) : ¬ 10 * x + z = -9 := by
  intro h
  have h1 := congrArg Int32.toInt h
  rw [Int32.toInt_add, Int32.toInt_mul] at h1
  have h2 : ((10 : Int32).toInt * x.toInt).bmod (2 ^ 32) = 10 * x.toInt := by
    show (10 * x.toInt).bmod (2 ^ 32) = _
    exact Int.bmod_eq_of_le (by omega) (by omega)
  rw [h2, Int.bmod_eq_of_le (by omega) (by omega)] at h1
  have h3 : (-9 : Int32).toInt = -9 := by decide
  omega
/-- X reads a person -/
def prOk (tx : Nat → Int32) (L t0 : Nat) : Bool := (pPerson tx L t0).1
theorem rsV_9 {tx : Nat → Int32} {L t0 : Nat} : rsV tx L t0 = -9 ↔ rsOk tx L t0 = false := by
  constructor
  · intro z
    cases e : rsOk tx L t0 with
    | false => rfl
    | true =>
      exfalso
      rw [rsV, if_pos e] at z
      unfold rsOk at e
      rw [Bool.and_eq_true] at e
      have h1 := dgv_rng e.1
      have h2 := dgv_rng e.2
      have e0 : (0 : Int32).toInt = 0 := by decide
      have e6 : (6 : Int32).toInt = 6 := by decide
      have e9 : (rs_hi (pcode tx L t0)).toInt ≤ 9 := by unfold rs_hi; split <;> decide
      exact rs_ne9 ⟨by omega, by omega⟩ ⟨by omega, by omega⟩ z
  · intro h; rw [rsV, if_neg (by rw [h]; decide)]
theorem rsN_t {tx : Nat → Int32} {L t0 : Nat} (h : rsOk tx L t0 = true) : rsN tx L t0 = t0 + 2 := by
  unfold rsOk at h
  rw [Bool.and_eq_true] at h
  rw [rsN, if_pos h.1, dgn, if_pos h.2]
theorem rs_lt {tx : Nat → Int32} {L t0 : Nat} (h : rsOk tx L t0 = true) : t0 + 1 < L := by
  unfold rsOk at h
  rw [Bool.and_eq_true] at h
  exact dg_lt1 (by decide) h.2
theorem pp_rs0 {tx : Nat → Int32} {L t0 : Nat} (hl : pcode tx L t0 = 99 ∨ pcode tx L t0 = 115 ∨ pcode tx L t0 = 116) (h : rsOk tx L (t0 + 1) = false) : pPerson tx L t0 = (false, rsN tx L (t0 + 1), 0, 0, 0, 0) := by
  unfold rsOk at h
  cases d1 : dgok (pcode tx L (t0 + 1)) 0 6 with
  | false => rw [pP_1 hl d1, rsN, if_neg (by rw [d1]; decide)]
  | true =>
    rw [d1, Bool.true_and] at h
    rw [pP_2 hl d1 h, rsN, if_pos d1, dgn, if_neg (by rw [h]; decide)]
theorem pp_rs3 {tx : Nat → Int32} {L t0 : Nat} (hl : pcode tx L t0 = 99 ∨ pcode tx L t0 = 115 ∨ pcode tx L t0 = 116) (h : rsOk tx L (t0 + 1) = true) (h3 : dgok (pcode tx L (t0 + 3)) 0 6 = false) : pPerson tx L t0 = (false, t0 + 3, 0, 0, 0, 0) := by
  unfold rsOk at h
  rw [Bool.and_eq_true] at h
  exact pP_3 hl h.1 h.2 h3
theorem pp_rs4 {tx : Nat → Int32} {L t0 : Nat} (hl : pcode tx L t0 = 99 ∨ pcode tx L t0 = 115 ∨ pcode tx L t0 = 116) (h : rsOk tx L (t0 + 1) = true) (h3 : dgok (pcode tx L (t0 + 3)) 0 6 = true) (h4 : dgok (pcode tx L (t0 + 4)) 1 9 = false) : pPerson tx L t0 = (false, t0 + 4, 0, 0, 0, 0) := by
  unfold rsOk at h
  rw [Bool.and_eq_true] at h
  exact pP_4 hl h.1 h.2 h3 h4
theorem pp_rs5 {tx : Nat → Int32} {L t0 : Nat} (hl : pcode tx L t0 = 99 ∨ pcode tx L t0 = 115 ∨ pcode tx L t0 = 116) (h : rsOk tx L (t0 + 1) = true) (h3 : dgok (pcode tx L (t0 + 3)) 0 6 = true) (h4 : dgok (pcode tx L (t0 + 4)) 1 9 = true) {k : Int32} (hk : (if pcode tx L t0 = 99 then 0 else if pcode tx L t0 = 115 then 1 else 2) = k) : pPerson tx L t0 = (true, t0 + 5, k, rsV tx L (t0 + 1), dgv (pcode tx L (t0 + 3)) 0 6, dgv (pcode tx L (t0 + 4)) 1 9) := by
  rw [rsV, if_pos h]
  unfold rsOk at h
  rw [Bool.and_eq_true] at h
  exact pP_5 hl h.1 h.2 h3 h4 hk
/-- what is left of a text that was read to its end -/
def rdP (P : Bool × Nat × Int32 × Int32 × Int32 × Int32) (mm : Nat) (k1 k2 k3 k4 K1 K2 K3 K4 : Nat → Int32) (mv : Int32) : Prop := P.1 = true → K1 = upd k1 mm P.2.2.1 ∧ K2 = upd k2 mm P.2.2.2.1 ∧ K3 = upd k3 mm P.2.2.2.2.1 ∧ K4 = upd k4 mm P.2.2.2.2.2 ∧ mv = nI (mm + 1)
theorem rdP_f {P : Bool × Nat × Int32 × Int32 × Int32 × Int32} {t1 : Nat} {x1 x2 x3 x4 : Int32} (h : P = (false, t1, x1, x2, x3, x4)) {mm : Nat} {k1 k2 k3 k4 K1 K2 K3 K4 : Nat → Int32} {mv : Int32} : rdP P mm k1 k2 k3 k4 K1 K2 K3 K4 mv := by
  intro z; rw [h] at z; cases z
theorem rdP_t {P : Bool × Nat × Int32 × Int32 × Int32 × Int32} {t1 : Nat} {x1 x2 x3 x4 : Int32} (h : P = (true, t1, x1, x2, x3, x4)) {mm : Nat} {k1 k2 k3 k4 : Nat → Int32} {mv : Int32} (hv : mv = nI (mm + 1)) : rdP P mm k1 k2 k3 k4 (upd k1 mm x1) (upd k2 mm x2) (upd k3 mm x3) (upd k4 mm x4) mv := by
  intro _; rw [h]; exact ⟨rfl, rfl, rfl, rfl, hv⟩
def rdA (Q : Bool × PS) (K1 K2 K3 K4 : Nat → Int32) (mv : Int32) : Prop := Q.1 = true → K1 = Q.2.2.2.1 ∧ K2 = Q.2.2.2.2.1 ∧ K3 = Q.2.2.2.2.2.1 ∧ K4 = Q.2.2.2.2.2.2 ∧ mv = nI Q.2.2.1
