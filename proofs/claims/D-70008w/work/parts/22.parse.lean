/-! A COUNTER's TEXT, plainly: tx its cells, L how many -/
def pcode (tx : Nat → Int32) (L at0 : Nat) : Int32 := if at0 < L then tx at0 else -9
def dgok (c lo hi : Int32) : Bool := lin (c - 48).toInt64 lo.toInt64 hi.toInt64
def dgv (c lo hi : Int32) : Int32 := if dgok c lo hi = true then c - 48 else -9
def dgn (c lo hi : Int32) : Nat := if dgok c lo hi = true then 1 else 0
theorem dgn_le (c lo hi : Int32) : dgn c lo hi ≤ 1 := by unfold dgn; split <;> omega
theorem dg_pos {c lo hi : Int32} (h : 0 ≤ dgv c lo hi) : dgok c lo hi = true := by
  unfold dgv at h
  by_cases h1 : dgok c lo hi = true
  · exact h1
  · rw [if_neg h1] at h; exact absurd h (by decide)
theorem dg_neg {c lo hi : Int32} (hlo : 0 ≤ lo) (h : ¬ 0 ≤ dgv c lo hi) : dgok c lo hi = false := by
  by_cases h1 : dgok c lo hi = true
  · exfalso
    unfold dgv at h
    rw [if_pos h1] at h
    unfold dgok lin at h1
    simp only [Bool.and_eq_true, decide_eq_true_eq] at h1
    have h2 := h1.1
    rw [Int64.le_iff_toInt_le, Int32.toInt_toInt64, Int32.toInt_toInt64] at h2
    rw [nneg_iff] at hlo
    exact h (by rw [nneg_iff]; omega)
  · exact Bool.not_eq_true _ ▸ h1
/-- a person's text from its kind's letter on: is it one, where it stops, kind, scenes, wants, wear -/
def pPerson (tx : Nat → Int32) (L t0 : Nat) : Bool × Nat × Int32 × Int32 × Int32 × Int32 :=
  if pcode tx L t0 = 99 ∨ pcode tx L t0 = 115 ∨ pcode tx L t0 = 116 then
    if dgok (pcode tx L (t0 + 1)) 0 6 = true then
      if dgok (pcode tx L (t0 + 2)) 0 (if dgv (pcode tx L (t0 + 1)) 0 6 = 6 then 3 else 9) = true then
        if dgok (pcode tx L (t0 + 3)) 0 6 = true then
          if dgok (pcode tx L (t0 + 4)) 1 9 = true then
            (true, t0 + 5, (if pcode tx L t0 = 99 then 0 else if pcode tx L t0 = 115 then 1 else 2), 10 * dgv (pcode tx L (t0 + 1)) 0 6 + dgv (pcode tx L (t0 + 2)) 0 (if dgv (pcode tx L (t0 + 1)) 0 6 = 6 then 3 else 9), dgv (pcode tx L (t0 + 3)) 0 6, dgv (pcode tx L (t0 + 4)) 1 9)
          else (false, t0 + 4, 0, 0, 0, 0)
        else (false, t0 + 3, 0, 0, 0, 0)
      else (false, t0 + 2, 0, 0, 0, 0)
    else (false, t0 + 1, 0, 0, 0, 0)
  else (false, t0, 0, 0, 0, 0)
abbrev PS : Type := Nat × Nat × (Nat → Int32) × (Nat → Int32) × (Nat → Int32) × (Nat → Int32)
/-- one person more: its place, how many before, kinds, scenes, wants, wears -/
def pStep (tx : Nat → Int32) (L : Nat) (P : PS) : Bool × PS :=
  if P.2.1 = 6 then (false, P) else if pcode tx L P.1 = 59 then
    if (pPerson tx L (P.1 + 1)).1 = true then
      (true, (pPerson tx L (P.1 + 1)).2.1, P.2.1 + 1, upd P.2.2.1 P.2.1 (pPerson tx L (P.1 + 1)).2.2.1, upd P.2.2.2.1 P.2.1 (pPerson tx L (P.1 + 1)).2.2.2.1, upd P.2.2.2.2.1 P.2.1 (pPerson tx L (P.1 + 1)).2.2.2.2.1, upd P.2.2.2.2.2 P.2.1 (pPerson tx L (P.1 + 1)).2.2.2.2.2)
    else (false, (pPerson tx L (P.1 + 1)).2.1, P.2)
  else (false, P)
def pLoop (tx : Nat → Int32) (L : Nat) : Nat → PS → Bool × PS
  | 0, P => (false, P)
  | f + 1, P => if P.2.1 < 2 ∨ P.1 < L then (if (pStep tx L P).1 = true then pLoop tx L f (pStep tx L P).2 else (false, (pStep tx L P).2)) else (true, P)
def pAll (tx : Nat → Int32) (L : Nat) (k s w e : Nat → Int32) : Bool × PS := if pcode tx L 0 = 107 then pLoop tx L 7 (1, 0, k, s, w, e) else (false, 0, 0, k, s, w, e)
theorem pPerson_at (tx : Nat → Int32) (L t0 : Nat) : (pPerson tx L t0).2.1 ≤ t0 + 5 := by
  unfold pPerson
  repeat' split
  all_goals simp only []
  all_goals omega
theorem pStep_at (tx : Nat → Int32) (L : Nat) (P : PS) : (pStep tx L P).2.1 ≤ P.1 + 6 := by
  unfold pStep
  have h := pPerson_at tx L (P.1 + 1)
  repeat' split
  all_goals simp only []
  all_goals omega
theorem pStep_m (tx : Nat → Int32) (L : Nat) (P : PS) (h : (pStep tx L P).1 = true) : (pStep tx L P).2.2.1 = P.2.1 + 1 ∧ ¬ P.2.1 = 6 := by
  unfold pStep at h ⊢
  by_cases h1 : P.2.1 = 6
  · rw [if_pos h1] at h; exact absurd h (by simp)
  · rw [if_neg h1] at h ⊢
    by_cases h2 : pcode tx L P.1 = 59
    · rw [if_pos h2] at h ⊢
      by_cases h3 : (pPerson tx L (P.1 + 1)).1 = true
      · rw [if_pos h3]; exact ⟨rfl, h1⟩
      · rw [if_neg h3] at h; exact absurd h (by simp)
    · rw [if_neg h2] at h; exact absurd h (by simp)
section PP
variable {tx : Nat → Int32} {L t0 : Nat}
theorem pP_0 (h : ¬ (pcode tx L t0 = 99 ∨ pcode tx L t0 = 115 ∨ pcode tx L t0 = 116)) : pPerson tx L t0 = (false, t0, 0, 0, 0, 0) := by rw [pPerson, if_neg h]
theorem pP_1 (h : pcode tx L t0 = 99 ∨ pcode tx L t0 = 115 ∨ pcode tx L t0 = 116) (h1 : dgok (pcode tx L (t0 + 1)) 0 6 = false) : pPerson tx L t0 = (false, t0 + 1, 0, 0, 0, 0) := by rw [pPerson, if_pos h, if_neg (by rw [h1]; decide)]
theorem pP_2 (h : pcode tx L t0 = 99 ∨ pcode tx L t0 = 115 ∨ pcode tx L t0 = 116) (h1 : dgok (pcode tx L (t0 + 1)) 0 6 = true) (h2 : dgok (pcode tx L (t0 + 2)) 0 (if dgv (pcode tx L (t0 + 1)) 0 6 = 6 then 3 else 9) = false) : pPerson tx L t0 = (false, t0 + 2, 0, 0, 0, 0) := by rw [pPerson, if_pos h, if_pos h1, if_neg (by rw [h2]; decide)]
theorem pP_3 (h : pcode tx L t0 = 99 ∨ pcode tx L t0 = 115 ∨ pcode tx L t0 = 116) (h1 : dgok (pcode tx L (t0 + 1)) 0 6 = true) (h2 : dgok (pcode tx L (t0 + 2)) 0 (if dgv (pcode tx L (t0 + 1)) 0 6 = 6 then 3 else 9) = true) (h3 : dgok (pcode tx L (t0 + 3)) 0 6 = false) : pPerson tx L t0 = (false, t0 + 3, 0, 0, 0, 0) := by rw [pPerson, if_pos h, if_pos h1, if_pos h2, if_neg (by rw [h3]; decide)]
theorem pP_4 (h : pcode tx L t0 = 99 ∨ pcode tx L t0 = 115 ∨ pcode tx L t0 = 116) (h1 : dgok (pcode tx L (t0 + 1)) 0 6 = true) (h2 : dgok (pcode tx L (t0 + 2)) 0 (if dgv (pcode tx L (t0 + 1)) 0 6 = 6 then 3 else 9) = true) (h3 : dgok (pcode tx L (t0 + 3)) 0 6 = true) (h4 : dgok (pcode tx L (t0 + 4)) 1 9 = false) : pPerson tx L t0 = (false, t0 + 4, 0, 0, 0, 0) := by rw [pPerson, if_pos h, if_pos h1, if_pos h2, if_pos h3, if_neg (by rw [h4]; decide)]
theorem pP_5 (h : pcode tx L t0 = 99 ∨ pcode tx L t0 = 115 ∨ pcode tx L t0 = 116) (h1 : dgok (pcode tx L (t0 + 1)) 0 6 = true) (h2 : dgok (pcode tx L (t0 + 2)) 0 (if dgv (pcode tx L (t0 + 1)) 0 6 = 6 then 3 else 9) = true) (h3 : dgok (pcode tx L (t0 + 3)) 0 6 = true) (h4 : dgok (pcode tx L (t0 + 4)) 1 9 = true) {k : Int32} (hk : (if pcode tx L t0 = 99 then 0 else if pcode tx L t0 = 115 then 1 else 2) = k) : pPerson tx L t0 = (true, t0 + 5, k, 10 * dgv (pcode tx L (t0 + 1)) 0 6 + dgv (pcode tx L (t0 + 2)) 0 (if dgv (pcode tx L (t0 + 1)) 0 6 = 6 then 3 else 9), dgv (pcode tx L (t0 + 3)) 0 6, dgv (pcode tx L (t0 + 4)) 1 9) := by rw [pPerson, if_pos h, if_pos h1, if_pos h2, if_pos h3, if_pos h4, hk]
variable {mm : Nat} {K1 K2 K3 K4 : Nat → Int32}
theorem pS_6 (h : mm = 6) : pStep tx L (t0, mm, K1, K2, K3, K4) = (false, t0, mm, K1, K2, K3, K4) := by rw [pStep, if_pos h]
theorem pS_n (h : ¬ mm = 6) (h1 : ¬ pcode tx L t0 = 59) : pStep tx L (t0, mm, K1, K2, K3, K4) = (false, t0, mm, K1, K2, K3, K4) := by rw [pStep, if_neg h, if_neg h1]
theorem pS_f (h : ¬ mm = 6) (h1 : pcode tx L t0 = 59) {t1 : Nat} {k s w e : Int32} (e1 : pPerson tx L (t0 + 1) = (false, t1, k, s, w, e)) : pStep tx L (t0, mm, K1, K2, K3, K4) = (false, t1, mm, K1, K2, K3, K4) := by rw [pStep, if_neg h, if_pos h1, e1]; rfl
theorem pS_t (h : ¬ mm = 6) (h1 : pcode tx L t0 = 59) {t1 : Nat} {k s w e : Int32} (e1 : pPerson tx L (t0 + 1) = (true, t1, k, s, w, e)) : pStep tx L (t0, mm, K1, K2, K3, K4) = (true, t1, mm + 1, upd K1 mm k, upd K2 mm s, upd K3 mm w, upd K4 mm e) := by rw [pStep, if_neg h, if_pos h1, e1]; rfl
end PP
def M_counter (g : Nat → Int32) (a : Nat → Nat → Int32) (x lane i n : Int32) : Int32 × MS :=
  if inP x 4 = true then (if inP lane 3 = true then (if barV (a 25 (cix x)) (a 26 (cix x)) lane i n.toInt64 = 0 then
    (if (pAll (fun t => a 27 (60 * cix x + cix i + t)) (cix n) (a 8) (a 9) (a 10) (a 11)).1 = true then
      (nI (pAll (fun t => a 27 (60 * cix x + cix i + t)) (cix n) (a 8) (a 9) (a 10) (a 11)).2.2.1,
       upd (upd (upd (upd (upd g 0 0) 1 (nI (pAll (fun t => a 27 (60 * cix x + cix i + t)) (cix n) (a 8) (a 9) (a 10) (a 11)).2.2.1)) 6 (nI (pAll (fun t => a 27 (60 * cix x + cix i + t)) (cix n) (a 8) (a 9) (a 10) (a 11)).2.1)) 7 (nI (pAll (fun t => a 27 (60 * cix x + cix i + t)) (cix n) (a 8) (a 9) (a 10) (a 11)).2.2.1)) 21 0,
       va_up (va_up (va_up (va_up (va_up (va_up (va_up (va_up a 2 (cutF (pAll (fun t => a 27 (60 * cix x + cix i + t)) (cix n) (a 8) (a 9) (a 10) (a 11)).2.2.1 (pAll (fun t => a 27 (60 * cix x + cix i + t)) (cix n) (a 8) (a 9) (a 10) (a 11)).2.2.2.1 (a 2))) 3 (cutF (pAll (fun t => a 27 (60 * cix x + cix i + t)) (cix n) (a 8) (a 9) (a 10) (a 11)).2.2.1 (pAll (fun t => a 27 (60 * cix x + cix i + t)) (cix n) (a 8) (a 9) (a 10) (a 11)).2.2.2.2.1 (a 3))) 4 (cutF (pAll (fun t => a 27 (60 * cix x + cix i + t)) (cix n) (a 8) (a 9) (a 10) (a 11)).2.2.1 (pAll (fun t => a 27 (60 * cix x + cix i + t)) (cix n) (a 8) (a 9) (a 10) (a 11)).2.2.2.2.2.1 (a 4))) 5 (cutF (pAll (fun t => a 27 (60 * cix x + cix i + t)) (cix n) (a 8) (a 9) (a 10) (a 11)).2.2.1 (pAll (fun t => a 27 (60 * cix x + cix i + t)) (cix n) (a 8) (a 9) (a 10) (a 11)).2.2.2.2.2.2 (a 5)))
         8 (pAll (fun t => a 27 (60 * cix x + cix i + t)) (cix n) (a 8) (a 9) (a 10) (a 11)).2.2.2.1) 9 (pAll (fun t => a 27 (60 * cix x + cix i + t)) (cix n) (a 8) (a 9) (a 10) (a 11)).2.2.2.2.1) 10 (pAll (fun t => a 27 (60 * cix x + cix i + t)) (cix n) (a 8) (a 9) (a 10) (a 11)).2.2.2.2.2.1) 11 (pAll (fun t => a 27 (60 * cix x + cix i + t)) (cix n) (a 8) (a 9) (a 10) (a 11)).2.2.2.2.2.2)
    else ((-100) - nI (pAll (fun t => a 27 (60 * cix x + cix i + t)) (cix n) (a 8) (a 9) (a 10) (a 11)).2.1,
       upd (upd (upd g 0 0) 6 (nI (pAll (fun t => a 27 (60 * cix x + cix i + t)) (cix n) (a 8) (a 9) (a 10) (a 11)).2.1)) 7 (nI (pAll (fun t => a 27 (60 * cix x + cix i + t)) (cix n) (a 8) (a 9) (a 10) (a 11)).2.2.1),
       va_up (va_up (va_up (va_up a 8 (pAll (fun t => a 27 (60 * cix x + cix i + t)) (cix n) (a 8) (a 9) (a 10) (a 11)).2.2.2.1) 9 (pAll (fun t => a 27 (60 * cix x + cix i + t)) (cix n) (a 8) (a 9) (a 10) (a 11)).2.2.2.2.1) 10 (pAll (fun t => a 27 (60 * cix x + cix i + t)) (cix n) (a 8) (a 9) (a 10) (a 11)).2.2.2.2.2.1) 11 (pAll (fun t => a 27 (60 * cix x + cix i + t)) (cix n) (a 8) (a 9) (a 10) (a 11)).2.2.2.2.2.2))
    else ((-10) - barV (a 25 (cix x)) (a 26 (cix x)) lane i n.toInt64, upd g 0 (barV (a 25 (cix x)) (a 26 (cix x)) lane i n.toInt64), a)) else (-2, upd g 0 0, a)) else (-1, upd g 0 0, a)
theorem pLoop_m {tx : Nat → Int32} {L : Nat} : ∀ (f : Nat) (P : PS), P.2.1 ≤ 6 → (pLoop tx L f P).2.2.1 ≤ 6
  | 0, P, h => h
  | f + 1, P, h => by
    unfold pLoop
    split
    · split
      · rename_i h1 h2
        obtain ⟨h3, h4⟩ := pStep_m tx L P h2
        exact pLoop_m f _ (by rw [h3]; omega)
      · rename_i h1 h2
        show (pStep tx L P).2.2.1 ≤ 6
        unfold pStep
        repeat' split
        all_goals simp only []
        all_goals omega
    · exact h
theorem pAll_m (tx : Nat → Int32) (L : Nat) (k s w e : Nat → Int32) : (pAll tx L k s w e).2.2.1 ≤ 6 := by
  unfold pAll
  split
  · exact pLoop_m 7 _ (by show (0 : Nat) ≤ 6; omega)
  · show (0 : Nat) ≤ 6
    omega
theorem pLoop_go {tx : Nat → Int32} {L f : Nat} {P : PS} (h : P.2.1 < 2 ∨ P.1 < L) (hs : (pStep tx L P).1 = true) : pLoop tx L (f + 1) P = pLoop tx L f (pStep tx L P).2 := by rw [pLoop, if_pos h, if_pos hs]
theorem pLoop_no {tx : Nat → Int32} {L f : Nat} {P : PS} (h : P.2.1 < 2 ∨ P.1 < L) (hs : ¬ (pStep tx L P).1 = true) : pLoop tx L (f + 1) P = (false, (pStep tx L P).2) := by rw [pLoop, if_pos h, if_neg hs]
theorem pLoop_end {tx : Nat → Int32} {L f : Nat} {P : PS} (h : ¬ (P.2.1 < 2 ∨ P.1 < L)) : pLoop tx L (f + 1) P = (true, P) := by rw [pLoop, if_neg h]
