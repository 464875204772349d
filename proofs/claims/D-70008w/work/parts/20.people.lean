/-! THE MODEL's SMALL OPERATIONS ON PEOPLE, plainly -/
def ofPv (kd sc wa we what : Int32) : Int32 := if what = 0 then kd else if what = 1 then sc else if what = 2 then wa else if what = 3 then we else if what = 4 then lastsV kd we else -2
def M_ofPerson (n : Nat) (a : Nat → Nat → Int32) (x what : Int32) : Int32 := if inP x n = true then ofPv (a 2 (cix x)) (a 3 (cix x)) (a 4 (cix x)) (a 5 (cix x)) what else -1
def M_live (n : Nat) (g : Nat → Int32) (a : Nat → Nat → Int32) (x set : Int32) : Int32 × MS := if inP x n = true then (if inP set 64 = true then (a 3 (cix x), g, va_up a 3 (upd (a 3) (cix x) set)) else (-2, g, a)) else (-1, g, a)
def M_want (n : Nat) (g : Nat → Int32) (a : Nat → Nat → Int32) (x set : Int32) : Int32 × MS := if inP x n = true then (if inP set 7 = true then (a 4 (cix x), g, va_up a 4 (upd (a 4) (cix x) set)) else (-2, g, a)) else (-1, g, a)
def tellR (k w : Int32) : Int32 := if k = 0 then w else if k = 1 then w + 100 else 2 * w + 100
def tellT (k t : Int32) : Int32 := if k = 0 then 31 * t + 1 else if k = 1 then 31 * (31 * t + 2) + 1 else 31 * (31 * (31 * (31 * t + 3) + 2) + 1) + 1
def M_tell (n : Nat) (g : Nat → Int32) (a : Nat → Nat → Int32) (x : Int32) : Int32 × MS := if inP x n = true then (tellR (a 2 (cix x)) (a 5 (cix x)), upd g 29 (tellT (a 2 (cix x)) (g 29)), a) else (-1, g, a)
def M_hand (n : Nat) (g : Nat → Int32) (a : Nat → Nat → Int32) (x : Int32) : Int32 × MS := if inP x n = true then ((if a 2 (cix x) = 2 then 40 else x), upd g 29 (31 * g 29 + (if a 2 (cix x) = 2 then 5 else 4)), a) else (-1, g, a)
def M_as (n : Nat) (g : Nat → Int32) (a : Nat → Nat → Int32) (x kind : Int32) : Int32 × MS := if inP x n = true then (if inP kind 3 = true then (if a 2 (cix x) < kind then (-12, upd g 0 2, a) else (1, upd g 0 0, a)) else (-2, upd g 0 0, a)) else (-1, upd g 0 0, a)
def hcnt (sc wa : Nat → Int32) (P : Nat) : Nat → Int32
  | 0 => 0
  | i + 1 => hcnt sc wa P i + (if ¬ 6 ≤ wa i ∧ bq (sc P) (wa i) = true ∧ bq (sc i) (wa i) = false then 1 else 0)
theorem hcnt_1 {sc wa : Nat → Int32} {P i : Nat} (h1 : ¬ 6 ≤ wa i) (h2 : bq (sc P) (wa i) = true) (h3 : bq (sc i) (wa i) = false) : hcnt sc wa P i + 1 = hcnt sc wa P (i + 1) := by
  show _ = hcnt sc wa P i + _
  rw [if_pos ⟨h1, h2, h3⟩]
theorem hcnt_0 {sc wa : Nat → Int32} {P i : Nat} (h : ¬ (¬ 6 ≤ wa i ∧ bq (sc P) (wa i) = true ∧ bq (sc i) (wa i) = false)) : hcnt sc wa P i + 0 = hcnt sc wa P (i + 1) := by
  show _ = hcnt sc wa P i + _
  rw [if_neg h]
def M_help (n : Nat) (a : Nat → Nat → Int32) (x : Int32) : Int32 := if inP x n = true then hcnt (a 3) (a 4) (cix x) n else -1
def M_reading (n rn : Nat) (g : Nat → Int32) (a : Nat → Nat → Int32) (x sc : Int32) (b : Bool) : Int32 × MS :=
  if inP x n = true ∧ inP sc 6 = true then (if rn = 8 then (-4, g, a) else (nI rn, upd g 21 (nI (rn + 1)), va_up (va_up (va_up a 22 (upd (a 22) rn x)) 23 (upd (a 23) rn sc)) 24 (upd (a 24) rn (b2i b)))) else (-1, g, a)
def M_back (rn : Nat) (g : Nat → Int32) (a : Nat → Nat → Int32) (x : Int32) : Int32 × MS := if inP x (rn + 1) = true then (nI (rn - cix x), upd g 21 (nI (rn - cix x)), a) else (-2, g, a)
theorem sw_out {x : Int32} {n : Nat} (hn : n < 2 ^ 31) (h : ∀ j, j < n → ¬ x = nI j) : x.toInt < 0 ∨ (n : Int) - 1 < x.toInt := by
  by_cases h1 : x.toInt < 0
  · exact Or.inl h1
  · by_cases h2 : (n : Int) - 1 < x.toInt
    · exact Or.inr h2
    · exfalso
      obtain ⟨j, hj, e⟩ := vp_in_of (vp_in_iff.mpr (show 0 ≤ x.toInt ∧ x.toInt < (n : Int) by omega)) hn
      exact h j hj e
theorem lin_read (x : Int32) {n : Nat} (hn : n ≤ 8) : lin x.toInt64 0 (nI n).toInt64 = inP x (n + 1) := by
  refine lin_inP x _ _ ?_
  rw [Int32.toInt_toInt64, nI_toInt (by omega)]
  omega
theorem nI_8 {n : Nat} (hn : n ≤ 8) : nI n = 8 ↔ n = 8 := by
  rw [show (8 : Int32) = nI 8 from rfl]; exact nI_eq (by omega) (by omega)
def kdOk (n : Nat) (f : Nat → Int32) : Prop := ∀ j, j < n → f j = 0 ∨ f j = 1 ∨ f j = 2
