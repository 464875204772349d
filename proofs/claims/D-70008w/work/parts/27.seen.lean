/-! WHAT IS TOLD, plainly, by the model's arrays -/
def laM (a : Nat → Nat → Int32) : Nat → Int32 := fun c => lastsV (a 2 c) (a 5 c)
def toldF (n : Nat) (a : Nat → Nat → Int32) (x y i z : Int32) (rn set : Nat) : Bool := soV (cgo n (upd (a 3) (cix x) (nI set)) (a 4) (fun c => lastsV (a 2 c) (a 5 c)) (fun t => cix (a 27 (60 * cix y + cix i + t))) (cix z)) (a 22) (a 23) (a 24) rn
def kindF (n : Nat) (a : Nat → Nat → Int32) (x y i z : Int32) (rn k : Nat) : Bool := soV (cgo n (a 3) (a 4) (fun c => lastsV (upd (a 2) (cix x) (nI k) c) (a 5 c)) (fun t => cix (a 27 (60 * cix y + cix i + t))) (cix z)) (a 22) (a 23) (a 24) rn
def wearF (n : Nat) (a : Nat → Nat → Int32) (x y i z : Int32) (rn v : Nat) : Bool := decide (1 ≤ v) && soV (cgo n (a 3) (a 4) (fun c => lastsV (a 2 c) (upd (a 5) (cix x) (nI v) c)) (fun t => cix (a 27 (60 * cix y + cix i + t))) (cix z)) (a 22) (a 23) (a 24) rn
def M_told (n : Nat) (a : Nat → Nat → Int32) (x y lane i z w : Int32) (rn : Nat) : Int32 := if 0 ≤ (seenV n a x y lane i z (inP w 2)).1 then (if w = 0 then cntB (toldF n a x y i z rn) 64 else leastB (toldF n a x y i z rn) 64) else (seenV n a x y lane i z (inP w 2)).1
def M_kinds (n : Nat) (a : Nat → Nat → Int32) (x y lane i z : Int32) (rn : Nat) : Int32 := if 0 ≤ (seenV n a x y lane i z true).1 then mset (kindF n a x y i z rn) 3 else (seenV n a x y lane i z true).1
def M_wears (n : Nat) (a : Nat → Nat → Int32) (x y lane i z : Int32) (rn : Nat) : Int32 := if 0 ≤ (seenV n a x y lane i z true).1 then mset (wearF n a x y i z rn) 10 else (seenV n a x y lane i z true).1
def oddL (w k : Int32) : Int64 := if w = 0 then ((1 : Int64) <<< (k.toInt64 &&& 63)) - 1 else (1 : Int64) <<< (k.toInt64 &&& 63)
def M_odds (n : Nat) (a : Nat → Nat → Int32) (x y lane i z w : Int32) : Int64 := if 0 ≤ (seenV n a x y lane i z (inP w 2)).1 then
  (if (cgo n (a 3) (a 4) (fun c => lastsV (a 2 c) (a 5 c)) (fun t => cix (a 27 (60 * cix y + cix i + t))) (cix z)).2.1 < 0 then (if a 4 (cix x) = 6 then 1 else oddL w (cntB (fun j => bq ((cgo n (a 3) (a 4) (fun c => lastsV (a 2 c) (a 5 c)) (fun t => cix (a 27 (60 * cix y + cix i + t))) (cix z)).1.2.2.2.2 (cix x)) (nI j)) n)) else -9223372036854775808) else -9223372036854775808
theorem tr_id (g : Nat → Int32) (a : Nat → Nat → Int32) (v : Int32) : (upd g 0 v, a) = (upd (upd (upd g 0 v) 17 (g 17)) 18 (g 18), va_up (va_up (va_up (va_up (va_up a 12 (a 12)) 13 (a 13)) 14 (a 14)) 15 (a 15)) 16 (a 16)) := by
  have h1 : upd (upd g 0 v) 17 (g 17) = upd g 0 v := upd_id (upd g 0 v) 17
  have h2 : upd (upd g 0 v) 18 (g 18) = upd g 0 v := upd_id (upd g 0 v) 18
  rw [h1, h2]
  simp only [va_up_id]
theorem lin_01 (w : Int32) : lin w.toInt64 0 1 = inP w 2 := lin_inP w 1 2 (by decide)
theorem mset_w1 (f : Nat → Bool) : (0 : Int32) = mset (fun v => decide (1 ≤ v) && f v) 1 := by
  show _ = (mset _ 0 ||| _)
  rw [if_neg (by simp)]
  show (0 : Int32) = 0 ||| 0
  decide
