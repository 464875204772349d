/-! THE MATCH BY NUMBERS, plainly -/
def mbC (isf : Nat → Nat → Bool) (d : Nat → Nat) (n : Nat) : Nat → Int32
  | 0 => 0
  | k + 1 => mbC isf d n k + (if isf (n - 1 - k) (d (n - 1 - k)) = true then 1 else 0)
def mbT (d : Nat → Nat) (n : Nat) : Nat → Int32
  | 0 => 0
  | k + 1 => mbT d n k ||| ((1 : Int32) <<< (nI (d (n - 1 - k)) &&& 31))
theorem mbC_t {isf : Nat → Nat → Bool} {d : Nat → Nat} {n t : Nat} (h : t < n) (hi : isf t (d t) = true) : mbC isf d n (n - (t + 1)) + 1 = mbC isf d n (n - t) := by
  rw [show n - t = (n - (t + 1)) + 1 by omega]
  show _ = mbC isf d n (n - (t + 1)) + _
  rw [show n - 1 - (n - (t + 1)) = t by omega, if_pos hi]
theorem mbC_f {isf : Nat → Nat → Bool} {d : Nat → Nat} {n t : Nat} (h : t < n) (hi : isf t (d t) = false) : mbC isf d n (n - (t + 1)) + 0 = mbC isf d n (n - t) := by
  rw [show n - t = (n - (t + 1)) + 1 by omega]
  show _ = mbC isf d n (n - (t + 1)) + _
  rw [show n - 1 - (n - (t + 1)) = t by omega, if_neg (by rw [hi]; decide)]
theorem mbT_s {d : Nat → Nat} {n t : Nat} (h : t < n) : (mbT d n (n - (t + 1)) ||| ((1 : Int32) <<< (nI (d t) &&& 31))) = mbT d n (n - t) := by
  rw [show n - t = (n - (t + 1)) + 1 by omega]
  show _ = (mbT d n (n - (t + 1)) ||| _)
  rw [show n - 1 - (n - (t + 1)) = t by omega]
theorem dg_eq {n R t : Nat} (h : t < n) : R / n ^ (n - (t + 1)) % n = dg n R n t := by
  unfold dg
  rw [show n - 1 - t = n - (t + 1) by omega]
def isfV (sc wa : Nat → Int32) (p c : Nat) : Bool := decide (wa p = 6) || bq (sc p ||| sc c) (wa p)
def mbV (sc wa : Nat → Int32) (n R : Nat) : Int32 := if mbT (dg n R n) n n = evb n then mbC (isfV sc wa) (dg n R n) n n else -9
def bmV (mv : Nat → Int32) : Nat → Nat × Int32
  | 0 => (0, -1)
  | r + 1 => if mv r ≤ (bmV mv r).2 then bmV mv r else (r, mv r)
theorem bmV_k {mv : Nat → Int32} {r : Nat} (h : mv r ≤ (bmV mv r).2) : bmV mv (r + 1) = bmV mv r := by rw [bmV, if_pos h]
theorem bmV_n {mv : Nat → Int32} {r : Nat} (h : ¬ mv r ≤ (bmV mv r).2) : bmV mv (r + 1) = (r, mv r) := by rw [bmV, if_neg h]
theorem bmV_le (mv : Nat → Int32) : ∀ r, (bmV mv r).1 ≤ r
  | 0 => Nat.le_refl 0
  | r + 1 => by
    have := bmV_le mv r
    unfold bmV
    split
    · omega
    · exact Nat.le_succ r
theorem pown_le : ∀ n, n ≤ 6 → n ^ n ≤ 46656 := by decide
theorem pown_k : ∀ n, n ≤ 6 → ∀ k, k ≤ 6 → n ^ k ≤ 46656 := by decide
def M_match (n : Nat) (a : Nat → Nat → Int32) (x : Int32) : Int32 := if -1 ≤ x then (if n = 0 then -3 else (if 0 ≤ x then (if inP x n = true then nI (dg n (bmV (mbV (a 3) (a 4) n) (n ^ n)).1 n (cix x)) else -9) else (bmV (mbV (a 3) (a 4) n) (n ^ n)).2)) else -1
