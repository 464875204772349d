/-! Int32 by its bits (rows of the kit's BITS family), sets as bits, rings -/
def bt (x : Int32) (i : Nat) : Bool := x.toBitVec.getLsbD i
theorem b_ext {x y : Int32} (h : ∀ i, i < 32 → bt x i = bt y i) : x = y := Int32.toBitVec_inj.mp (BitVec.eq_of_getLsbD_eq (fun i hi => h i hi))
theorem b_or (x y : Int32) (i : Nat) : bt (x ||| y) i = (bt x i || bt y i) := by unfold bt; rw [Int32.toBitVec_or, BitVec.getLsbD_or]
theorem b_and (x y : Int32) (i : Nat) : bt (x &&& y) i = (bt x i && bt y i) := by unfold bt; rw [Int32.toBitVec_and, BitVec.getLsbD_and]
theorem b_xor (x y : Int32) (i : Nat) : bt (x ^^^ y) i = (bt x i ^^ bt y i) := by unfold bt; rw [Int32.toBitVec_xor, BitVec.getLsbD_xor]
theorem b_m1 : ∀ i, i < 32 → bt (-1) i = true := by decide +kernel
theorem b_0 (i : Nat) : bt 0 i = false := BitVec.getLsbD_zero
theorem b_1 : ∀ i, i < 32 → bt 1 i = decide (i = 0) := by decide +kernel
theorem s_l : ∀ n, n < 32 → ((nI n &&& 31).toBitVec.smod 32).toNat = n := by decide +kernel
theorem b_shl (n : Nat) (hn : n < 32) (x : Int32) {i : Nat} (hi : i < 32) : bt (x <<< (nI n &&& 31)) i = (decide (n ≤ i) && bt x (i - n)) := by
  unfold bt
  rw [Int32.toBitVec_shiftLeft]
  show (x.toBitVec <<< ((nI n &&& 31).toBitVec.smod 32).toNat).getLsbD i = _
  rw [s_l n hn, BitVec.getLsbD_shiftLeft]
  rcases Nat.lt_or_ge i n with h | h
  · simp [h, Nat.not_le.mpr h]
  · simp [hi, h, Nat.not_lt.mpr h]
theorem b_sshr (n : Nat) (hn : n < 32) (x : Int32) {i : Nat} (hi : i < 32) : bt (x >>> (nI n &&& 31)) i = if n + i < 32 then bt x (n + i) else bt x 31 := by
  unfold bt
  rw [Int32.toBitVec_shiftRight]
  show (x.toBitVec.sshiftRight ((nI n &&& 31).toBitVec.smod 32).toNat).getLsbD i = _
  rw [s_l n hn, BitVec.getLsbD_sshiftRight, BitVec.msb_eq_getLsbD_last]
  simp [hi]
theorem b_one {n : Nat} (hn : n < 32) {i : Nat} (hi : i < 32) : bt ((1 : Int32) <<< (nI n &&& 31)) i = decide (i = n) := by
  rw [b_shl n hn 1 hi, b_1 _ (by omega)]
  by_cases h : i = n
  · subst h; simp
  · by_cases h2 : n ≤ i
    · have : ¬ i - n = 0 := by omega
      simp [h, this]
    · simp [h, h2]
theorem bq_bt (x : Int32) {k : Nat} (hk : k < 32) : bq x (nI k) = bt x k := by
  have e : bt (x >>> (nI k &&& 31)) 0 = bt x k := by
    rw [b_sshr k hk x (by omega), if_pos (by omega)]; rfl
  unfold bq
  rw [← e]
  generalize x >>> (nI k &&& 31) = y
  by_cases h : bt y 0 = true
  · rw [h, decide_eq_true_eq]
    refine b_ext (fun i hi => ?_)
    rw [b_and, b_1 i hi]
    by_cases hi0 : i = 0
    · subst hi0; simp [h]
    · simp [hi0]
  · have h2 : bt y 0 = false := by simpa using h
    rw [h2, decide_eq_false_iff_not]
    intro z
    have z2 := b_and y 1 0
    rw [z, h2, b_1 0 (by omega)] at z2
    exact absurd z2 (by decide)
theorem mset_bt (f : Nat → Bool) : ∀ n, n ≤ 31 → ∀ i, i < 32 → bt (mset f n) i = (decide (i < n) && f i)
  | 0, _, i, _ => by show bt 0 i = _; rw [b_0]; simp
  | n + 1, hn, i, hi => by
    show bt (mset f n ||| _) i = _
    rw [b_or, mset_bt f n (by omega) i hi]
    by_cases hf : f n = true
    · rw [if_pos hf, b_one (by omega) hi]
      by_cases h : i = n
      · subst h; simp [hf]
      · by_cases h2 : i < n
        · have : i < n + 1 := by omega
          simp [h, h2, this]
        · have : ¬ i < n + 1 := by omega
          simp [h, h2, this]
    · rw [if_neg hf, b_0, Bool.or_false]
      by_cases h : i = n
      · subst h; simp; simpa using hf
      · by_cases h2 : i < n
        · have : i < n + 1 := by omega
          simp [h2, this]
        · have : ¬ i < n + 1 := by omega
          simp [h2, this]
def setB (S : Nat → Bool) (j : Nat) : Nat → Bool := fun i => S i || decide (i = j)
theorem mset_set (S : Nat → Bool) {n j : Nat} (hn : n ≤ 31) (hj : j < n) : (mset S n ||| ((1 : Int32) <<< (nI j &&& 31))) = mset (setB S j) n := by
  refine b_ext (fun i hi => ?_)
  rw [b_or, mset_bt S n hn i hi, mset_bt _ n hn i hi, b_one (by omega) hi]
  unfold setB
  by_cases h : i = j
  · subst h; simp [hj]
  · simp [h]
theorem mset_bq (S : Nat → Bool) {n j : Nat} (hn : n ≤ 31) (hj : j < n) : bq (mset S n) (nI j) = S j := by
  rw [bq_bt _ (by omega), mset_bt S n hn j (by omega), decide_eq_true hj, Bool.true_and]
theorem mset_F (n : Nat) : mset (fun _ => false) n = 0 := by
  induction n with
  | zero => rfl
  | succ n ih =>
    show (mset _ n ||| _) = _
    rw [ih, if_neg (by simp)]
    decide
theorem evb_all : ∀ n, n ≤ 6 → evb n = mset (fun _ => true) n := by decide +kernel
/-- how many of the first n are not yet in S -/
def cU (S : Nat → Bool) : Nat → Nat
  | 0 => 0
  | i + 1 => cU S i + (if S i = true then 0 else 1)
theorem cU_le (S : Nat → Bool) : ∀ n, cU S n ≤ n
  | 0 => Nat.le_refl 0
  | n + 1 => by
    have := cU_le S n
    show cU S n + _ ≤ _
    split <;> omega
theorem cU_set {S : Nat → Bool} {x : Nat} (hx : S x = false) : ∀ n, cU (setB S x) n + (if x < n then 1 else 0) = cU S n
  | 0 => by simp [cU]
  | n + 1 => by
    have ih := cU_set hx n
    show cU (setB S x) n + (if setB S x n = true then 0 else 1) + _ = cU S n + (if S n = true then 0 else 1)
    by_cases h : n = x
    · subst h
      have h1 : setB S n n = true := by simp [setB]
      have h2 : ¬ n < n := by omega
      have h3 : n < n + 1 := by omega
      rw [if_neg h2] at ih
      rw [if_pos h1, if_pos h3, hx]
      simp; omega
    · have h1 : setB S x n = S n := by simp [setB, h]
      rw [h1]
      by_cases h2 : x < n
      · have h3 : x < n + 1 := by omega
        rw [if_pos h2] at ih; rw [if_pos h3]; omega
      · have h3 : ¬ x < n + 1 := by omega
        rw [if_neg h2] at ih; rw [if_neg h3]; omega
theorem cU_lt {S : Nat → Bool} {x n : Nat} (hx : S x = false) (hn : x < n) : cU (setB S x) n + 1 = cU S n := by
  have := cU_set hx n
  rw [if_pos hn] at this
  exact this
def ring (h : Nat → Nat) : Nat → (Nat → Bool) → Nat → (Nat → Bool)
  | 0, S, _ => S
  | f + 1, S, x => if S x = true then S else ring h f (setB S x) (h x)
def homM (h : Nat → Nat) (n : Nat) : Nat → (Nat → Bool) × Nat
  | 0 => (fun _ => false, 0)
  | p + 1 => (ring h (n + 1) (homM h n p).1 p, (homM h n p).2 + (if (homM h n p).1 p = true then 0 else 1))
theorem ring_t {h : Nat → Nat} {f : Nat} {S : Nat → Bool} {x : Nat} (hx : S x = true) : ring h (f + 1) S x = S := by rw [ring, if_pos hx]
theorem ring_f {h : Nat → Nat} {f : Nat} {S : Nat → Bool} {x : Nat} (hx : S x = false) : ring h (f + 1) S x = ring h f (setB S x) (h x) := by rw [ring, if_neg (by rw [hx]; decide)]
theorem ring_congr {h h' : Nat → Nat} {n : Nat} (hh : ∀ j, j < n → h j = h' j) (hb : ∀ j, j < n → h j < n) : ∀ (f : Nat) (S : Nat → Bool) (x : Nat), x < n → ring h f S x = ring h' f S x
  | 0, _, _, _ => rfl
  | f + 1, S, x, hx => by
    unfold ring
    split
    · rfl
    · rw [ring_congr hh hb f _ _ (hb x hx), hh x hx]
theorem homM_congr {h h' : Nat → Nat} {n : Nat} (hh : ∀ j, j < n → h j = h' j) (hb : ∀ j, j < n → h j < n) : ∀ p, p ≤ n → homM h n p = homM h' n p
  | 0, _ => rfl
  | p + 1, hp => by
    unfold homM
    rw [homM_congr hh hb p (by omega), ring_congr hh hb _ _ _ (by omega)]
theorem homM_le (h : Nat → Nat) (n : Nat) : ∀ p, (homM h n p).2 ≤ p
  | 0 => Nat.le_refl 0
  | p + 1 => by
    have := homM_le h n p
    show (homM h n p).2 + _ ≤ _
    split <;> omega
def whatV (w : Int32) : Bool := lin w.toInt64 0 3 || (lin w.toInt64 10 15 || (lin w.toInt64 20 25 || lin w.toInt64 30 35))
/-- what is asked of a row of loans; hm: the way home -/
def lval {F : Type} (n : Nat) (wa : Nat → Int32) (T : LnS F × Int32 × Int32) (hm w : Int32) : Int32 :=
  if w = 1 then T.2.1 else if T.2.1 < 0 then (if w ≤ 9 then (if w = 0 then lmend wa n T.1 else if w = 2 then T.2.2 else hm) else (if inP (w - w / 10 * 10) n = true then (if 20 ≤ w then (if 30 ≤ w then T.1.2.1 (cix (w - w / 10 * 10)) else T.1.2.2.2.1 (cix (w - w / 10 * 10))) else T.1.1 (cix (w - w / 10 * 10))) else -9)) else (-100) - T.2.1
def hmV {F : Type} (n : Nat) (S : LnS F) : Int32 := nI n - nI (homM (fun j => cix (S.1 j)) n n).2
theorem hm_congr {F F' : Type} {n : Nat} {S : LnS F} {S' : LnS F'} (h : agr n S S') (hh : hasOk n S.1) : hmV n S = hmV n S' := by
  unfold hmV
  rw [homM_congr (fun j hj => congrArg cix (h j hj).1) (fun j hj => (hh j hj).2) n (Nat.le_refl n)]
theorem lval_congr {F F' : Type} {n : Nat} {wa wa' : Nat → Int32} {T : LnS F × Int32 × Int32} {T' : LnS F' × Int32 × Int32} {hm hm' w : Int32} (hn : n < 2 ^ 31) (hwa : ∀ j, j < n → wa j = wa' j) (h : agr n T.1 T'.1) (h2 : T.2 = T'.2) (h3 : hm = hm') : lval n wa T hm w = lval n wa' T' hm' w := by
  unfold lval
  rw [h2, h3, agr_mend hwa h]
  by_cases hp : inP (w - w / 10 * 10) n = true
  · obtain ⟨-, hlt⟩ := inP_e hn hp
    obtain ⟨a1, a2, -, a4⟩ := h _ hlt
    rw [a1, a2, a4]
  · simp only [if_neg hp]
def M_loans (n : Nat) (a : Nat → Nat → Int32) (x lane i z w : Int32) : Int32 × Int32 :=
  if inP x 4 = true then (if inP lane 3 = true ∧ inP z 21 = true ∧ whatV w = true then (if n = 0 then (-3, 0) else
    (if 0 ≤ (pairsV n (a 25 (cix x)) (a 26 (cix x)) (fun t => a 27 (60 * cix x + cix i + t)) lane i (cix z)).1 then
      (lval n (a 4) (cgo n (a 3) (a 4) (fun c => lastsV (a 2 c) (a 5 c)) (fun t => cix (a 27 (60 * cix x + cix i + t))) (cix z)) (hmV n (cgo n (a 3) (a 4) (fun c => lastsV (a 2 c) (a 5 c)) (fun t => cix (a 27 (60 * cix x + cix i + t))) (cix z)).1) w, 0)
     else pairsV n (a 25 (cix x)) (a 26 (cix x)) (fun t => a 27 (60 * cix x + cix i + t)) lane i (cix z))) else (-2, 0)) else (-1, 0)
