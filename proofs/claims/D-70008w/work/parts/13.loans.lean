/-! LOANS, plainly: has, left, lent, knows, and a fifth thing that 'sees' moves by fu -/
def lastsV (k w : Int32) : Int32 := if k = 0 then w else if k = 1 then w + 1 else 2 * (w + 1)
def isMend (w k : Int32) : Bool := decide (w = 6) || bq k w
def mset (f : Nat → Bool) : Nat → Int32
  | 0 => 0
  | i + 1 => mset f i ||| (if f i = true then (1 : Int32) <<< (nI i &&& 31) else 0)
theorem mset_t {f : Nat → Bool} {i : Nat} (h : f i = true) : (mset f i ||| ((1 : Int32) <<< (nI i &&& 31))) = mset f (i + 1) := by
  show _ = (mset f i ||| _)
  rw [if_pos h]
theorem mset_f {f : Nat → Bool} {i : Nat} (h : f i = false) : (mset f i ||| 0) = mset f (i + 1) := by
  show _ = (mset f i ||| _)
  rw [if_neg (by rw [h]; decide)]
def hasOk (n : Nat) (f : Nat → Int32) : Prop := ∀ j, j < n → f j = nI (cix (f j)) ∧ cix (f j) < n
def cutF (n : Nat) (f f0 : Nat → Int32) : Nat → Int32 := fun j => if j < n then f j else f0 j
theorem cutF_0 (f f0 : Nat → Int32) : cutF 0 f f0 = f0 := by funext j; simp [cutF]
theorem cutF_s {n : Nat} {f f0 : Nat → Int32} {v : Int32} (h : v = f n) : upd (cutF n f f0) n v = cutF (n + 1) f f0 := by
  funext j
  simp only [upd, cutF]
  by_cases h1 : j = n
  · subst h1; simp [h]
  · by_cases h2 : j < n
    · have : j < n + 1 := by omega
      simp [h1, h2, this]
    · have : ¬ j < n + 1 := by omega
      simp [h1, h2, this]
theorem cutF_in {n j : Nat} {f f0 : Nat → Int32} (h : j < n) : cutF n f f0 j = f j := if_pos h
theorem cutF_out {n j : Nat} {f f0 : Nat → Int32} (h : n ≤ j) : cutF n f f0 j = f0 j := if_neg (Nat.not_lt.mpr h)
theorem upd_s (f : Nat → Int32) (k : Nat) (v : Int32) : upd f k v k = v := if_pos rfl
theorem upd_n (f : Nat → Int32) {k j : Nat} (v : Int32) (h : j ≠ k) : upd f k v j = f j := if_neg h
theorem upd_id (f : Nat → Int32) (k : Nat) : upd f k (f k) = f := by
  funext j
  by_cases h : j = k
  · subst h; exact upd_s _ _ _
  · exact upd_n _ _ h
theorem va_up_id {α : Type} (f : Nat → α) (k : Nat) : va_up f k (f k) = f := by
  funext j
  by_cases h : j = k
  · subst h; exact va_up_self _ _ _
  · exact va_up_ne _ _ h
theorem upd_uu (f : Nat → Int32) (k : Nat) (v w : Int32) : upd (upd f k v) k w = upd f k w := by
  funext j
  by_cases h : j = k
  · subst h; rw [upd_s, upd_s]
  · rw [upd_n _ _ h, upd_n _ _ h, upd_n _ _ h]
abbrev LnS (F : Type) : Type := (Nat → Int32) × (Nat → Int32) × (Nat → Int32) × (Nat → Int32) × F
def lsee {F : Type} (fu : F → Nat → Int32 → Int32 → F) (j : Nat) (S : LnS F) : LnS F := (S.1, S.2.1, S.2.2.1, upd S.2.2.2.1 j (S.2.2.2.1 j ||| S.2.1 (cix (S.1 j))), fu S.2.2.2.2 j (S.1 j) (S.2.1 (cix (S.1 j))))
def lwear {F : Type} (la : Nat → Int32) (c : Nat) (S : LnS F) : LnS F := (S.1, (if S.2.2.1 c + 1 ≤ la c then S.2.1 else upd S.2.1 c (S.2.1 c &&& (S.2.1 c - 1))), upd S.2.2.1 c (S.2.2.1 c + 1), S.2.2.2.1, S.2.2.2.2)
def lswap {F : Type} (i j : Nat) (S : LnS F) : LnS F := (upd (upd S.1 i (S.1 j)) j (S.1 i), S.2)
def llend {F : Type} (fu : F → Nat → Int32 → Int32 → F) (la : Nat → Int32) (i j : Nat) (S : LnS F) : LnS F :=
  lsee fu j (lsee fu i (lwear la (cix ((lswap i j S).1 j)) (lwear la (cix ((lswap i j S).1 i)) (lswap i j S))))
def lcan {F : Type} (i j : Nat) (S : LnS F) : Bool := decide (i ≠ j) && (decide (S.2.1 (cix (S.1 i)) ≠ 0) && decide (S.2.1 (cix (S.1 j)) ≠ 0))
def lmend {F : Type} (wa : Nat → Int32) (n : Nat) (S : LnS F) : Int32 := mset (fun p => isMend (wa p) (S.2.2.2.1 p)) n
def lall {F : Type} (wa : Nat → Int32) (n : Nat) (S : LnS F) : Bool := decide (lmend wa n S = evb n)
theorem lall_t {F : Type} {wa : Nat → Int32} {n : Nat} {S : LnS F} (h : mset (fun p => isMend (wa p) (S.2.2.2.1 p)) n = evb n) : lall wa n S = true := decide_eq_true h
theorem lall_f {F : Type} {wa : Nat → Int32} {n : Nat} {S : LnS F} (h : ¬ mset (fun p => isMend (wa p) (S.2.2.2.1 p)) n = evb n) : lall wa n S = false := decide_eq_false h
/-- one pair: the loan is made, or it is the first wrong one; none behind a wrong one -/
def lstep {F : Type} (fu : F → Nat → Int32 → Int32 → F) (la wa : Nat → Int32) (n : Nat) (were : Bool) (pr : Nat → Nat) (x : Nat) (T : LnS F × Int32 × Int32) : LnS F × Int32 × Int32 :=
  if 0 ≤ T.2.1 then T else if lcan (pr (2 * x)) (pr (2 * x + 1)) T.1 = true then
    (llend fu la (pr (2 * x)) (pr (2 * x + 1)) T.1, T.2.1, if were = false ∧ ¬ 0 ≤ T.2.2 ∧ lall wa n (llend fu la (pr (2 * x)) (pr (2 * x + 1)) T.1) = true then nI x else T.2.2)
  else (T.1, nI x, T.2.2)
def lgo {F : Type} (fu : F → Nat → Int32 → Int32 → F) (la wa : Nat → Int32) (n : Nat) (pr : Nat → Nat) (S : LnS F) : Nat → LnS F × Int32 × Int32
  | 0 => (S, (-9), (-9))
  | x + 1 => lstep fu la wa n (lall wa n S) pr x (lgo fu la wa n pr S x)
theorem lgo_stuck {F : Type} (fu : F → Nat → Int32 → Int32 → F) (la wa : Nat → Int32) (n : Nat) (pr : Nat → Nat) (S : LnS F) {x : Nat} (h : 0 ≤ (lgo fu la wa n pr S x).2.1) : ∀ y, x ≤ y → lgo fu la wa n pr S y = lgo fu la wa n pr S x := by
  intro y hy
  induction y with
  | zero => rw [Nat.le_zero.mp hy]
  | succ y ih =>
    by_cases e : x = y + 1
    · rw [e]
    · have h1 := ih (by omega)
      show lstep fu la wa n _ pr y (lgo fu la wa n pr S y) = _
      rw [h1]
      unfold lstep
      rw [if_pos h]
/-- the places that are had stay people -/
theorem hasOk_swap {n i j : Nat} {f : Nat → Int32} (h : hasOk n f) (hi : i < n) (hj : j < n) : hasOk n (upd (upd f i (f j)) j (f i)) := by
  intro k hk
  by_cases h1 : k = j
  · subst h1; rw [upd_s]; exact h i hi
  · rw [upd_n _ _ h1]
    by_cases h2 : k = i
    · subst h2; rw [upd_s]; exact h j hj
    · rw [upd_n _ _ h2]; exact h k hk
theorem hasOk_lend {F : Type} {fu : F → Nat → Int32 → Int32 → F} {la : Nat → Int32} {n i j : Nat} {S : LnS F} (h : hasOk n S.1) (hi : i < n) (hj : j < n) : hasOk n (llend fu la i j S).1 := hasOk_swap h hi hj
theorem hasOk_id (n : Nat) (f0 : Nat → Int32) (hn : n < 2 ^ 31) : hasOk n (cutF n nI f0) := by
  intro k hk
  rw [cutF_in hk, cix_nI (by omega)]
  exact ⟨rfl, hk⟩
theorem hasOk_go {F : Type} {fu : F → Nat → Int32 → Int32 → F} {la wa : Nat → Int32} {n N : Nat} {pr : Nat → Nat} {S : LnS F} (h : hasOk n S.1) (hp : ∀ t, t < 2 * N → pr t < n) : ∀ x, x ≤ N → hasOk n (lgo fu la wa n pr S x).1.1 := by
  intro x
  induction x with
  | zero => intro _; exact h
  | succ x ih =>
    intro hx
    have h1 := ih (by omega)
    show hasOk n (lstep fu la wa n _ pr x (lgo fu la wa n pr S x)).1.1
    unfold lstep
    split
    · exact h1
    · split
      · exact hasOk_lend h1 (hp _ (by omega)) (hp _ (by omega))
      · exact h1
def fuM (wa : Nat → Int32) (f : Nat → Int32) (j : Nat) (c lf : Int32) : Nat → Int32 := upd f j (f j ||| (if bq lf (wa j) = true then (1 : Int32) <<< (c &&& 31) else 0))
theorem mset_congr {f k : Nat → Bool} : ∀ {n : Nat}, (∀ j, j < n → f j = k j) → mset f n = mset k n
  | 0, _ => rfl
  | n + 1, h => by
    show mset f n ||| _ = mset k n ||| _
    rw [mset_congr (fun j hj => h j (by omega)), h n (by omega)]
def lbegA {F : Type} (n : Nat) (sc : Nat → Int32) (S : LnS F) (f0 : F) : LnS F := (cutF n nI S.1, cutF n sc S.2.1, cutF n (fun _ => 0) S.2.2.1, cutF n (fun _ => 0) S.2.2.2.1, f0)
def lsees {F : Type} (fu : F → Nat → Int32 → Int32 → F) (S : LnS F) : Nat → LnS F
  | 0 => S
  | i + 1 => lsee fu i (lsees fu S i)
theorem lsees_has {F : Type} (fu : F → Nat → Int32 → Int32 → F) (S : LnS F) : ∀ i, (lsees fu S i).1 = S.1
  | 0 => rfl
  | i + 1 => lsees_has fu S i
theorem lsees_left {F : Type} (fu : F → Nat → Int32 → Int32 → F) (S : LnS F) : ∀ i, (lsees fu S i).2.1 = S.2.1
  | 0 => rfl
  | i + 1 => lsees_left fu S i
theorem lsees_lent {F : Type} (fu : F → Nat → Int32 → Int32 → F) (S : LnS F) : ∀ i, (lsees fu S i).2.2.1 = S.2.2.1
  | 0 => rfl
  | i + 1 => lsees_lent fu S i
/-- the beginning, as the model makes it -/
def mbeg (n : Nat) (sc wa : Nat → Int32) (S : LnS (Nat → Int32)) : LnS (Nat → Int32) := lsees (fuM wa) (lbegA n sc S (cutF n (fun _ => 0) S.2.2.2.2)) n
theorem mbeg_has (n : Nat) (sc wa : Nat → Int32) (S : LnS (Nat → Int32)) : (mbeg n sc wa S).1 = cutF n nI S.1 := lsees_has _ _ _
theorem mbeg_ok {n : Nat} (sc wa : Nat → Int32) (S : LnS (Nat → Int32)) (hn : n < 2 ^ 31) : hasOk n (mbeg n sc wa S).1 := by
  rw [mbeg_has]; exact hasOk_id n _ hn
theorem ix_f2 (f x : Nat) : nI f + 2 * nI x = nI (f + 2 * x) := by
  rw [show (2 : Int32) = nI 2 from rfl, pk_mul, nI_add]
theorem ix_f21 (f x : Nat) : nI f + 2 * nI x + 1 = nI (f + (2 * x + 1)) := by
  rw [ix_f2, nI_1]; rfl
