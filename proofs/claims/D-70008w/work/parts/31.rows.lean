/-! ROWS BY NUMBERS, plainly: digits, the fewest, the match -/
def dg (b row len j : Nat) : Nat := row / b ^ (len - 1 - j) % b
def tdF (b row M t : Nat) (f0 : Nat → Int32) : Nat → Int32 := fun j => if t ≤ j ∧ j < M then nI (dg b row M j) else f0 j
theorem tdF_M (b row M : Nat) (f0 : Nat → Int32) : tdF b row M M f0 = f0 := by
  funext j
  have h : ¬ (M ≤ j ∧ j < M) := by omega
  simp only [tdF, if_neg h]
theorem tdF_in {b row M j : Nat} {f0 : Nat → Int32} (h : j < M) : tdF b row M 0 f0 j = nI (dg b row M j) := by
  simp only [tdF, if_pos (And.intro (Nat.zero_le j) h)]
theorem tdF_s {b row M t : Nat} {f0 : Nat → Int32} (h : t < M) {v : Int32} (hv : v = nI (row / b ^ (M - (t + 1)) % b)) : upd (tdF b row M (t + 1) f0) t v = tdF b row M t f0 := by
  funext j
  simp only [upd, tdF]
  by_cases h1 : j = t
  · subst h1
    have h2 : j ≤ j ∧ j < M := ⟨Nat.le_refl _, h⟩
    rw [if_pos rfl, if_pos h2, hv]
    unfold dg
    rw [show M - 1 - j = M - (j + 1) by omega]
  · by_cases h2 : t + 1 ≤ j ∧ j < M
    · have h3 : t ≤ j ∧ j < M := by omega
      rw [if_neg h1, if_pos h2, if_pos h3]
    · have h3 : ¬ (t ≤ j ∧ j < M) := by omega
      rw [if_neg h1, if_neg h2, if_neg h3]
theorem dg_div {b row M t : Nat} (h : t < M) : row / b ^ (M - (t + 1)) / b = row / b ^ (M - t) := by
  rw [Nat.div_div_eq_div_mul, ← Nat.pow_succ]
  congr 2
  omega
theorem dg_lt {b row len j : Nat} (hb : 0 < b) : dg b row len j < b := Nat.mod_lt _ hb
theorem pre_neg : ∀ t, t < 10 → ((nI t - 1 < 0) ↔ t = 0) := by decide +kernel
/-- loans of a row of pairs (6 a + b), a < b < n; the rest isn't gone once one can't be -/
def rstep {F : Type} (fu : F → Nat → Int32 → Int32 → F) (la : Nat → Int32) (n : Nat) (d : Nat → Nat) (x : Nat) (Q : LnS F × Bool) : LnS F × Bool :=
  if Q.2 = false then Q else if d x / 6 < d x % 6 ∧ d x % 6 < n ∧ lcan (d x / 6) (d x % 6) Q.1 = true then (llend fu la (d x / 6) (d x % 6) Q.1, true) else (Q.1, false)
def rgo {F : Type} (fu : F → Nat → Int32 → Int32 → F) (la : Nat → Int32) (n : Nat) (d : Nat → Nat) (S : LnS F) : Nat → LnS F × Bool
  | 0 => (S, true)
  | x + 1 => rstep fu la n d x (rgo fu la n d S x)
theorem rgo_stuck {F : Type} {fu : F → Nat → Int32 → Int32 → F} {la : Nat → Int32} {n : Nat} {d : Nat → Nat} {S : LnS F} {x : Nat} (h : (rgo fu la n d S x).2 = false) : ∀ y, x ≤ y → rgo fu la n d S y = rgo fu la n d S x := by
  intro y hy
  induction y with
  | zero => rw [Nat.le_zero.mp hy]
  | succ y ih =>
    by_cases e : x = y + 1
    · rw [e]
    · have h1 := ih (by omega)
      show rstep fu la n d y (rgo fu la n d S y) = _
      rw [h1, rstep, if_pos h]
theorem hasOk_rgo {F : Type} {fu : F → Nat → Int32 → Int32 → F} {la : Nat → Int32} {n : Nat} {d : Nat → Nat} {S : LnS F} (h : hasOk n S.1) : ∀ x, hasOk n (rgo fu la n d S x).1.1
  | 0 => h
  | x + 1 => by
    have h1 := hasOk_rgo (fu := fu) (la := la) (d := d) h x
    show hasOk n (rstep fu la n d x (rgo fu la n d S x)).1.1
    unfold rstep
    split
    · exact h1
    · split
      · rename_i h2
        exact hasOk_lend h1 (by omega) h2.2.1
      · exact h1
theorem agr_rgo {F F' : Type} {n : Nat} {fu : F → Nat → Int32 → Int32 → F} {fu' : F' → Nat → Int32 → Int32 → F'} {la la' : Nat → Int32} {Rf : F → F' → Prop} (hfu : ∀ f f' j c lf, j < n → cix c < n → c = nI (cix c) → Rf f f' → Rf (fu f j c lf) (fu' f' j c lf)) (hla : ∀ j, j < n → la j = la' j) {S : LnS F} {S' : LnS F'} (hh : hasOk n S.1) (h : agr n S S') (hR : Rf S.2.2.2.2 S'.2.2.2.2) {d d' : Nat → Nat} {N : Nat} (hd : ∀ t, t < N → d t = d' t) :
    ∀ x, x ≤ N → agr n (rgo fu la n d S x).1 (rgo fu' la' n d' S' x).1 ∧ Rf (rgo fu la n d S x).1.2.2.2.2 (rgo fu' la' n d' S' x).1.2.2.2.2 ∧ (rgo fu la n d S x).2 = (rgo fu' la' n d' S' x).2 := by
  intro x
  induction x with
  | zero => intro _; exact ⟨h, hR, rfl⟩
  | succ x ih =>
    intro hx
    obtain ⟨i1, i2, i3⟩ := ih (by omega)
    have hg := hasOk_rgo (fu := fu) (la := la) (d := d) hh x
    show agr n (rstep fu la n d x (rgo fu la n d S x)).1 (rstep fu' la' n d' x (rgo fu' la' n d' S' x)).1 ∧ Rf (rstep fu la n d x (rgo fu la n d S x)).1.2.2.2.2 (rstep fu' la' n d' x (rgo fu' la' n d' S' x)).1.2.2.2.2 ∧ (rstep fu la n d x (rgo fu la n d S x)).2 = (rstep fu' la' n d' x (rgo fu' la' n d' S' x)).2
    generalize rgo fu la n d S x = T at i1 i2 i3 hg
    generalize rgo fu' la' n d' S' x = T' at i1 i2 i3
    obtain ⟨T1, T2⟩ := T
    obtain ⟨U1, U2⟩ := T'
    cases i3
    unfold rstep
    rw [← hd x (by omega)]
    dsimp only at i1 i2 hg ⊢
    by_cases h1 : T2 = false
    · rw [if_pos h1, if_pos h1]; exact ⟨i1, i2, rfl⟩
    · rw [if_neg h1, if_neg h1]
      by_cases h2 : d x / 6 < d x % 6 ∧ d x % 6 < n
      · have p1 : d x / 6 < n := by omega
        rw [← agr_can p1 h2.2 hg i1]
        have hl := agr_lend hfu hla p1 h2.2 hg i1 i2
        by_cases h3 : d x / 6 < d x % 6 ∧ d x % 6 < n ∧ lcan (d x / 6) (d x % 6) T1 = true
        · rw [if_pos h3, if_pos h3]; exact ⟨hl.1, hl.2, rfl⟩
        · rw [if_neg h3, if_neg h3]; exact ⟨i1, i2, rfl⟩
      · rw [if_neg (fun z => h2 ⟨z.1, z.2.1⟩), if_neg (fun z => h2 ⟨z.1, z.2.1⟩)]; exact ⟨i1, i2, rfl⟩
/-- behind the row's loans all of a set are mended -/
def rowOk (n : Nat) (sc wa la : Nat → Int32) (set : Int32) (M : Nat) (d : Nat → Nat) : Bool := (rgo (fuM wa) la n d (mbeg n sc wa zLn) M).2 && decide (set &&& (lmend wa n (rgo (fuM wa) la n d (mbeg n sc wa zLn) M).1 ^^^ (-1)) = 0)
theorem rowOk_c {n : Nat} {sc wa la : Nat → Int32} (hn : n < 2 ^ 31) (S : LnS (Nat → Int32)) {d : Nat → Nat} {M : Nat} {set : Int32} : ((rgo (fuM wa) la n d (mbeg n sc wa S) M).2 && decide (set &&& (lmend wa n (rgo (fuM wa) la n d (mbeg n sc wa S) M).1 ^^^ (-1)) = 0)) = rowOk n sc wa la set M d := by
  obtain ⟨h1, h2⟩ := mbeg_agr (sc := sc) (sc' := sc) (wa := wa) (wa' := wa) hn (fun _ _ => rfl) (fun _ _ => rfl) S zLn
  obtain ⟨g1, -, g3⟩ := agr_rgo (la := la) (la' := la) (Rf := fun f f' => ∀ i, i < n → f i = f' i) (fuM_c (fun _ _ => rfl)) (fun _ _ => rfl) (mbeg_ok _ _ _ hn) h1 h2 (d := d) (d' := d) (N := M) (fun _ _ => rfl) M (Nat.le_refl M)
  unfold rowOk
  rw [g3, agr_mend (fun _ _ => rfl) g1]
def firstR (P : Nat → Bool) : Nat → Option Nat
  | 0 => none
  | N + 1 => match firstR P N with
    | some r => some r
    | none => if P N = true then some N else none
theorem firstR_none {P : Nat → Bool} : ∀ {N : Nat}, (∀ r, r < N → P r = false) → firstR P N = none
  | 0, _ => rfl
  | N + 1, h => by
    unfold firstR
    rw [firstR_none (fun r hr => h r (by omega))]
    simp only
    rw [if_neg (by rw [h N (by omega)]; decide)]
theorem firstR_some {P : Nat → Bool} {r : Nat} (hr : P r = true) (hb : ∀ t, t < r → P t = false) : ∀ {N : Nat}, r < N → firstR P N = some r
  | 0, h => absurd h (Nat.not_lt_zero r)
  | N + 1, h => by
    unfold firstR
    by_cases e : r = N
    · subst e
      rw [firstR_none hb]
      simp only
      rw [if_pos hr]
    · rw [firstR_some hr hb (by omega)]
def few (P : Nat → Nat → Bool) : Nat → Option (Nat × Nat)
  | 0 => none
  | m + 1 => match few P m with
    | some z => some z
    | none => (firstR (P m) (36 ^ m)).map (fun r => (m, r))
theorem few_none {P : Nat → Nat → Bool} : ∀ {M : Nat}, (∀ m, m < M → ∀ r, r < 36 ^ m → P m r = false) → few P M = none
  | 0, _ => rfl
  | M + 1, h => by
    unfold few
    rw [few_none (fun m hm => h m (by omega))]
    simp only
    rw [firstR_none (h M (by omega))]
    rfl
theorem few_some {P : Nat → Nat → Bool} {m r : Nat} (hr : P m r = true) (hrm : r < 36 ^ m) (hb : ∀ t, t < r → P m t = false) (hm : ∀ m', m' < m → ∀ t, t < 36 ^ m' → P m' t = false) : ∀ {M : Nat}, m < M → few P M = some (m, r)
  | 0, h => absurd h (Nat.not_lt_zero m)
  | M + 1, h => by
    unfold few
    by_cases e : m = M
    · subst e
      rw [few_none hm]
      simp only
      rw [firstR_some hr hb hrm]
      rfl
    · rw [few_some hr hrm hb hm (by omega)]
def fewA (o : Option (Nat × Nat)) (k : Int32) : Int32 := match o with
  | none => -9
  | some z => if 0 ≤ k then (if nI z.1 ≤ k then -9 else 10 * nI (dg 36 z.2 z.1 (cix k) / 6) + nI (dg 36 z.2 z.1 (cix k) % 6)) else nI z.1
def M_fewest (n : Nat) (a : Nat → Nat → Int32) (set k : Int32) : Int32 := if n = 0 then -3 else if lin set.toInt64 0 (evb n).toInt64 = true ∧ lin k.toInt64 (-1) 2 = true then fewA (few (fun m r => rowOk n (a 3) (a 4) (fun c => lastsV (a 2 c) (a 5 c)) set m (dg 36 r m)) 4) k else -2
theorem nI_rem {a d : Nat} (ha : a < 2 ^ 31) (h0 : 0 < d) (hd : d < 2 ^ 31) : nI a - nI a / nI d * nI d = nI (a % d) := pk_rem ha h0 hd
theorem dec_one (t : Nat) : nI (t + 1) - 1 + Int32.ofInt (-1) = nI t - 1 := by
  rw [nI_pred, Int32.sub_eq_add_neg, show Int32.ofInt (-1) = (-1 : Int32) by decide]
theorem pow36_le : ∀ m, m < 4 → 36 ^ m ≤ 46656 := by decide
