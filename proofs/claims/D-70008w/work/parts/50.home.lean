/-! THE WAY HOME, as LentYouths counts it: rounds of a permutation -/
def inj (n : Nat) (h : Nat → Nat) : Prop := ∀ i j, i < n → j < n → h i = h j → i = j
theorem setB_s (S : Nat → Bool) (j : Nat) : setB S j j = true := by simp [setB]
theorem setB_m {S : Nat → Bool} {j i : Nat} (h : S i = true) : setB S j i = true := by simp [setB, h]
theorem setB_o {S : Nat → Bool} {j i : Nat} (h : setB S j i = true) (hne : i ≠ j) : S i = true := by simpa [setB, hne] using h
/-- every one in S but p has one of S ahead of it, that isn't l -/
def rE (n p l : Nat) (h : Nat → Nat) (S : Nat → Bool) : Prop := S l = true ∧ S p = true ∧ ∀ x, x < n → S x = true → x ≠ p → ∃ z, z < n ∧ z ≠ l ∧ S z = true ∧ h z = x
def rO (n : Nat) (h : Nat → Nat) (S : Nat → Bool) : Prop := ∀ x, x < n → S x = true → ∃ z, z < n ∧ S z = true ∧ h z = x
theorem rE_start {n p : Nat} {h : Nat → Nat} {S : Nat → Bool} (hp : S p = false) (hO : rO n h S) : rE n p p h (setB S p) := by
  refine ⟨setB_s _ _, setB_s _ _, fun x hx h1 h2 => ?_⟩
  obtain ⟨z, h3, h4, h5⟩ := hO x hx (setB_o h1 h2)
  exact ⟨z, h3, (fun e => by rw [e, hp] at h4; cases h4), setB_m h4, h5⟩
theorem rE_new {n p l : Nat} {h : Nat → Nat} {S : Nat → Bool} (hi : inj n h) (hl : l < n) (hb : h l < n) (hE : rE n p l h S) (hne : h l ≠ p) : S (h l) = false := by
  cases e : S (h l) with
  | false => rfl
  | true =>
    obtain ⟨z, h1, h2, -, h4⟩ := hE.2.2 _ hb e hne
    exact absurd (hi z l h1 hl h4) h2
theorem rE_step {n p l : Nat} {h : Nat → Nat} {S : Nat → Bool} (hl : l < n) (hE : rE n p l h S) (hS : S (h l) = false) : rE n p (h l) h (setB S (h l)) := by
  refine ⟨setB_s _ _, setB_m hE.2.1, fun x hx h1 h2 => ?_⟩
  by_cases e : x = h l
  · exact ⟨l, hl, (fun e1 => by have := hE.1; rw [e1, hS] at this; cases this), setB_m hE.1, e.symm⟩
  · obtain ⟨z, h3, h4, h5, h6⟩ := hE.2.2 x hx (setB_o h1 e) h2
    exact ⟨z, h3, (fun e1 => by rw [e1, hS] at h5; cases h5), setB_m h5, h6⟩
theorem rE_end {n p l : Nat} {h : Nat → Nat} {S : Nat → Bool} (hl : l < n) (hE : rE n p l h S) (hq : h l = p) : rO n h S := by
  intro x hx h1
  by_cases e : x = p
  · exact ⟨l, hl, hE.1, by rw [hq, e]⟩
  · obtain ⟨z, h3, -, h5, h6⟩ := hE.2.2 x hx h1 e
    exact ⟨z, h3, h5, h6⟩
theorem ring_m {h : Nat → Nat} : ∀ (f : Nat) (S : Nat → Bool) (x i : Nat), S i = true → ring h f S x i = true
  | 0, _, _, _, h1 => h1
  | f + 1, S, x, i, h1 => by
    unfold ring
    split
    · exact h1
    · exact ring_m f _ _ i (setB_m h1)
theorem ring_x {h : Nat → Nat} (f : Nat) (S : Nat → Bool) (x : Nat) : ring h (f + 1) S x x = true := by
  unfold ring
  split
  · assumption
  · exact ring_m f _ _ x (setB_s _ _)
theorem homM_in (h : Nat → Nat) (n : Nat) : ∀ p j, j < p → (homM h n p).1 j = true
  | p + 1, j, hj => by
    show ring h (n + 1) (homM h n p).1 p j = true
    by_cases e : j = p
    · subst e; exact ring_x n _ _
    · exact ring_m _ _ _ _ (homM_in h n p j (by omega))
theorem cU_0 {S : Nat → Bool} : ∀ {n : Nat}, (∀ j, j < n → S j = true) → cU S n = 0
  | 0, _ => rfl
  | n + 1, h => by
    show cU S n + (if S n = true then 0 else 1) = 0
    rw [cU_0 (fun j hj => h j (by omega)), if_pos (h n (by omega))]
theorem cU_F : ∀ n, cU (fun _ => false) n = n
  | 0 => rfl
  | n + 1 => by
    show cU (fun _ => false) n + (if false = true then 0 else 1) = n + 1
    rw [cU_F n]; rfl
theorem cU_pos {S : Nat → Bool} {x n : Nat} (hx : S x = false) (hn : x < n) : 0 < cU S n := by
  have := cU_lt hx hn
  omega
theorem cU_le1 {S : Nat → Bool} {n : Nat} (p : Nat) (hp : p < n) (h : S p = true) : cU S n + 1 ≤ n := by
  induction n with
  | zero => omega
  | succ n ih =>
    show cU S n + (if S n = true then 0 else 1) + 1 ≤ n + 1
    by_cases e : p = n
    · subst e; rw [if_pos h]; have := cU_le S p; omega
    · have := ih (by omega); split <;> omega
theorem homM_t {h : Nat → Nat} {n p : Nat} (hp : (homM h n p).1 p = true) : (homM h n (p + 1)).1 = (homM h n p).1 ∧ (homM h n (p + 1)).2 = (homM h n p).2 := by
  refine ⟨?_, ?_⟩
  · show ring h (n + 1) (homM h n p).1 p = _
    rw [ring_t hp]
  · show (homM h n p).2 + _ = _
    rw [if_pos hp]; rfl
theorem homM_f {h : Nat → Nat} {n p : Nat} (hp : (homM h n p).1 p = false) : (homM h n (p + 1)).1 = ring h n (setB (homM h n p).1 p) (h p) ∧ (homM h n (p + 1)).2 = (homM h n p).2 + 1 := by
  refine ⟨?_, ?_⟩
  · show ring h (n + 1) (homM h n p).1 p = _
    rw [ring_f hp]
  · show (homM h n p).2 + _ = _
    rw [if_neg (by rw [hp]; decide)]
theorem inj_swap {n i j : Nat} {f : Nat → Int32} (hf : inj n (fun x => cix (f x))) (hi : i < n) (hj : j < n) : inj n (fun x => cix (upd (upd f i (f j)) j (f i) x)) := by
  intro x z hx hz e
  have key : ∀ w, upd (upd f i (f j)) j (f i) w = f (if w = j then i else if w = i then j else w) := by
    intro w
    by_cases h1 : w = j
    · subst h1; rw [upd_s, if_pos rfl]
    · rw [upd_n _ _ h1, if_neg h1]
      by_cases h2 : w = i
      · subst h2; rw [upd_s, if_pos rfl]
      · rw [upd_n _ _ h2, if_neg h2]
  have e' : cix (f (if x = j then i else if x = i then j else x)) = cix (f (if z = j then i else if z = i then j else z)) := by rw [← key, ← key]; exact e
  have b : ∀ w, w < n → (if w = j then i else if w = i then j else w) < n := by
    intro w hw
    split
    · exact hi
    · split
      · exact hj
      · exact hw
  have e2 := hf _ _ (b x hx) (b z hz) e'
  by_cases h1 : x = j <;> by_cases h2 : z = j <;> by_cases h3 : x = i <;> by_cases h4 : z = i <;> simp_all <;> omega
theorem inj_go {F : Type} {fu : F → Nat → Int32 → Int32 → F} {la wa : Nat → Int32} {n N : Nat} {pr : Nat → Nat} {S : LnS F} (h : inj n (fun x => cix (S.1 x))) (hp : ∀ t, t < 2 * N → pr t < n) : ∀ x, x ≤ N → inj n (fun j => cix ((lgo fu la wa n pr S x).1.1 j)) := by
  intro x
  induction x with
  | zero => intro _; exact h
  | succ x ih =>
    intro hx
    have h1 := ih (by omega)
    show inj n (fun j => cix ((lstep fu la wa n _ pr x (lgo fu la wa n pr S x)).1.1 j))
    unfold lstep
    split
    · exact h1
    · split
      · exact inj_swap h1 (hp _ (by omega)) (hp _ (by omega))
      · exact h1
theorem xbeg_inj {n : Nat} (sc : Nat → Int32) (S : LnS (Nat → Int32)) (hn : n < 2 ^ 31) : inj n (fun x => cix ((xbeg n sc S).1 x)) := by
  intro i j hi hj e
  have e1 : ∀ k, k < n → cix ((xbeg n sc S).1 k) = k := fun k hk => by
    have : (xbeg n sc S).1 k = nI k := xbg_has sc _ hn n (Nat.le_refl n) k hk
    rw [this, cix_nI (by omega)]
  have e : cix ((xbeg n sc S).1 i) = cix ((xbeg n sc S).1 j) := e
  rw [e1 i hi, e1 j hj] at e
  exact e
