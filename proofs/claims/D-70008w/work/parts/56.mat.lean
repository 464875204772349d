/-! LENT YOUTHS, plainly: the match -/
def tk (d : Nat → Nat) : Nat → Nat → Bool
  | 0 => fun _ => false
  | p + 1 => setB (tk d p) (d p)
def cn (isf : Nat → Nat → Bool) (d : Nat → Nat) : Nat → Nat
  | 0 => 0
  | p + 1 => cn isf d p + (if isf p (d p) = true then 1 else 0)
theorem cn_le (isf : Nat → Nat → Bool) (d : Nat → Nat) : ∀ p, cn isf d p ≤ p
  | 0 => Nat.le_refl 0
  | p + 1 => by
    have := cn_le isf d p
    show cn isf d p + _ ≤ _
    split <;> omega
theorem tk_congr {d d' : Nat → Nat} : ∀ {p : Nat}, (∀ j, j < p → d j = d' j) → tk d p = tk d' p
  | 0, _ => rfl
  | p + 1, h => by
    show setB (tk d p) (d p) = setB (tk d' p) (d' p)
    rw [tk_congr (fun j hj => h j (by omega)), h p (by omega)]
theorem cn_congr {isf : Nat → Nat → Bool} {d d' : Nat → Nat} : ∀ {p : Nat}, (∀ j, j < p → d j = d' j) → cn isf d p = cn isf d' p
  | 0, _ => rfl
  | p + 1, h => by
    show cn isf d p + _ = cn isf d' p + _
    rw [cn_congr (fun j hj => h j (by omega)), h p (by omega)]
theorem setB_old {S : Nat → Bool} {x : Nat} (h : S x = true) : setB S x = S := by
  funext i
  unfold setB
  by_cases e : i = x
  · subst e; rw [h, Bool.true_or]
  · rw [decide_eq_false e, Bool.or_false]
theorem tk_iff (d : Nat → Nat) (x : Nat) : ∀ p, tk d p x = true ↔ ∃ j, j < p ∧ d j = x
  | 0 => ⟨fun h => absurd (show false = true from h) (by decide), fun ⟨j, hj, _⟩ => absurd hj (by omega)⟩
  | p + 1 => by
    have ih := tk_iff d x p
    show (tk d p x || decide (x = d p)) = true ↔ _
    rw [Bool.or_eq_true, ih]
    constructor
    · rintro (⟨j, hj, e⟩ | h)
      · exact ⟨j, by omega, e⟩
      · exact ⟨p, by omega, (of_decide_eq_true h).symm⟩
    · rintro ⟨j, hj, e⟩
      by_cases e2 : j = p
      · subst e2; exact Or.inr (decide_eq_true e.symm)
      · exact Or.inl ⟨j, by omega, e⟩
theorem cU_tk {n : Nat} {d : Nat → Nat} (hd : ∀ j, d j < n) : ∀ p, n ≤ cU (tk d p) n + p
  | 0 => by
    show n ≤ cU (fun _ => false) n + 0
    rw [cU_F]; omega
  | p + 1 => by
    have ih := cU_tk hd p
    show n ≤ cU (setB (tk d p) (d p)) n + (p + 1)
    cases h : tk d p (d p) with
    | true => rw [setB_old h]; omega
    | false => have := cU_lt h (hd p); omega
theorem cU_dup {n : Nat} {d : Nat → Nat} (hd : ∀ j, d j < n) {k : Nat} (hk : tk d k (d k) = true) : ∀ p, k < p → n + 1 ≤ cU (tk d p) n + p
  | 0, h => absurd h (by omega)
  | p + 1, h => by
    by_cases e : k = p
    · subst e
      have ih := cU_tk hd k
      show n + 1 ≤ cU (setB (tk d k) (d k)) n + (k + 1)
      rw [setB_old hk]; omega
    · have ih := cU_dup hd hk p (by omega)
      show n + 1 ≤ cU (setB (tk d p) (d p)) n + (p + 1)
      cases h : tk d p (d p) with
      | true => rw [setB_old h]; omega
      | false => have := cU_lt h (hd p); omega
theorem cU_dst {n : Nat} {d : Nat → Nat} (hd : ∀ j, d j < n) : ∀ p, (∀ k, k < p → tk d k (d k) = false) → cU (tk d p) n + p = n
  | 0, _ => by
    show cU (fun _ => false) n + 0 = n
    rw [cU_F]; omega
  | p + 1, h => by
    have ih := cU_dst hd p (fun k hk => h k (by omega))
    show cU (setB (tk d p) (d p)) n + (p + 1) = n
    have := cU_lt (h p (by omega)) (hd p)
    omega
theorem mbT_tk {n : Nat} {d : Nat → Nat} (hn : n ≤ 31) (hd : ∀ j, d j < n) : ∀ k, k ≤ n → (mbT d n k ||| mset (tk d (n - k)) n) = mset (tk d n) n
  | 0, _ => by
    show (0 ||| mset (tk d (n - 0)) n) = _
    rw [Nat.sub_zero]
    apply b_ext
    intro i hi
    rw [b_or, b_0, Bool.false_or]
  | k + 1, hk => by
    have ih := mbT_tk hn hd k (by omega)
    show ((mbT d n k ||| ((1 : Int32) <<< (nI (d (n - 1 - k)) &&& 31))) ||| mset (tk d (n - (k + 1))) n) = _
    rw [← ih, show n - k = (n - (k + 1)) + 1 by omega]
    show _ = (mbT d n k ||| mset (setB (tk d (n - (k + 1))) (d (n - (k + 1)))) n)
    rw [← mset_set _ hn (hd _), show n - 1 - k = n - (k + 1) by omega]
    apply b_ext
    intro i hi
    rw [b_or, b_or, b_or, b_or]
    cases bt (mbT d n k) i <;> cases bt ((1 : Int32) <<< (nI (d (n - (k + 1))) &&& 31)) i <;> cases bt (mset (tk d (n - (k + 1))) n) i <;> rfl
theorem mbT_full {n : Nat} {d : Nat → Nat} (hn : n ≤ 31) (hd : ∀ j, d j < n) : mbT d n n = mset (tk d n) n := by
  rw [← mbT_tk hn hd n (Nat.le_refl n), Nat.sub_self]
  show _ = (_ ||| mset (fun _ => false) n)
  rw [mset_F]
  apply b_ext
  intro i hi
  rw [b_or, b_0, Bool.or_false]
theorem mbC_cn {n : Nat} {isf : Nat → Nat → Bool} {d : Nat → Nat} : ∀ k, k ≤ n → mbC isf d n k + nI (cn isf d (n - k)) = nI (cn isf d n)
  | 0, _ => by
    show 0 + nI (cn isf d (n - 0)) = _
    rw [Nat.sub_zero, Int32.zero_add]
  | k + 1, hk => by
    have ih := mbC_cn (n := n) (isf := isf) (d := d) k (by omega)
    show mbC isf d n k + (if isf (n - 1 - k) (d (n - 1 - k)) = true then 1 else 0) + _ = _
    rw [← ih, show n - k = (n - (k + 1)) + 1 by omega]
    show _ = mbC isf d n k + nI (cn isf d (n - (k + 1)) + (if isf (n - (k + 1)) (d (n - (k + 1))) = true then 1 else 0))
    rw [show n - 1 - k = n - (k + 1) by omega]
    split
    · rw [← nI_1, Int32.add_assoc, Int32.add_comm 1]
    · rw [Int32.add_zero]; rfl
theorem mbC_full {n : Nat} {isf : Nat → Nat → Bool} {d : Nat → Nat} : mbC isf d n n = nI (cn isf d n) := by
  rw [← mbC_cn n (Nat.le_refl n), Nat.sub_self]
  show _ = _ + nI 0
  exact (Int32.add_zero _).symm
theorem mbV_dup {sc wa : Nat → Int32} {n R k : Nat} (hn : n ≤ 6) (hn0 : 0 < n) (hk : k < n) (h : tk (dg n R n) k (dg n R n k) = true) : mbV sc wa n R = -9 := by
  unfold mbV
  rw [if_neg]
  rw [mbT_full (by omega) (fun j => dg_lt hn0), evb_all n hn]
  intro z
  have h1 : ∀ j, j < n → tk (dg n R n) n j = true := fun j hj => by
    have := congrArg (fun x => bq x (nI j)) z
    simp only [mset_bq _ (show n ≤ 31 by omega) hj] at this
    exact this
  have h2 := cU_0 h1
  have h3 := cU_dup (n := n) (d := dg n R n) (fun j => dg_lt hn0) h n hk
  omega
theorem mbV_dst {sc wa : Nat → Int32} {n R : Nat} (hn : n ≤ 6) (hn0 : 0 < n) (h : ∀ k, k < n → tk (dg n R n) k (dg n R n k) = false) : mbV sc wa n R = nI (cn (isfV sc wa) (dg n R n) n) := by
  unfold mbV
  rw [if_pos, mbC_full]
  rw [mbT_full (by omega) (fun j => dg_lt hn0), evb_all n hn]
  have h1 := cU_dst (n := n) (d := dg n R n) (fun j => dg_lt hn0) n h
  refine mset_congr (fun j hj => ?_)
  cases h2 : tk (dg n R n) n j with
  | true => rfl
  | false => have := cU_lt h2 hj; omega
theorem dg_pre {b R N k j X : Nat} (e : R / b ^ (N - k) = X) (hj : j < k) (hk : k ≤ N) : dg b R N j = dg b X k j := by
  unfold dg
  rw [← e, Nat.div_div_eq_div_mul, ← Nat.pow_add, show N - 1 - j = N - k + (k - 1 - j) by omega]
theorem bmV_ge (mv : Nat → Int32) : ∀ r, -1 ≤ (bmV mv r).2
  | 0 => by show (-1 : Int32) ≤ -1; decide
  | r + 1 => by
    have ih := bmV_ge mv r
    unfold bmV
    split
    · exact ih
    · rename_i h
      exact Int32.le_trans ih (Int32.le_of_lt (Int32.not_le.mp h))
def mxP (mv : Nat → Int32) (n x : Nat) (most : Int32) (best : Nat → Int32) : Prop :=
  (most = -9 ∧ (bmV mv x).2 = -1) ∨ (most = (bmV mv x).2 ∧ 0 ≤ most ∧ ∀ j, j < n → best j = nI (dg n (bmV mv x).1 n j))
theorem bmV_skip {mv : Nat → Int32} {x : Nat} : ∀ {x' : Nat}, x ≤ x' → (∀ r, x ≤ r → r < x' → mv r = -9) → bmV mv x' = bmV mv x
  | 0, h, _ => by rw [Nat.le_zero.mp h]
  | y + 1, h, h2 => by
    by_cases e : x = y + 1
    · rw [e]
    · have ih := bmV_skip (mv := mv) (x := x) (x' := y) (by omega) (fun r h3 h4 => h2 r h3 (by omega))
      rw [bmV_k (by rw [h2 y (by omega) (by omega)]; exact Int32.le_trans (by decide) (bmV_ge mv y)), ih]
theorem mx_skip {mv : Nat → Int32} {n x x' : Nat} {most : Int32} {best : Nat → Int32} (h : mxP mv n x most best) (hx : x ≤ x') (h2 : ∀ r, x ≤ r → r < x' → mv r = -9) : mxP mv n x' most best := by
  unfold mxP
  rw [bmV_skip hx h2]
  exact h
theorem mx_le {mv : Nat → Int32} {n R k : Nat} {most : Int32} {best : Nat → Int32} (h : mxP mv n R most best) (hk : k ≤ 6) (hv : mv R = nI k) (hle : nI k ≤ most) : mxP mv n (R + 1) most best := by
  rcases h with ⟨h1, h2⟩ | ⟨h1, h2, h3⟩
  · rw [h1] at hle
    exact absurd (Int32.le_trans (nI_pos' (show k < 2 ^ 31 by omega)) hle) (by decide)
  · unfold mxP
    rw [bmV_k (by rw [hv, ← h1]; exact hle)]
    exact Or.inr ⟨h1, h2, h3⟩
theorem mx_gt {mv : Nat → Int32} {n R k : Nat} {most : Int32} {best best' : Nat → Int32} (h : mxP mv n R most best) (hk : k ≤ 6) (hv : mv R = nI k) (hle : ¬ nI k ≤ most) (hb : ∀ j, j < n → best' j = nI (dg n R n j)) : mxP mv n (R + 1) (nI k) best' := by
  have e : bmV mv (R + 1) = (R, nI k) := by
    rw [bmV_n, hv]
    rw [hv]
    rcases h with ⟨h1, h2⟩ | ⟨h1, h2, h3⟩
    · rw [h2]
      intro z
      exact absurd (Int32.le_trans (nI_pos' (show k < 2 ^ 31 by omega)) z) (by decide)
    · rw [← h1]; exact hle
  right
  rw [e]
  exact ⟨rfl, nI_pos' (by omega), hb⟩
def mpf (n p Q : Nat) (r : Nat → Int32) : Prop := ∀ j, j < p → r j = nI (dg n Q p j) ∧ tk (dg n Q p) j (dg n Q p j) = false
theorem mpf_0 (n : Nat) (r : Nat → Int32) : mpf n 0 0 r := fun j hj => absurd hj (by omega)
theorem mpf_app {n p Q c : Nat} {r r1 : Nat → Int32} (h : mpf n p Q r) (h1 : ∀ j, j < p → r1 j = r j) (hc : c < n) (ht : tk (dg n Q p) p c = false) : mpf n (p + 1) (n * Q + c) (upd r1 p (nI c)) := by
  intro j hj
  have hd : ∀ i, i < p → dg n (n * Q + c) (p + 1) i = dg n Q p i := fun i hi => dg_app_r hc hi
  by_cases e : j = p
  · subst e
    rw [upd_s, dg_app_l hc, tk_congr hd]
    exact ⟨rfl, ht⟩
  · rw [upd_n _ _ e, h1 j (by omega), hd j (by omega), tk_congr (fun i hi => hd i (by omega))]
    exact h j (by omega)
theorem tk_app {n p Q c : Nat} (hn : n ≤ 31) (hc : c < n) : (mset (tk (dg n Q p) p) n ||| ((1 : Int32) <<< (nI c &&& 31))) = mset (tk (dg n (n * Q + c) (p + 1)) (p + 1)) n := by
  rw [mset_set _ hn hc]
  show _ = mset (setB (tk (dg n (n * Q + c) (p + 1)) p) (dg n (n * Q + c) (p + 1) p)) n
  rw [dg_app_l hc, tk_congr (fun i hi => dg_app_r hc hi)]
theorem cn_app {isf : Nat → Nat → Bool} {n p Q c : Nat} (hc : c < n) : cn isf (dg n (n * Q + c) (p + 1)) (p + 1) = cn isf (dg n Q p) p + (if isf p c = true then 1 else 0) := by
  show cn isf (dg n (n * Q + c) (p + 1)) p + _ = _
  rw [dg_app_l hc, cn_congr (fun i hi => dg_app_r hc hi)]
theorem mx_taken {sc wa : Nat → Int32} {n p Q c : Nat} {most : Int32} {best : Nat → Int32} (hn : n ≤ 6) (hp : p < n) (hc : c < n) (ht : tk (dg n Q p) p c = true) (h : mxP (mbV sc wa n) n ((n * Q + c) * n ^ (n - (p + 1))) most best) : mxP (mbV sc wa n) n ((n * Q + (c + 1)) * n ^ (n - (p + 1))) most best := by
  refine mx_skip h (Nat.mul_le_mul_right _ (by omega)) (fun r h1 h2 => ?_)
  have hD : 0 < n ^ (n - (p + 1)) := Nat.pow_pos (by omega)
  have q1 : n * Q + c ≤ r / n ^ (n - (p + 1)) := (Nat.le_div_iff_mul_le hD).mpr h1
  have q2 : r / n ^ (n - (p + 1)) < n * Q + (c + 1) := (Nat.div_lt_iff_lt_mul hD).mpr h2
  have q3 : r / n ^ (n - (p + 1)) = n * Q + c := by omega
  have hd : ∀ j, j < p + 1 → dg n r n j = dg n (n * Q + c) (p + 1) j := fun j hj => dg_pre q3 hj (by omega)
  refine mbV_dup hn (by omega) hp ?_
  rw [hd p (by omega), dg_app_l hc, tk_congr (fun j hj => hd j (by omega)), tk_congr (fun i hi => dg_app_r hc hi)]
  exact ht
theorem mp_s {n k : Nat} (h : k < n) : n ^ (n - k) = n * n ^ (n - (k + 1)) := by
  rw [show n - k = (n - (k + 1)) + 1 by omega, Nat.pow_succ, Nat.mul_comm]
theorem mlo_eq {n k P : Nat} (h : k < n) : (n * P + 0) * n ^ (n - (k + 1)) = P * n ^ (n - k) := by
  rw [mp_s h, Nat.add_zero, ← Nat.mul_assoc, Nat.mul_comm P n]
theorem mhi_eq {n k P : Nat} (h : k < n) : (n * P + n) * n ^ (n - (k + 1)) = (P + 1) * n ^ (n - k) := by
  rw [mp_s h, ← Nat.mul_assoc, show (P + 1) * n = n * P + n by rw [Nat.add_mul, Nat.one_mul, Nat.mul_comm]]
theorem mx_pos {mv : Nat → Int32} {n x : Nat} {most : Int32} {best : Nat → Int32} (h : mxP mv n x most best) {r : Nat} (hr : r < x) (h0 : 0 ≤ mv r) : most = (bmV mv x).2 ∧ ∀ j, j < n → best j = nI (dg n (bmV mv x).1 n j) := by
  rcases h with ⟨-, h2⟩ | ⟨h1, -, h3⟩
  · exfalso
    have hm : ∀ x, r < x → mv r ≤ (bmV mv x).2 := by
      intro x
      induction x with
      | zero => intro h; omega
      | succ x ih =>
        intro hx
        unfold bmV
        by_cases e : r = x
        · subst e
          split
          · assumption
          · exact Int32.le_refl _
        · have i1 := ih (by omega)
          split
          · exact i1
          · rename_i h5
            exact Int32.le_trans i1 (Int32.le_of_lt (Int32.not_le.mp h5))
    have := Int32.le_trans h0 (hm x hr)
    rw [h2] at this
    exact absurd this (by decide)
  · exact ⟨h1, h3⟩
/-- some row is a match: each by itself -/
def idR (n : Nat) : Nat → Nat
  | 0 => 0
  | k + 1 => n * idR n k + k
theorem idR_lt {n : Nat} : ∀ k, k ≤ n → idR n k < n ^ k
  | 0, _ => by show (0 : Nat) < 1; decide
  | k + 1, h => by
    have ih := idR_lt (n := n) k (by omega)
    show n * idR n k + k < n ^ (k + 1)
    rw [Nat.pow_succ, Nat.mul_comm (n ^ k)]
    have : n * (idR n k + 1) ≤ n * n ^ k := Nat.mul_le_mul_left n ih
    rw [Nat.mul_add] at this
    omega
theorem idR_dg {n : Nat} : ∀ k, k ≤ n → ∀ j, j < k → dg n (idR n k) k j = j
  | 0, _, j, hj => absurd hj (by omega)
  | k + 1, h, j, hj => by
    show dg n (n * idR n k + k) (k + 1) j = j
    by_cases e : j = k
    · subst e; exact dg_app_l (by omega)
    · rw [dg_app_r (by omega) (by omega)]; exact idR_dg k (by omega) j (by omega)
theorem mb_some {sc wa : Nat → Int32} {n : Nat} (hn : n ≤ 6) (hn0 : 0 < n) : ∃ r, r < n ^ n ∧ 0 ≤ mbV sc wa n r := by
  refine ⟨idR n n, idR_lt n (Nat.le_refl n), ?_⟩
  rw [mbV_dst hn hn0 (fun k hk => ?_)]
  · have := cn_le (isfV sc wa) (dg n (idR n n) n) n
    exact nI_pos' (by omega)
  · rw [idR_dg n (Nat.le_refl n) k hk]
    cases h : tk (dg n (idR n n) n) k k with
    | false => rfl
    | true =>
      obtain ⟨j, hj, e⟩ := (tk_iff _ _ _).mp h
      rw [idR_dg n (Nat.le_refl n) j (by omega)] at e
      omega
