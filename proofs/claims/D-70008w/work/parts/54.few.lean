/-! LENT YOUTHS, plainly: odds, help, the fewest -/
theorem and1_01 (x : Int32) : x &&& 1 = 0 ∨ x &&& 1 = 1 := by
  cases h : bt x 0 with
  | false =>
    left
    apply b_ext
    intro i hi
    rw [b_and, b_1 i hi, b_0]
    by_cases e : i = 0
    · subst e; rw [h, Bool.false_and]
    · rw [decide_eq_false e, Bool.and_false]
  | true =>
    right
    apply b_ext
    intro i hi
    rw [b_and, b_1 i hi]
    by_cases e : i = 0
    · subst e; rw [h, Bool.true_and]
    · rw [decide_eq_false e, Bool.and_false]
theorem bq_b2i (x k : Int32) : (x >>> (k &&& 31)) &&& 1 = b2i (bq x k) := by
  unfold bq
  rcases and1_01 (x >>> (k &&& 31)) with h | h
  · rw [h]; rfl
  · rw [h]; rfl
theorem cntB_congr {f k : Nat → Bool} : ∀ {n : Nat}, (∀ j, j < n → f j = k j) → cntB f n = cntB k n
  | 0, _ => rfl
  | n + 1, h => by
    show cntB f n + _ = cntB k n + _
    rw [cntB_congr (fun j hj => h j (by omega)), h n (by omega)]
theorem cntB_b (f : Nat → Bool) (i : Nat) : cntB f i + b2i (f i) = cntB f (i + 1) := rfl
theorem bq_not (x z k : Int32) : bq (x &&& (z ^^^ (-1))) k = (bq x k && !bq z k) := by
  obtain ⟨m, hm, h⟩ := bq_k k
  rw [h, h, h, b_and, b_xor, b_m1 m hm]
  cases bt x m <;> cases bt z m <;> rfl
theorem sub_iff (x y : Int32) : (x &&& (y ^^^ (-1)) = 0) ↔ (y &&& x = x) := by
  constructor
  · intro h
    apply b_ext
    intro i hi
    have h1 := congrArg (fun z => bt z i) h
    simp only [b_and, b_xor, b_m1 i hi, b_0] at h1 ⊢
    revert h1
    cases bt x i <;> cases bt y i <;> simp
  · intro h
    apply b_ext
    intro i hi
    have h1 := congrArg (fun z => bt z i) h
    simp only [b_and, b_xor, b_m1 i hi, b_0] at h1 ⊢
    revert h1
    cases bt x i <;> cases bt y i <;> simp
theorem wa_lt6 {x : Int32} (h : inP x 7 = true) (h6 : ¬ x = 6) : ¬ 6 ≤ x := by
  obtain ⟨e, hl⟩ := inP_e (by omega) h
  rw [e] at h6 ⊢
  intro z
  have h1 : 6 ≤ cix x := (nI_leI (a := 6) (by omega) (by omega)).mp z
  exact h6 (by rw [show cix x = 6 by omega]; rfl)
theorem laX_9 {g3 : Int32} (h : g3 = -9) (ck : Int32) (kd we : Nat → Int32) : ∀ j, j < 2 ^ 31 → laX g3 ck kd we j = lastsV (kd j) (we j) := by
  intro j hj
  unfold laX
  rw [if_neg]
  intro z
  have h0 : (0 : Int32) ≤ nI j := nI_pos' hj
  rw [z, h] at h0
  exact absurd h0 (by decide)
def rw2 (v : Nat) : Int32 := nI (10 * (v / 6) + v % 6)
theorem rw2_div : ∀ {v : Nat}, v < 36 → rw2 v / 10 = nI (v / 6) := by
  have h : ∀ v, v < 36 → rw2 v / 10 = nI (v / 6) := by decide +kernel
  exact fun {v} => h v
theorem rw2_rem : ∀ {v : Nat}, v < 36 → rw2 v - rw2 v / 10 * 10 = nI (v % 6) := by
  have h : ∀ v, v < 36 → rw2 v - rw2 v / 10 * 10 = nI (v % 6) := by decide +kernel
  exact fun {v} => h v
theorem rw2_10 (v : Nat) : 10 * nI (v / 6) + nI (v % 6) = rw2 v := by
  rw [show (10 : Int32) = nI 10 from rfl, pk_mul, nI_add]; rfl
theorem ten_add (v w : Nat) : 10 * nI v + nI w = nI (10 * v + w) := by
  rw [show (10 : Int32) = nI 10 from rfl, pk_mul, nI_add]
theorem rw2_of {v w : Nat} (h : w < 6) : rw2 (6 * v + w) = nI (10 * v + w) := by
  unfold rw2
  rw [show (6 * v + w) / 6 = v by omega, show (6 * v + w) % 6 = w by omega]
theorem rowOk_x {n : Nat} (hn : n ≤ 6) {sc wa la la' : Nat → Int32} (hla : ∀ j, j < n → la j = la' j) (S : LnS (Nat → Int32)) {d : Nat → Nat} {M : Nat} {set : Int32} : ((rgo fuX la n d (xbeg n sc S) M).2 && decide (lmend wa n (rgo fuX la n d (xbeg n sc S) M).1 &&& set = set)) = rowOk n sc wa la' set M d := by
  obtain ⟨h1, h2⟩ := xbeg_agr hn sc wa S zLn
  obtain ⟨g1, -, g3⟩ := agr_rgo (la := la) (la' := la') (Rf := RfX n wa) (RfX_fu hn) hla (xbeg_ok _ _ (by omega)) h1 h2 (d := d) (d' := d) (N := M) (fun _ _ => rfl) M (Nat.le_refl M)
  unfold rowOk
  rw [g3, agr_mend (fun _ _ => rfl) g1]
  congr 1
  exact decide_eq_decide.mpr (sub_iff _ _).symm
theorem rowOk_bad {n : Nat} {sc wa la : Nat → Int32} {set : Int32} {d : Nat → Nat} {M k : Nat} (hk : k < M) (hb : ¬ (d k / 6 < d k % 6 ∧ d k % 6 < n)) : rowOk n sc wa la set M d = false := by
  have h1 : (rgo (fuM wa) la n d (mbeg n sc wa zLn) (k + 1)).2 = false := by
    show (rstep _ _ _ _ k (rgo (fuM wa) la n d (mbeg n sc wa zLn) k)).2 = false
    unfold rstep
    split
    · assumption
    · rw [if_neg (fun z => hb ⟨z.1, z.2.1⟩)]
  have h2 := rgo_stuck h1 M (by omega)
  unfold rowOk
  rw [h2, h1, Bool.false_and]
theorem dg_app_l {b P e k : Nat} (he : e < b) : dg b (b * P + e) (k + 1) k = e := by
  unfold dg
  rw [show k + 1 - 1 - k = 0 by omega, Nat.pow_zero, Nat.div_one, Nat.mul_add_mod, Nat.mod_eq_of_lt he]
theorem dg_app_r {b P e k j : Nat} (he : e < b) (hj : j < k) : dg b (b * P + e) (k + 1) j = dg b P k j := by
  unfold dg
  rw [show k + 1 - 1 - j = (k - 1 - j) + 1 by omega, Nat.pow_succ, Nat.mul_comm (b ^ _) b, ← Nat.div_div_eq_div_mul]
  rw [Nat.mul_add_div (by omega), Nat.div_eq_of_lt he, Nat.add_zero]
def nk (ok : Nat → Bool) (lo hi : Nat) : Prop := ∀ r, lo ≤ r → r < hi → ok r = false
theorem nk_tr {ok : Nat → Bool} {lo mid hi : Nat} (h1 : nk ok lo mid) (h2 : nk ok mid hi) : nk ok lo hi := by
  intro r h3 h4
  by_cases h : r < mid
  · exact h1 r h3 h
  · exact h2 r (by omega) h4
theorem dg_q {b r M k q : Nat} (hk : k < M) (e : r / b ^ (M - (k + 1)) = q) : dg b r M k = q % b := by
  unfold dg
  rw [show M - 1 - k = M - (k + 1) by omega, e]
theorem nk_bad {n : Nat} {sc wa la : Nat → Int32} {set : Int32} {M k P : Nat} (hk : k < M) (X Y : Nat) (hY : Y ≤ 36) (hb : ∀ e, X ≤ e → e < Y → ¬ (e / 6 < e % 6 ∧ e % 6 < n)) : nk (fun r => rowOk n sc wa la set M (dg 36 r M)) ((36 * P + X) * 36 ^ (M - (k + 1))) ((36 * P + Y) * 36 ^ (M - (k + 1))) := by
  intro r h1 h2
  have hD : 0 < 36 ^ (M - (k + 1)) := Nat.pow_pos (by decide)
  have q1 : 36 * P + X ≤ r / 36 ^ (M - (k + 1)) := (Nat.le_div_iff_mul_le hD).mpr h1
  have q2 : r / 36 ^ (M - (k + 1)) < 36 * P + Y := (Nat.div_lt_iff_lt_mul hD).mpr h2
  have hd : dg 36 r M k = r / 36 ^ (M - (k + 1)) - 36 * P := by
    rw [dg_q hk rfl]
    omega
  refine rowOk_bad hk ?_
  rw [hd]
  exact hb _ (by omega) (by omega)
def tfQ (ok : Nat → Bool) (k M lo hi : Nat) (r0 r1 : Nat → Int32) (F : Bool) : Prop :=
  if F = true then ∃ r, lo ≤ r ∧ r < 36 ^ M ∧ ok r = true ∧ nk ok lo r ∧ ∀ j, j < M → r1 j = rw2 (dg 36 r M j) else nk ok lo hi ∧ ∀ j, j < k → r1 j = r0 j
theorem tfQ_t {ok : Nat → Bool} {k M lo hi : Nat} {r0 r1 : Nat → Int32} (h : tfQ ok k M lo hi r0 r1 true) : ∃ r, lo ≤ r ∧ r < 36 ^ M ∧ ok r = true ∧ nk ok lo r ∧ ∀ j, j < M → r1 j = rw2 (dg 36 r M j) := by
  unfold tfQ at h
  rwa [if_pos rfl] at h
theorem tfQ_f {ok : Nat → Bool} {k M lo hi : Nat} {r0 r1 : Nat → Int32} (h : tfQ ok k M lo hi r0 r1 false) : nk ok lo hi ∧ ∀ j, j < k → r1 j = r0 j := by
  unfold tfQ at h
  rwa [if_neg (by decide)] at h
theorem tfQ_ext {ok : Nat → Bool} {k M lo hi hi' : Nat} {r0 r1 : Nat → Int32} {F : Bool} (h : tfQ ok k M lo hi r0 r1 F) (h2 : nk ok hi hi') : tfQ ok k M lo hi' r0 r1 F := by
  cases F with
  | true => exact h
  | false =>
    obtain ⟨a1, a2⟩ := tfQ_f h
    unfold tfQ
    rw [if_neg (by decide)]
    exact ⟨nk_tr a1 h2, a2⟩
theorem tfQ_all {ok : Nat → Bool} {k M lo hi hi' : Nat} {r0 r1 : Nat → Int32} {F : Bool} (hF : F = true) (h : tfQ ok k M lo hi r0 r1 F) : tfQ ok k M lo hi' r0 r1 F := by
  subst hF; exact h
theorem tfQ_rec {ok : Nat → Bool} {k M lo mid hi hi' : Nat} {r0 r1 r2 : Nat → Int32} {x : Int32} {F F0 : Bool} (hF : F0 = false) (h0 : tfQ ok k M lo mid r0 r1 F0) (hm : lo ≤ mid) (h : tfQ ok (k + 1) M mid hi (upd r1 k x) r2 F) (e : hi = hi') : tfQ ok k M lo hi' r0 r2 F := by
  subst e
  subst hF
  obtain ⟨a1, a2⟩ := tfQ_f h0
  cases F with
  | true =>
    obtain ⟨r, b1, b2, b3, b4, b5⟩ := tfQ_t h
    unfold tfQ
    rw [if_pos rfl]
    exact ⟨r, by omega, b2, b3, nk_tr a1 b4, b5⟩
  | false =>
    obtain ⟨b1, b2⟩ := tfQ_f h
    unfold tfQ
    rw [if_neg (by decide)]
    refine ⟨nk_tr a1 b1, fun j hj => ?_⟩
    rw [b2 j (by omega), upd_n _ _ (by omega), a2 j hj]
theorem tfQ_lo {ok : Nat → Bool} {k M lo lo' hi hi' : Nat} {r0 r1 : Nat → Int32} {F : Bool} (h : tfQ ok k M lo hi r0 r1 F) (e1 : lo = lo') (e2 : hi = hi') : tfQ ok k M lo' hi' r0 r1 F := by subst e1; subst e2; exact h
def prf (n k P : Nat) (r : Nat → Int32) : Prop := P < 36 ^ k ∧ ∀ j, j < k → r j = rw2 (dg 36 P k j) ∧ dg 36 P k j / 6 < dg 36 P k j % 6 ∧ dg 36 P k j % 6 < n
theorem prf_0 (n : Nat) (r : Nat → Int32) : prf n 0 0 r := ⟨by decide, fun j hj => absurd hj (by omega)⟩
theorem prf_app {n k P v w : Nat} {r r1 : Nat → Int32} (hn : n ≤ 6) (h : prf n k P r) (h1 : ∀ j, j < k → r1 j = r j) (hv : v < w) (hw : w < n) : prf n (k + 1) (36 * P + (6 * v + w)) (upd r1 k (nI (10 * v + w))) := by
  refine ⟨?_, fun j hj => ?_⟩
  · have := h.1
    rw [Nat.pow_succ]
    omega
  · by_cases e : j = k
    · subst e
      rw [dg_app_l (by omega), upd_s, rw2_of (by omega)]
      exact ⟨rfl, by omega, by omega⟩
    · rw [dg_app_r (by omega) (by omega), upd_n _ _ e, h1 j (by omega)]
      exact h.2 j (by omega)
theorem tfQ_leaf {n : Nat} {ok : Nat → Bool} {M P : Nat} {r : Nat → Int32} (h : prf n M P r) : tfQ ok M M (P * 36 ^ (M - M)) ((P + 1) * 36 ^ (M - M)) r r (ok P) := by
  rw [Nat.sub_self, Nat.pow_zero, Nat.mul_one, Nat.mul_one]
  unfold tfQ
  cases hP : ok P with
  | true =>
    rw [if_pos rfl]
    exact ⟨P, Nat.le_refl P, h.1, hP, fun t h1 h2 => absurd h1 (by omega), fun j hj => (h.2 j hj).1⟩
  | false =>
    rw [if_neg (by decide)]
    exact ⟨fun t h1 h2 => by rw [show t = P by omega]; exact hP, fun _ _ => rfl⟩
theorem pw_s {M k : Nat} (h : k < M) : 36 ^ (M - k) = 36 * 36 ^ (M - (k + 1)) := by
  rw [show M - k = (M - (k + 1)) + 1 by omega, Nat.pow_succ, Nat.mul_comm]
theorem lo_eq {M k P : Nat} (h : k < M) : (36 * P + 0) * 36 ^ (M - (k + 1)) = P * 36 ^ (M - k) := by
  rw [pw_s h, Nat.add_zero, ← Nat.mul_assoc, Nat.mul_comm P 36]
theorem hi_eq {M k P : Nat} (h : k < M) : (36 * P + 36) * 36 ^ (M - (k + 1)) = (P + 1) * 36 ^ (M - k) := by
  rw [pw_s h, ← Nat.mul_assoc, show 36 * P + 36 = (P + 1) * 36 by omega]
def fewN (o : Option (Nat × Nat)) : Int32 := match o with
  | none => -9
  | some z => nI z.1
def fewR (o : Option (Nat × Nat)) (r : Nat → Int32) : Prop := match o with
  | none => True
  | some z => z.1 < 4 ∧ ∀ j, j < z.1 → r j = rw2 (dg 36 z.2 z.1 j)
theorem lin_m1 {k : Int32} (h : lin k.toInt64 (-1) 2 = true) : (k = -1 ∨ ∃ j, j < 3 ∧ k = nI j) := by
  unfold lin at h
  rw [Bool.and_eq_true] at h
  have h1 := Int64.le_iff_toInt_le.mp (of_decide_eq_true h.1)
  have h2 := Int64.le_iff_toInt_le.mp (of_decide_eq_true h.2)
  rw [Int32.toInt_toInt64] at h1 h2
  have h1 : -1 ≤ k.toInt := h1
  have h2 : k.toInt ≤ 2 := h2
  by_cases e : k.toInt = -1
  · exact Or.inl (Int32.toInt_inj.mp (by rw [e]; rfl))
  · right
    have h3 : inP k 3 = true := by
      unfold inP
      rw [decide_eq_true (by omega), decide_eq_true (by omega)]
      rfl
    obtain ⟨e1, e2⟩ := inP_e (by omega) h3
    exact ⟨cix k, e2, e1⟩
theorem fewA_k {o : Option (Nat × Nat)} {r : Nat → Int32} (h : fewR o r) {k : Int32} (hk : lin k.toInt64 (-1) 2 = true) : (if k = -1 then fewN o else if fewN o ≤ k then -9 else r (cix k)) = fewA o k := by
  cases o with
  | none =>
    show (if k = -1 then -9 else if (-9 : Int32) ≤ k then -9 else _) = -9
    rcases lin_m1 hk with e | ⟨j, hj, e⟩
    · rw [if_pos e]
    · have h0 : (0 : Int32) ≤ k := by rw [e]; exact nI_pos' (by omega)
      rw [if_neg (fun z => by rw [z] at h0; exact absurd h0 (by decide)), if_pos (Int32.le_trans (by decide) h0)]
  | some z =>
    have h : z.1 < 4 ∧ ∀ j, j < z.1 → r j = rw2 (dg 36 z.2 z.1 j) := h
    show (if k = -1 then nI z.1 else if nI z.1 ≤ k then -9 else r (cix k)) = (if 0 ≤ k then (if nI z.1 ≤ k then -9 else 10 * nI (dg 36 z.2 z.1 (cix k) / 6) + nI (dg 36 z.2 z.1 (cix k) % 6)) else nI z.1)
    rcases lin_m1 hk with e | ⟨j, hj, e⟩
    · rw [if_pos e, if_neg (by rw [e]; decide)]
    · have h0 : (0 : Int32) ≤ k := by rw [e]; exact nI_pos' (by omega)
      rw [if_neg (fun z => by rw [z] at h0; exact absurd h0 (by decide)), if_pos h0]
      by_cases h2 : nI z.1 ≤ k
      · rw [if_pos h2, if_pos h2]
      · rw [if_neg h2, if_neg h2, rw2_10]
        rw [e] at h2
        have h3 : j < z.1 := Nat.lt_of_not_le (fun q => h2 ((nI_leI (by omega) (by omega)).mpr q))
        rw [e, cix_nI (by omega)]
        exact h.2 j h3
