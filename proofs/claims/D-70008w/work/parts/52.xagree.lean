/-! LENT YOUTHS' RUN IS THE PLAIN ONE -/
theorem and31 (k : Int32) : ∃ m, m < 32 ∧ k &&& 31 = nI m &&& 31 := by
  refine ⟨(k.toBitVec &&& 31#32).toNat, ?_, ?_⟩
  · rw [BitVec.toNat_and]
    exact Nat.lt_of_le_of_lt Nat.and_le_right (by decide)
  · apply Int32.toBitVec_inj.mp
    rw [Int32.toBitVec_and, Int32.toBitVec_and]
    have e : (nI (k.toBitVec &&& 31#32).toNat).toBitVec = k.toBitVec &&& 31#32 := by
      show BitVec.ofNat 32 (k.toBitVec &&& 31#32).toNat = _
      rw [BitVec.ofNat_toNat, BitVec.setWidth_eq]
    rw [e]
    show k.toBitVec &&& 31#32 = k.toBitVec &&& 31#32 &&& 31#32
    rw [BitVec.and_assoc, BitVec.and_self]
theorem bq_k (k : Int32) : ∃ m, m < 32 ∧ ∀ x, bq x k = bt x m := by
  obtain ⟨m, hm, e⟩ := and31 k
  refine ⟨m, hm, fun x => ?_⟩
  rw [← bq_bt x hm]
  unfold bq
  rw [e]
theorem bq_or (x z k : Int32) : bq (x ||| z) k = (bq x k || bq z k) := by
  obtain ⟨m, -, h⟩ := bq_k k
  rw [h, h, h, b_or]
theorem bq_z (k : Int32) : bq 0 k = false := by
  obtain ⟨m, -, h⟩ := bq_k k
  rw [h, b_0]
theorem bq_one {i j : Nat} (hi : i < 32) (hj : j < 32) : bq ((1 : Int32) <<< (nI j &&& 31)) (nI i) = decide (i = j) := by rw [bq_bt _ hi, b_one hj hi]
/-- who knows by whose childhood, by the one's words and by the other's -/
def RfX (n : Nat) (wa : Nat → Int32) (f f' : Nat → Int32) : Prop := ∀ j, j < n → ∀ i, i < n → bq (f (6 * j + i)) (wa j) = bq (f' j) (nI i)
theorem RfX_fu {n : Nat} {wa : Nat → Int32} (hn : n ≤ 6) : ∀ (f f' : Nat → Int32) (j : Nat) (c lf : Int32), j < n → cix c < n → c = nI (cix c) → RfX n wa f f' → RfX n wa (fuX f j c lf) (fuM wa f' j c lf) := by
  intro f f' j c lf hj hc ec h j2 hj2 i hi
  unfold fuX fuM
  generalize hk : cix c = k at *
  by_cases e : j2 = j
  · subst e
    rw [upd_s, bq_or]
    have hs : bq (if bq lf (wa j2) = true then (1 : Int32) <<< (c &&& 31) else 0) (nI i) = (bq lf (wa j2) && decide (i = k)) := by
      by_cases hb : bq lf (wa j2) = true
      · rw [if_pos hb, hb, ec, bq_one (by omega) (by omega), Bool.true_and]
      · rw [if_neg hb, bq_z, show bq lf (wa j2) = false by simpa using hb, Bool.false_and]
    rw [hs]
    by_cases ei : i = k
    · subst ei
      rw [upd_s, bq_or, h j2 hj2 i hi, decide_eq_true rfl, Bool.and_true]
    · rw [upd_n _ _ (by omega), h j2 hj2 i hi, decide_eq_false ei, Bool.and_false, Bool.or_false]
  · rw [upd_n _ _ e, upd_n _ _ (by omega)]
    exact h j2 hj2 i hi
theorem xbg_v {n : Nat} (hn : n ≤ 6) (sc : Nat → Int32) (S : LnS (Nat → Int32)) (h0 : ∀ j, j < 6 → S.2.2.2.1 j = 0) (h1 : ∀ j, j < 36 → S.2.2.2.2 j = 0) : ∀ i, i ≤ n → ∀ j, j < n → (xbg sc S i).1 j = (if j < i then nI j else S.1 j) ∧ (xbg sc S i).2.1 j = (if j < i then sc j else S.2.1 j) ∧ (xbg sc S i).2.2.1 j = (if j < i then 0 else S.2.2.1 j) ∧ (xbg sc S i).2.2.2.1 j = (if j < i then 0 ||| sc j else 0) ∧ ∀ d, d < n → (xbg sc S i).2.2.2.2 (6 * j + d) = (if j < i ∧ d = j then 0 ||| sc j else 0)
  | 0, _, j, hj => by
    refine ⟨rfl, rfl, rfl, ?_, fun d hd => ?_⟩
    · rw [if_neg (by omega)]; exact h0 j (by omega)
    · rw [if_neg (by omega)]; exact h1 _ (by omega)
  | i + 1, hi, j, hj => by
    have ih := xbg_v hn sc S h0 h1 i (by omega)
    have ei : upd (xbg sc S i).1 i (nI i) i = nI i := upd_s _ _ _
    have el : upd (xbg sc S i).2.1 i (sc i) (cix (upd (xbg sc S i).1 i (nI i) i)) = sc i := by rw [ei, cix_nI (by omega), upd_s]
    obtain ⟨a1, a2, a3, a4, a5⟩ := ih j hj
    refine ⟨?_, ?_, ?_, ?_, fun d hd => ?_⟩
    · show upd (xbg sc S i).1 i (nI i) j = _
      by_cases e : j = i
      · subst e; rw [upd_s, if_pos (by omega)]
      · rw [upd_n _ _ e, a1]
        by_cases h : j < i
        · rw [if_pos h, if_pos (by omega)]
        · rw [if_neg h, if_neg (by omega)]
    · show upd (xbg sc S i).2.1 i (sc i) j = _
      by_cases e : j = i
      · subst e; rw [upd_s, if_pos (by omega)]
      · rw [upd_n _ _ e, a2]
        by_cases h : j < i
        · rw [if_pos h, if_pos (by omega)]
        · rw [if_neg h, if_neg (by omega)]
    · show upd (xbg sc S i).2.2.1 i 0 j = _
      by_cases e : j = i
      · subst e; rw [upd_s, if_pos (by omega)]
      · rw [upd_n _ _ e, a3]
        by_cases h : j < i
        · rw [if_pos h, if_pos (by omega)]
        · rw [if_neg h, if_neg (by omega)]
    · show upd (xbg sc S i).2.2.2.1 i ((xbg sc S i).2.2.2.1 i ||| upd (xbg sc S i).2.1 i (sc i) (cix (upd (xbg sc S i).1 i (nI i) i))) j = _
      rw [el]
      by_cases e : j = i
      · subst e; rw [upd_s, a4, if_neg (by omega), if_pos (by omega)]
      · rw [upd_n _ _ e, a4]
        by_cases h : j < i
        · rw [if_pos h, if_pos (by omega)]
        · rw [if_neg h, if_neg (by omega)]
    · show upd (xbg sc S i).2.2.2.2 (6 * i + cix (upd (xbg sc S i).1 i (nI i) i)) ((xbg sc S i).2.2.2.2 (6 * i + cix (upd (xbg sc S i).1 i (nI i) i)) ||| upd (xbg sc S i).2.1 i (sc i) (cix (upd (xbg sc S i).1 i (nI i) i))) (6 * j + d) = _
      rw [el, ei, cix_nI (by omega)]
      by_cases e : j = i
      · subst e
        by_cases e2 : d = j
        · subst e2; rw [upd_s, a5 d hj, if_neg (by omega), if_pos (by omega)]
        · rw [upd_n _ _ (by omega), a5 d hd, if_neg (by omega), if_neg (by omega)]
      · rw [upd_n _ _ (by omega), a5 d hd]
        by_cases h : j < i ∧ d = j
        · rw [if_pos h, if_pos (by omega)]
        · rw [if_neg h, if_neg (by omega)]
theorem lsees_kn {F : Type} (fu : F → Nat → Int32 → Int32 → F) (S : LnS F) : ∀ i j, (lsees fu S i).2.2.2.1 j = if j < i then S.2.2.2.1 j ||| S.2.1 (cix (S.1 j)) else S.2.2.2.1 j
  | 0, j => rfl
  | i + 1, j => by
    have ih := lsees_kn fu S i
    show upd (lsees fu S i).2.2.2.1 i ((lsees fu S i).2.2.2.1 i ||| (lsees fu S i).2.1 (cix ((lsees fu S i).1 i))) j = _
    rw [lsees_has, lsees_left]
    by_cases e : j = i
    · subst e; rw [upd_s, ih j, if_neg (by omega), if_pos (by omega)]
    · rw [upd_n _ _ e, ih j]
      by_cases h : j < i
      · rw [if_pos h, if_pos (by omega)]
      · rw [if_neg h, if_neg (by omega)]
theorem lsees_by (wa : Nat → Int32) (S : LnS (Nat → Int32)) : ∀ i j, (lsees (fuM wa) S i).2.2.2.2 j = if j < i then S.2.2.2.2 j ||| (if bq (S.2.1 (cix (S.1 j))) (wa j) = true then (1 : Int32) <<< (S.1 j &&& 31) else 0) else S.2.2.2.2 j
  | 0, j => rfl
  | i + 1, j => by
    have ih := lsees_by wa S i
    show fuM wa (lsees (fuM wa) S i).2.2.2.2 i ((lsees (fuM wa) S i).1 i) ((lsees (fuM wa) S i).2.1 (cix ((lsees (fuM wa) S i).1 i))) j = _
    rw [lsees_has, lsees_left]
    unfold fuM
    by_cases e : j = i
    · subst e; rw [upd_s]; have := ih j; unfold fuM at this; rw [this, if_neg (Nat.lt_irrefl j), if_pos (Nat.lt_succ_self j)]
    · rw [upd_n _ _ e]; have := ih j; unfold fuM at this; rw [this]
      by_cases h : j < i
      · rw [if_pos h, if_pos (Nat.lt_succ_of_lt h)]
      · rw [if_neg h, if_neg (show ¬ j < i + 1 by omega)]
theorem xbeg_agr {n : Nat} (hn : n ≤ 6) (sc wa : Nat → Int32) (S S' : LnS (Nat → Int32)) : agr n (xbeg n sc S) (mbeg n sc wa S') ∧ RfX n wa (xbeg n sc S).2.2.2.2 (mbeg n sc wa S').2.2.2.2 := by
  have hx := xbg_v hn sc (S.1, S.2.1, S.2.2.1, cutF 6 (fun _ => 0) S.2.2.2.1, cutF 36 (fun _ => 0) S.2.2.2.2) (fun j hj => (show cutF 6 (fun _ => 0) S.2.2.2.1 j = 0 from cutF_in hj)) (fun j hj => (show cutF 36 (fun _ => 0) S.2.2.2.2 j = 0 from cutF_in hj)) n (Nat.le_refl n)
  have hL : ∀ j, j < n → (lbegA n sc S' (cutF n (fun _ => 0) S'.2.2.2.2)).1 j = nI j ∧ (lbegA n sc S' (cutF n (fun _ => 0) S'.2.2.2.2)).2.1 j = sc j ∧ (lbegA n sc S' (cutF n (fun _ => 0) S'.2.2.2.2)).2.2.1 j = 0 ∧ (lbegA n sc S' (cutF n (fun _ => 0) S'.2.2.2.2)).2.2.2.1 j = 0 ∧ (lbegA n sc S' (cutF n (fun _ => 0) S'.2.2.2.2)).2.2.2.2 j = 0 := fun j hj => ⟨cutF_in hj, cutF_in hj, cutF_in (f := fun _ => 0) hj, cutF_in (f := fun _ => 0) hj, cutF_in (f := fun _ => 0) hj⟩
  refine ⟨fun j hj => ?_, fun j hj d hd => ?_⟩
  · obtain ⟨a1, a2, a3, a4, -⟩ := hx j hj
    obtain ⟨b1, b2, b3, b4, b5⟩ := hL j hj
    rw [if_pos hj] at a1 a2 a3 a4
    refine ⟨a1.trans ?_, a2.trans ?_, a3.trans ?_, a4.trans ?_⟩
    · unfold mbeg; rw [lsees_has]; exact b1.symm
    · unfold mbeg; rw [lsees_left]; exact b2.symm
    · unfold mbeg; rw [lsees_lent]; exact b3.symm
    · unfold mbeg; rw [lsees_kn, if_pos hj, b1, cix_nI (by omega), b2, b4]
  · obtain ⟨-, -, -, -, a5⟩ := hx j hj
    obtain ⟨b1, b2, b3, b4, b5⟩ := hL j hj
    have e1 : (xbeg n sc S).2.2.2.2 (6 * j + d) = _ := a5 d hd
    have e2 : (mbeg n sc wa S').2.2.2.2 j = _ := lsees_by wa _ n j
    rw [e1, e2, if_pos hj, b1, cix_nI (by omega), b2, b5, bq_or, bq_z, Bool.false_or]
    by_cases e : d = j
    · subst e
      rw [if_pos ⟨hj, rfl⟩, bq_or, bq_z, Bool.false_or]
      by_cases hb : bq (sc d) (wa d) = true
      · rw [if_pos hb, hb, bq_one (by omega) (by omega), decide_eq_true rfl]
      · rw [if_neg hb, bq_z]; simpa using hb
    · rw [if_neg (fun z => e z.2), bq_z]
      by_cases hb : bq (sc j) (wa j) = true
      · rw [if_pos hb, bq_one (by omega) (by omega), decide_eq_false e]
      · rw [if_neg hb, bq_z]
/-- LentYouths' run, whatever lay there before, is the plain one -/
theorem xgo_of {n : Nat} (hn : n ≤ 6) {sc wa la la' : Nat → Int32} (hla : ∀ j, j < n → la j = la' j) (S : LnS (Nat → Int32)) {pr pr' : Nat → Nat} {N : Nat} (hp : ∀ t, t < 2 * N → pr t < n) (hpp : ∀ t, t < 2 * N → pr t = pr' t) :
    agr n (lgo fuX la wa n pr (xbeg n sc S) N).1 (cgo n sc wa la' pr' N).1 ∧ RfX n wa (lgo fuX la wa n pr (xbeg n sc S) N).1.2.2.2.2 (cgo n sc wa la' pr' N).1.2.2.2.2 ∧ (lgo fuX la wa n pr (xbeg n sc S) N).2 = (cgo n sc wa la' pr' N).2 := by
  obtain ⟨h1, h2⟩ := xbeg_agr hn sc wa S zLn
  exact agr_go (Rf := RfX n wa) (RfX_fu hn) hla (fun _ _ => rfl) (xbeg_ok _ _ (by omega)) h1 h2 hp hpp N (Nat.le_refl N)
theorem soV_x {n : Nat} (hn : n ≤ 6) {sc wa la la' : Nat → Int32} (hla : ∀ j, j < n → la j = la' j) (S : LnS (Nat → Int32)) {pr pr' : Nat → Nat} {N : Nat} (hp : ∀ t, t < 2 * N → pr t < n) (hpp : ∀ t, t < 2 * N → pr t = pr' t) {rw rs rk : Nat → Int32} {rn : Nat} (hr : ∀ k, k < rn → cix (rw k) < n) : soV (lgo fuX la wa n pr (xbeg n sc S) N) rw rs rk rn = soV (cgo n sc wa la' pr' N) rw rs rk rn := by
  obtain ⟨h1, -, h3⟩ := xgo_of hn (sc := sc) (wa := wa) hla S hp hpp
  unfold soV
  rw [h3, rdOk_congr (fun j hj => (h1 j hj).2.2.2) hr]
theorem lval_x {n : Nat} (hn : n ≤ 6) {sc wa la la' : Nat → Int32} (hla : ∀ j, j < n → la j = la' j) (S : LnS (Nat → Int32)) {pr pr' : Nat → Nat} {N : Nat} (hp : ∀ t, t < 2 * N → pr t < n) (hpp : ∀ t, t < 2 * N → pr t = pr' t) (w : Int32) : lval n wa (lgo fuX la wa n pr (xbeg n sc S) N) (hmV n (lgo fuX la wa n pr (xbeg n sc S) N).1) w = lval n wa (cgo n sc wa la' pr' N) (hmV n (cgo n sc wa la' pr' N).1) w := by
  obtain ⟨h1, -, h3⟩ := xgo_of hn (sc := sc) (wa := wa) hla S hp hpp
  exact lval_congr (by omega) (fun _ _ => rfl) h1 h3 (hm_congr h1 (hasOk_go (N := N) (xbeg_ok _ _ (by omega)) hp N (Nat.le_refl N)))
