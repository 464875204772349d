/-! WHAT PEOPLE's PLACES DECIDE: two states that agree below n go alike -/
def agr {F F' : Type} (n : Nat) (S : LnS F) (S' : LnS F') : Prop := ∀ j, j < n → S.1 j = S'.1 j ∧ S.2.1 j = S'.2.1 j ∧ S.2.2.1 j = S'.2.2.1 j ∧ S.2.2.2.1 j = S'.2.2.2.1 j
section AG
variable {F F' : Type} {n : Nat} {fu : F → Nat → Int32 → Int32 → F} {fu' : F' → Nat → Int32 → Int32 → F'} {la la' wa wa' : Nat → Int32} {Rf : F → F' → Prop}
theorem upd_c {f f' : Nat → Int32} {k : Nat} {v v' : Int32} (hv : v = v') {j : Nat} (h : f j = f' j) : upd f k v j = upd f' k v' j := by
  by_cases e : j = k
  · subst e; rw [upd_s, upd_s, hv]
  · rw [upd_n _ _ e, upd_n _ _ e, h]
theorem agr_see (hfu : ∀ f f' j c lf, j < n → cix c < n → c = nI (cix c) → Rf f f' → Rf (fu f j c lf) (fu' f' j c lf)) {S : LnS F} {S' : LnS F'} {j : Nat} (hj : j < n) (hh : hasOk n S.1) (h : agr n S S') (hR : Rf S.2.2.2.2 S'.2.2.2.2) : agr n (lsee fu j S) (lsee fu' j S') ∧ Rf (lsee fu j S).2.2.2.2 (lsee fu' j S').2.2.2.2 := by
  have h1 := h j hj
  have h2 := (hh j hj).2
  have e1 : S.2.1 (cix (S.1 j)) = S'.2.1 (cix (S'.1 j)) := by rw [← h1.1]; exact (h _ h2).2.1
  refine ⟨fun i hi => ?_, ?_⟩
  · obtain ⟨a1, a2, a3, a4⟩ := h i hi
    exact ⟨a1, a2, a3, upd_c (by rw [e1, h1.2.2.2]) a4⟩
  · show Rf (fu S.2.2.2.2 j (S.1 j) (S.2.1 (cix (S.1 j)))) (fu' S'.2.2.2.2 j (S'.1 j) (S'.2.1 (cix (S'.1 j))))
    rw [← e1, ← h1.1]
    exact hfu _ _ _ _ _ hj h2 (hh j hj).1 hR
theorem agr_wear (hla : ∀ j, j < n → la j = la' j) {S : LnS F} {S' : LnS F'} {k : Nat} (hk : k < n) (h : agr n S S') : agr n (lwear la k S) (lwear la' k S') := by
  intro i hi
  obtain ⟨a1, a2, a3, a4⟩ := h i hi
  obtain ⟨b1, b2, b3, b4⟩ := h k hk
  refine ⟨a1, ?_, upd_c (by rw [b3]) a3, a4⟩
  show (if S.2.2.1 k + 1 ≤ la k then S.2.1 else _) i = (if S'.2.2.1 k + 1 ≤ la' k then S'.2.1 else _) i
  rw [b3, hla k hk]
  split
  · exact a2
  · exact upd_c (by rw [b2]) a2
theorem agr_swap {S : LnS F} {S' : LnS F'} {i j : Nat} (hi : i < n) (hj : j < n) (h : agr n S S') : agr n (lswap i j S) (lswap i j S') := by
  intro k hk
  obtain ⟨a1, a2, a3, a4⟩ := h k hk
  exact ⟨upd_c (h i hi).1 (upd_c (h j hj).1 a1), a2, a3, a4⟩
theorem agr_lend (hfu : ∀ f f' j c lf, j < n → cix c < n → c = nI (cix c) → Rf f f' → Rf (fu f j c lf) (fu' f' j c lf)) (hla : ∀ j, j < n → la j = la' j) {S : LnS F} {S' : LnS F'} {i j : Nat} (hi : i < n) (hj : j < n) (hh : hasOk n S.1) (h : agr n S S') (hR : Rf S.2.2.2.2 S'.2.2.2.2) : agr n (llend fu la i j S) (llend fu' la' i j S') ∧ Rf (llend fu la i j S).2.2.2.2 (llend fu' la' i j S').2.2.2.2 := by
  have hs : hasOk n (lswap i j S).1 := hasOk_swap hh hi hj
  have h1 := agr_swap hi hj h
  have e1 : (lswap i j S).1 i = (lswap i j S').1 i := (h1 i hi).1
  have e2 : (lswap i j S).1 j = (lswap i j S').1 j := (h1 j hj).1
  have h2 := agr_wear (k := cix ((lswap i j S).1 i)) hla (hs i hi).2 h1
  have h3 := agr_wear (k := cix ((lswap i j S).1 j)) hla (hs j hj).2 h2
  have h4 := agr_see hfu hi (S := lwear la (cix ((lswap i j S).1 j)) (lwear la (cix ((lswap i j S).1 i)) (lswap i j S))) hs h3 hR
  have h5 := agr_see hfu hj (S := lsee fu i (lwear la (cix ((lswap i j S).1 j)) (lwear la (cix ((lswap i j S).1 i)) (lswap i j S)))) hs h4.1 h4.2
  rw [e1, e2] at h5
  unfold llend
  rw [e1, e2]
  exact h5
theorem agr_can {S : LnS F} {S' : LnS F'} {i j : Nat} (hi : i < n) (hj : j < n) (hh : hasOk n S.1) (h : agr n S S') : lcan i j S = lcan i j S' := by
  unfold lcan
  rw [← (h i hi).1, ← (h j hj).1, (h _ (hh i hi).2).2.1, (h _ (hh j hj).2).2.1]
theorem agr_mend (hwa : ∀ j, j < n → wa j = wa' j) {S : LnS F} {S' : LnS F'} (h : agr n S S') : lmend wa n S = lmend wa' n S' := by
  unfold lmend
  exact mset_congr (fun j hj => by rw [hwa j hj, (h j hj).2.2.2])
theorem agr_all (hwa : ∀ j, j < n → wa j = wa' j) {S : LnS F} {S' : LnS F'} (h : agr n S S') : lall wa n S = lall wa' n S' := by
  unfold lall
  rw [agr_mend hwa h]
theorem agr_go (hfu : ∀ f f' j c lf, j < n → cix c < n → c = nI (cix c) → Rf f f' → Rf (fu f j c lf) (fu' f' j c lf)) (hla : ∀ j, j < n → la j = la' j) (hwa : ∀ j, j < n → wa j = wa' j) {S : LnS F} {S' : LnS F'} (hh : hasOk n S.1) (h : agr n S S') (hR : Rf S.2.2.2.2 S'.2.2.2.2) {pr pr' : Nat → Nat} {N : Nat} (hp : ∀ t, t < 2 * N → pr t < n) (hpp : ∀ t, t < 2 * N → pr t = pr' t) :
    ∀ x, x ≤ N → agr n (lgo fu la wa n pr S x).1 (lgo fu' la' wa' n pr' S' x).1 ∧ Rf (lgo fu la wa n pr S x).1.2.2.2.2 (lgo fu' la' wa' n pr' S' x).1.2.2.2.2 ∧ (lgo fu la wa n pr S x).2 = (lgo fu' la' wa' n pr' S' x).2 := by
  intro x
  induction x with
  | zero => intro _; exact ⟨h, hR, rfl⟩
  | succ x ih =>
    intro hx
    obtain ⟨i1, i2, i3⟩ := ih (by omega)
    have hg := hasOk_go (fu := fu) (la := la) (wa := wa) hh hp x (by omega)
    have p1 := hp (2 * x) (by omega)
    have p2 := hp (2 * x + 1) (by omega)
    show agr n (lstep fu la wa n (lall wa n S) pr x (lgo fu la wa n pr S x)).1 (lstep fu' la' wa' n (lall wa' n S') pr' x (lgo fu' la' wa' n pr' S' x)).1 ∧ _
    show _ ∧ Rf (lstep fu la wa n (lall wa n S) pr x (lgo fu la wa n pr S x)).1.2.2.2.2 (lstep fu' la' wa' n (lall wa' n S') pr' x (lgo fu' la' wa' n pr' S' x)).1.2.2.2.2 ∧ (lstep fu la wa n (lall wa n S) pr x (lgo fu la wa n pr S x)).2 = (lstep fu' la' wa' n (lall wa' n S') pr' x (lgo fu' la' wa' n pr' S' x)).2
    generalize lgo fu la wa n pr S x = T at i1 i2 i3 hg
    generalize lgo fu' la' wa' n pr' S' x = T' at i1 i2 i3
    obtain ⟨T1, T2, T3⟩ := T
    obtain ⟨U1, U2, U3⟩ := T'
    cases i3
    rw [agr_all hwa h]
    unfold lstep
    rw [← hpp (2 * x) (by omega), ← hpp (2 * x + 1) (by omega)]
    dsimp only at i1 i2 hg ⊢
    rw [← agr_can p1 p2 hg i1]
    have hl := agr_lend hfu hla p1 p2 hg i1 i2
    rw [agr_all hwa hl.1]
    split
    · exact ⟨i1, i2, rfl⟩
    · split
      · exact ⟨hl.1, hl.2, rfl⟩
      · exact ⟨i1, i2, rfl⟩
theorem agr_sees (hfu : ∀ f f' j c lf, j < n → cix c < n → c = nI (cix c) → Rf f f' → Rf (fu f j c lf) (fu' f' j c lf)) {S : LnS F} {S' : LnS F'} (hh : hasOk n S.1) (h : agr n S S') (hR : Rf S.2.2.2.2 S'.2.2.2.2) : ∀ i, i ≤ n → agr n (lsees fu S i) (lsees fu' S' i) ∧ Rf (lsees fu S i).2.2.2.2 (lsees fu' S' i).2.2.2.2
  | 0, _ => ⟨h, hR⟩
  | i + 1, hi => by
    obtain ⟨h1, h2⟩ := agr_sees hfu hh h hR i (by omega)
    exact agr_see hfu (by omega) (by rw [lsees_has]; exact hh) h1 h2
end AG
theorem fuM_c {n : Nat} {wa wa' : Nat → Int32} (hwa : ∀ j, j < n → wa j = wa' j) : ∀ (f f' : Nat → Int32) (j : Nat) (c lf : Int32), j < n → cix c < n → c = nI (cix c) → (∀ i, i < n → f i = f' i) → (∀ i, i < n → fuM wa f j c lf i = fuM wa' f' j c lf i) := by
  intro f f' j c lf hj _ _ h i hi
  unfold fuM
  rw [hwa j hj]
  exact upd_c (by rw [h j hj]) (h i hi)
def zLn : LnS (Nat → Int32) := (fun _ => 0, fun _ => 0, fun _ => 0, fun _ => 0, fun _ => 0)
/-- loans from the beginning, by what the places below n say alone -/
def cgo (n : Nat) (sc wa la : Nat → Int32) (pr : Nat → Nat) (N : Nat) : LnS (Nat → Int32) × Int32 × Int32 := lgo (fuM wa) la wa n pr (mbeg n sc wa zLn) N
theorem mbeg_agr {n : Nat} {sc sc' wa wa' : Nat → Int32} (hn : n < 2 ^ 31) (hsc : ∀ j, j < n → sc j = sc' j) (hwa : ∀ j, j < n → wa j = wa' j) (S S' : LnS (Nat → Int32)) : agr n (mbeg n sc wa S) (mbeg n sc' wa' S') ∧ ∀ i, i < n → (mbeg n sc wa S).2.2.2.2 i = (mbeg n sc' wa' S').2.2.2.2 i := by
  unfold mbeg
  have h := agr_sees (n := n) (Rf := fun f f' => ∀ i, i < n → f i = f' i) (fuM_c hwa) (S := lbegA n sc S (cutF n (fun _ => 0) S.2.2.2.2)) (S' := lbegA n sc' S' (cutF n (fun _ => 0) S'.2.2.2.2)) (hasOk_id n _ hn)
    (fun j hj => ⟨by show cutF n nI _ j = cutF n nI _ j; rw [cutF_in hj, cutF_in hj], by show cutF n sc _ j = cutF n sc' _ j; rw [cutF_in hj, cutF_in hj]; exact hsc j hj, by show cutF n (fun _ => 0) _ j = cutF n (fun _ => 0) _ j; rw [cutF_in hj, cutF_in hj], by show cutF n (fun _ => 0) _ j = cutF n (fun _ => 0) _ j; rw [cutF_in hj, cutF_in hj]⟩)
    (fun j hj => by show cutF n (fun _ => 0) _ j = cutF n (fun _ => 0) _ j; rw [cutF_in hj, cutF_in hj]) n (Nat.le_refl n)
  exact h
/-- the model's run, whatever lay there before, is the plain one -/
theorem cgo_of {n : Nat} {sc sc' wa wa' la la' : Nat → Int32} (hn : n < 2 ^ 31) (hsc : ∀ j, j < n → sc j = sc' j) (hwa : ∀ j, j < n → wa j = wa' j) (hla : ∀ j, j < n → la j = la' j) (S : LnS (Nat → Int32)) {pr pr' : Nat → Nat} {N : Nat} (hp : ∀ t, t < 2 * N → pr t < n) (hpp : ∀ t, t < 2 * N → pr t = pr' t) :
    agr n (lgo (fuM wa) la wa n pr (mbeg n sc wa S) N).1 (cgo n sc' wa' la' pr' N).1 ∧ (∀ i, i < n → (lgo (fuM wa) la wa n pr (mbeg n sc wa S) N).1.2.2.2.2 i = (cgo n sc' wa' la' pr' N).1.2.2.2.2 i) ∧ (lgo (fuM wa) la wa n pr (mbeg n sc wa S) N).2 = (cgo n sc' wa' la' pr' N).2 := by
  obtain ⟨h1, h2⟩ := mbeg_agr hn hsc hwa S zLn
  exact agr_go (Rf := fun f f' => ∀ i, i < n → f i = f' i) (fuM_c hwa) hla hwa (mbeg_ok _ _ _ hn) h1 h2 hp hpp N (Nat.le_refl N)
/-- what was read is as the people know it -/
def rdOk (kn rw rs rk : Nat → Int32) : Nat → Bool
  | 0 => true
  | i + 1 => rdOk kn rw rs rk i && decide (b2i (bq (kn (cix (rw i))) (rs i)) = rk i)
def soV (T : LnS (Nat → Int32) × Int32 × Int32) (rw rs rk : Nat → Int32) (rn : Nat) : Bool := decide (¬ 0 ≤ T.2.1) && rdOk T.1.2.2.2.1 rw rs rk rn
theorem rdOk_congr {kn kn' rw rs rk : Nat → Int32} {n : Nat} (h : ∀ j, j < n → kn j = kn' j) : ∀ {i : Nat}, (∀ k, k < i → cix (rw k) < n) → rdOk kn rw rs rk i = rdOk kn' rw rs rk i
  | 0, _ => rfl
  | i + 1, hr => by
    show (rdOk kn rw rs rk i && _) = (rdOk kn' rw rs rk i && _)
    rw [rdOk_congr h (fun k hk => hr k (by omega)), h _ (hr i (by omega))]
def cntB (f : Nat → Bool) : Nat → Int32
  | 0 => 0
  | i + 1 => cntB f i + (if f i = true then 1 else 0)
def leastB (f : Nat → Bool) : Nat → Int32
  | 0 => -9
  | i + 1 => if f i = true then (if 0 ≤ leastB f i then leastB f i else nI i) else leastB f i
theorem cntB_t {f : Nat → Bool} {i : Nat} (h : f i = true) : cntB f i + 1 = cntB f (i + 1) := by show _ = cntB f i + _; rw [if_pos h]
theorem cntB_f {f : Nat → Bool} {i : Nat} (h : f i = false) : cntB f i = cntB f (i + 1) := by show _ = cntB f i + _; rw [if_neg (by rw [h]; decide)]; exact (Int32.add_zero _).symm
theorem leastB_f {f : Nat → Bool} {i : Nat} (h : f i = false) : leastB f i = leastB f (i + 1) := by show _ = if _ then _ else _; rw [if_neg (by rw [h]; decide)]
theorem leastB_t0 {f : Nat → Bool} {i : Nat} (h : f i = true) (h0 : ¬ 0 ≤ leastB f i) : nI i = leastB f (i + 1) := by show _ = if _ then _ else _; rw [if_pos h, if_neg h0]
theorem leastB_t1 {f : Nat → Bool} {i : Nat} (h : f i = true) (h0 : 0 ≤ leastB f i) : leastB f i = leastB f (i + 1) := by show _ = if _ then _ else _; rw [if_pos h, if_pos h0]
theorem soV_c {n : Nat} {sc wa la : Nat → Int32} (hn : n < 2 ^ 31) (S : LnS (Nat → Int32)) {pr : Nat → Nat} {N : Nat} (hp : ∀ t, t < 2 * N → pr t < n) {rw rs rk : Nat → Int32} {rn : Nat} (hr : ∀ k, k < rn → cix (rw k) < n) : soV (lgo (fuM wa) la wa n pr (mbeg n sc wa S) N) rw rs rk rn = soV (cgo n sc wa la pr N) rw rs rk rn := by
  obtain ⟨h1, -, h3⟩ := cgo_of hn (fun _ _ => rfl) (fun _ _ => rfl) (fun _ _ => rfl) S hp (fun _ _ => rfl) (sc := sc) (wa := wa) (la := la) (sc' := sc) (wa' := wa) (la' := la)
  unfold soV
  rw [h3, rdOk_congr (n := n) (fun j hj => (h1 j hj).2.2.2) hr]
def pairsV (n : Nat) (sz ln : Int32) (sh : Nat → Int32) (lane i : Int32) (N : Nat) : Int32 × Int32 := if barV sz ln lane i (lN (2 * N)) = 0 then ((if allP n sh (2 * N) = true then 0 else (-1)), 0) else ((-10) - barV sz ln lane i (lN (2 * N)), barV sz ln lane i (lN (2 * N)))
def seenV (n : Nat) (a : Nat → Nat → Int32) (x y lane i z : Int32) (b : Bool) : Int32 × Int32 :=
  if inP x n = true ∧ inP y 4 = true then (if inP lane 3 = true ∧ inP z 21 = true ∧ b = true then pairsV n (a 25 (cix y)) (a 26 (cix y)) (fun t => a 27 (60 * cix y + cix i + t)) lane i (cix z) else (-2, 0)) else (-1, 0)
theorem pairsV_0 {n : Nat} {sz ln : Int32} {sh : Nat → Int32} {lane i : Int32} {N : Nat} (h : 0 ≤ (pairsV n sz ln sh lane i N).1) : pairsV n sz ln sh lane i N = (0, 0) ∧ barV sz ln lane i (lN (2 * N)) = 0 ∧ allP n sh (2 * N) = true := by
  unfold pairsV at h ⊢
  by_cases h1 : barV sz ln lane i (lN (2 * N)) = 0
  · rw [if_pos h1] at h ⊢
    by_cases h2 : allP n sh (2 * N) = true
    · rw [if_pos h2]; exact ⟨rfl, h1, h2⟩
    · rw [if_neg h2] at h; exact absurd h (by decide)
  · exfalso
    rw [if_neg h1] at h
    rcases barV_le sz ln lane i (lN (2 * N)) with e | e | e | e | e
    · exact h1 e
    · rw [e] at h; exact absurd h (by decide)
    · rw [e] at h; exact absurd h (by decide)
    · rw [e] at h; exact absurd h (by decide)
    · rw [e] at h; exact absurd h (by decide)
theorem seenV_0 {n : Nat} {a : Nat → Nat → Int32} {x y lane i z : Int32} {b : Bool} (h : 0 ≤ (seenV n a x y lane i z b).1) : seenV n a x y lane i z b = (0, 0) ∧ inP x n = true ∧ inP y 4 = true ∧ inP lane 3 = true ∧ inP z 21 = true ∧ b = true ∧ barV (a 25 (cix y)) (a 26 (cix y)) lane i (lN (2 * cix z)) = 0 ∧ allP n (fun t => a 27 (60 * cix y + cix i + t)) (2 * cix z) = true := by
  unfold seenV at h ⊢
  by_cases h1 : inP x n = true ∧ inP y 4 = true
  · rw [if_pos h1] at h ⊢
    by_cases h2 : inP lane 3 = true ∧ inP z 21 = true ∧ b = true
    · rw [if_pos h2] at h ⊢
      obtain ⟨e1, e2, e3⟩ := pairsV_0 h
      exact ⟨e1, h1.1, h1.2, h2.1, h2.2.1, h2.2.2, e2, e3⟩
    · rw [if_neg h2] at h; exact absurd h (by decide)
  · rw [if_neg h1] at h; exact absurd h (by decide)
abbrev TT : Type := LnS (Nat → Int32) × Int32 × Int32
/-- where the pairs lie, once nothing bars them -/
theorem pairs_at {n : Nat} {sz ln lane i : Int32} {sh : Nat → Int32} {k N : Nat} (hn : n < 2 ^ 31) (hN : N ≤ 1000) (hz : sz.toInt ≤ 60) (h1 : barV sz ln lane i (lN (2 * N)) = 0) (h2 : allP n (fun t => sh (60 * k + cix i + t)) (2 * N) = true) (hk : k < 4) : i = nI (cix i) ∧ 60 * k + cix i + 2 * N ≤ 240 ∧ ∀ t, t < 2 * N → sh (60 * k + cix i + t) = nI (cix (sh (60 * k + cix i + t))) ∧ cix (sh (60 * k + cix i + t)) < n := by
  obtain ⟨b1, b2, b3, b4, b5⟩ := barV_0 h1 (by rw [lN_toInt (by omega)]; omega)
  rw [lN_toInt (by omega)] at b5
  obtain ⟨ei, hi0⟩ := nI_of0 b3
  exact ⟨ei, by omega, fun t ht => inP_e hn (allP_at h2 t ht)⟩
