/-! THE PEOPLE's WORLD: LentYouths' core, the list's elementData, the childhoods; then any further world -/
def kdN (x : Int32) : Nat := if x = 0 then 0 else if x = 1 then 1 else 2
theorem kdN_cases (x : Int32) : kdN x = 0 ∨ kdN x = 1 ∨ kdN x = 2 := by
  unfold kdN
  split
  · exact Or.inl rfl
  · split
    · exact Or.inr (Or.inl rfl)
    · exact Or.inr (Or.inr rfl)
def chF (o : Nat) (a : Nat → Nat → Int32) (p : Nat) : List Value := .int (nI p) :: .int (a 3 p) :: .int (a 4 p) :: .int (a 5 p) :: .int (a 13 p) :: .int (a 14 p) :: List.replicate (kdN (a 2 p) + 1) (.ref o)
def chE (o : Nat) (y : Nat → Nat) (a : Nat → Nat → Int32) (p : Nat) : Nat × va_E := (y p, .inr (3 + kdN (a 2 p), chF o a p))
def edF (y : Nat → Nat) (n : Nat) : Nat → Option Nat := fun j => if j < n then some (y j) else none
def edE (ct : Nat → ClassId) (qe : Nat) (y : Nat → Nat) (n : Nat) : Nat × va_E := (qe, .inl (ct 4, 10, .inr (.inr (.inr (.inr (edF y n))))))
def peW (ct : Nat → ClassId) (o qe n : Nat) (y : Nat → Nat) (a : Nat → Nat → Int32) : va_W := if n = 0 then [] else edE ct qe y n :: (List.range n).map (chE o y a)
def xG (ct : Nat → ClassId) (o : Nat) (q : Nat → Nat) (L : XL) (y : Nat → Nat) (g : Nat → Int32) (a : Nat → Nat → Int32) (ex : va_W) : va_W := xC ct o q L g a ++ (peW ct o L.2.2.2.1 L.2.2.2.2 y a ++ ex)
def xps (n : Nat) : Nat := if n = 0 then 15 else 16 + n
theorem xC_len (ct : Nat → ClassId) (o : Nat) (q : Nat → Nat) (L : XL) (g : Nat → Int32) (a : Nat → Nat → Int32) : (xC ct o q L g a).length = 15 := rfl
theorem peW_len (ct : Nat → ClassId) (o qe n : Nat) (y : Nat → Nat) (a : Nat → Nat → Int32) : 15 + (peW ct o qe n y a).length = xps n := by
  unfold peW xps
  split
  · rfl
  · rw [List.length_cons, List.length_map, List.length_range]; omega
section XGL
variable {ct : Nat → ClassId} {o : Nat} {q : Nat → Nat} {ql qs : Nat} {md : Int32} {qe n : Nat} {y : Nat → Nat} {g : Nat → Int32} {a : Nat → Nat → Int32} {ex : va_W}
theorem xG_def : xG ct o q (ql, qs, md, qe, n) y g a ex = xC ct o q (ql, qs, md, qe, n) g a ++ (peW ct o qe n y a ++ ex) := rfl
theorem xG_ed (h : 0 < n) : (xG ct o q (ql, qs, md, qe, n) y g a ex)[15]? = some (edE ct qe y n) := by
  rw [xG_def]
  unfold peW
  rw [if_neg (show ¬ n = 0 by omega)]
  rfl
theorem xG_ch {p : Nat} (h : p < n) : (xG ct o q (ql, qs, md, qe, n) y g a ex)[16 + p]? = some (chE o y a p) := by
  rw [xG_def]
  unfold peW
  rw [if_neg (show ¬ n = 0 by omega), List.getElem?_append_right (by rw [xC_len]; omega), xC_len, show 16 + p - 15 = p + 1 by omega, List.cons_append, List.getElem?_cons_succ, List.getElem?_append_left (by rw [List.length_map, List.length_range]; exact h), List.getElem?_map, List.getElem?_range h]
  rfl
theorem xG_ex (j : Nat) : (xG ct o q (ql, qs, md, qe, n) y g a ex)[xps n + j]? = ex[j]? := by
  rw [xG_def, ← List.append_assoc, List.getElem?_append_right (by rw [List.length_append, xC_len, peW_len]; omega), List.length_append, xC_len, peW_len]
  congr 1
  omega
theorem chE_at {k p : Nat} {f : Nat → Int32} (hk : k ≠ 2 ∧ k ≠ 3 ∧ k ≠ 4 ∧ k ≠ 5 ∧ k ≠ 13 ∧ k ≠ 14) : chE o y (va_up a k f) p = chE o y a p := by
  have e : ∀ i, i ≠ k → va_up a k f i = a i := fun i h => va_up_ne _ _ h
  unfold chE chF
  rw [e 2 (Ne.symm hk.1), e 3 (Ne.symm hk.2.1), e 4 (Ne.symm hk.2.2.1), e 5 (Ne.symm hk.2.2.2.1), e 13 (Ne.symm hk.2.2.2.2.1), e 14 (Ne.symm hk.2.2.2.2.2)]
theorem peW_up {k : Nat} {f : Nat → Int32} (hk : k ≠ 2 ∧ k ≠ 3 ∧ k ≠ 4 ∧ k ≠ 5 ∧ k ≠ 13 ∧ k ≠ 14) : peW ct o qe n y (va_up a k f) = peW ct o qe n y a := by
  unfold peW
  have e : (List.range n).map (chE o y (va_up a k f)) = (List.range n).map (chE o y a) := List.map_congr_left (fun p _ => chE_at hk)
  rw [e]
/-- which word a childhood's int field has -/
def chK (k k1 : Nat) : Prop := (k = 1 ∧ k1 = 3) ∨ (k = 2 ∧ k1 = 4) ∨ (k = 3 ∧ k1 = 5) ∨ (k = 4 ∧ k1 = 13) ∨ (k = 5 ∧ k1 = 14)
theorem chF_set {k k1 p : Nat} {v : Int32} (hk : chK k k1) : (chF o a p).set k (.int v) = chF o (va_up a k1 (upd (a k1) p v)) p := by
  have e0 : ∀ f : Nat → Int32, upd f p v p = v := fun f => if_pos rfl
  rcases hk with ⟨rfl, rfl⟩ | ⟨rfl, rfl⟩ | ⟨rfl, rfl⟩ | ⟨rfl, rfl⟩ | ⟨rfl, rfl⟩ <;> simp [chF, va_up, e0]
theorem chE_set {k k1 p : Nat} {v : Int32} (hk : chK k k1) (j : Nat) : chE o y (va_up a k1 (upd (a k1) p v)) j = if j = p then (y p, .inr (3 + kdN (a 2 p), (chF o a p).set k (.int v))) else chE o y a j := by
  have h2 : va_up a k1 (upd (a k1) p v) 2 = a 2 := va_up_ne _ _ (by rcases hk with h | h | h | h | h <;> omega)
  by_cases hj : j = p
  · subst hj
    rw [if_pos rfl, chF_set hk]
    unfold chE
    rw [h2]
  · rw [if_neg hj]
    have e0 : ∀ f : Nat → Int32, upd f p v j = f j := fun f => if_neg hj
    rcases hk with ⟨rfl, rfl⟩ | ⟨rfl, rfl⟩ | ⟨rfl, rfl⟩ | ⟨rfl, rfl⟩ | ⟨rfl, rfl⟩ <;> simp [chE, chF, va_up, e0]
theorem xG_set {k k1 p : Nat} {v : Int32} (hk : chK k k1) (h : p < n) : (xG ct o q (ql, qs, md, qe, n) y g a ex).set (16 + p) (y p, .inr (3 + kdN (a 2 p), (chF o a p).set k (.int v))) = xG ct o q (ql, qs, md, qe, n) y g (va_up a k1 (upd (a k1) p v)) ex := by
  have ec : xC ct o q (ql, qs, md, qe, n) g (va_up a k1 (upd (a k1) p v)) = xC ct o q (ql, qs, md, qe, n) g a := by
    rcases hk with ⟨rfl, rfl⟩ | ⟨rfl, rfl⟩ | ⟨rfl, rfl⟩ | ⟨rfl, rfl⟩ | ⟨rfl, rfl⟩ <;> rfl
  rw [xG_def, xG_def, ec, List.set_append_right _ _ (by rw [xC_len]; omega), xC_len, show 16 + p - 15 = p + 1 by omega]
  congr 1
  unfold peW
  rw [if_neg (show ¬ n = 0 by omega), if_neg (show ¬ n = 0 by omega), List.cons_append, List.set_cons_succ, List.set_append_left _ _ (by rw [List.length_map, List.length_range]; exact h), List.cons_append]
  congr 2
  apply List.ext_getElem?
  intro j
  rw [List.getElem?_set, List.length_map, List.length_range]
  by_cases hj : j < n
  · have e1 : ((List.range n).map (chE o y (va_up a k1 (upd (a k1) p v))))[j]? = some (chE o y (va_up a k1 (upd (a k1) p v)) j) := by rw [List.getElem?_map, List.getElem?_range hj]; rfl
    rw [e1, chE_set hk j]
    by_cases hp : p = j
    · subst hp
      simp [hj]
    · rw [if_neg hp, if_neg (Ne.symm hp), List.getElem?_map, List.getElem?_range hj]
      rfl
  · have e1 : ((List.range n).map (chE o y (va_up a k1 (upd (a k1) p v))))[j]? = none := List.getElem?_eq_none (by rw [List.length_map, List.length_range]; omega)
    have e2 : ((List.range n).map (chE o y a))[j]? = none := List.getElem?_eq_none (by rw [List.length_map, List.length_range]; omega)
    rw [e1, e2, if_neg (by omega)]
end XGL
