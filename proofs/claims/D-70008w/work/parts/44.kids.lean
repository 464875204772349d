/-! CHILDHOODS: casts, the kinds' words -/
theorem kdN_0 {x : Int32} (h : kdN x = 0) : x = 0 := by
  unfold kdN at h
  split at h
  · assumption
  · split at h <;> cases h
theorem kdN_1 {x : Int32} (h : kdN x = 1) : x = 1 := by
  unfold kdN at h
  split at h
  · cases h
  · split at h
    · assumption
    · cases h
theorem kdN_2 {x : Int32} (h : kdN x = 2) : ¬ x = 0 ∧ ¬ x = 1 := by
  unfold kdN at h
  split at h
  · cases h
  · split at h
    · cases h
    · exact ⟨by assumption, by assumption⟩
theorem lastsV_0 {x w : Int32} (h : kdN x = 0) : lastsV x w = w := by unfold lastsV; rw [if_pos (kdN_0 h)]
theorem lastsV_1 {x w : Int32} (h : kdN x = 1) : lastsV x w = w + 1 := by rw [kdN_1 h]; rfl
theorem lastsV_2 {x w : Int32} (h : kdN x = 2) : lastsV x w = 2 * (w + 1) := by unfold lastsV; rw [if_neg (kdN_2 h).1, if_neg (kdN_2 h).2]
def laX (ch ck : Int32) (kd we : Nat → Int32) : Nat → Int32 := fun x => if nI x = ch then lastsV ck (we x) else lastsV (kd x) (we x)
section KROWS
variable {p : Program} {l : Launch} {e : Env} {R : Room} {s : State} {m : MethodId} {args : Array Value} {below : List Frame} {meth : Method} {c : Code} {H : Heap} {locs : List Loc} {cells slots : Nat} {Q : State → Prop}
variable {cc : ByteArray} {pc : Nat} {ls : Array Slot} {rest : List Value} {dC : Nat → ClassId} {dI : Nat → Nat → Nat} {ct : Nat → ClassId} {A : Nat → Prop} {ex : va_W} {o : Nat} {q : Nat → Nat} {ql qs : Nat} {md : Int32} {qe n : Nat} {y : Nat → Nat} {g : Nat → Int32} {a : Nat → Nat → Int32}
theorem c_cast (hexec : p.tables.exec = Jvm.exec) (hb : c.code = cc) (hts : ∀ w ∈ lw_all, w.before args s = true) {own : String} (hown : s.vm.findClass own = some m.cls) (hK : va_K (dC, dI) clA (tyA ct) s) (hP : va_P (dC, dI) clA (xG ct o q (ql, qs, md, qe, n) y g a ex) H) (hE : xE s) {x : Nat} (hx : x < n) {idx : Nat} (hq : Cond.classLink own idx RX3 ∈ lw_all) (hdg : decode cc pc = .ok (.checkcast idx, 3))
    (kk : W p l e R s m args below meth c H locs cells slots Q (F0 m (pc + 3) ls (.ref (y x) :: rest))) : W p l e R s m args below meth c H locs cells slots Q (F0 m pc ls (.ref (y x) :: rest)) := by
  rcases kdN_cases (a 2 x) with h | h | h
  · exact va_castS hexec hb hown (hts _ hq) (cAt0 hK) (va_recv hK hP (ci := 3) (q0 := 16 + x) rfl (xG_c0 hx h)) hdg kk
  · exact va_castY hexec hb hown (hts _ hq) (xE_q1319 hE) (va_recv hK hP (ci := 4) (q0 := 16 + x) rfl (xG_c1 hx h)) hdg kk
  · exact va_castY hexec hb hown (hts _ hq) (xE_q1320 hE) (va_recv hK hP (ci := 5) (q0 := 16 + x) rfl (xG_c2 hx h)) hdg kk
/-- Sad's own outer object -/
theorem c_sad (hexec : p.tables.exec = Jvm.exec) (hb : c.code = cc) (hts : ∀ w ∈ lw_all, w.before args s = true) {own : String} (hown : s.vm.findClass own = some m.cls) (hK : va_K (dC, dI) clA (tyA ct) s) (hP : va_P (dC, dI) clA (xG ct o q (ql, qs, md, qe, n) y g a ex) H) {x : Nat} (hx : x < n) (hk : kdN (a 2 x) = 1 ∨ kdN (a 2 x) = 2) {idx : Nat} (hq : Cond.fieldLink own idx RX4 "this$0" "LLentYouths;" ∈ lw_all) (hdg : decode cc pc = .ok (.getfield idx, 3))
    (kk : W p l e R s m args below meth c H locs cells slots Q (F0 m (pc + 3) ls (.ref o :: rest))) : W p l e R s m args below meth c H locs cells slots Q (F0 m pc ls (.ref (y x) :: rest)) := by
  rcases hk with h | h
  · exact va_get (D := (dC, dI)) (ci := 4) (C := RX4) (T := TX4) (N := 8) hexec hb hts in_X4 hown hK hP (16 + x) (xG_c1 hx h) rfl 7 (by decide) (hts _ hq) (fun _ h9 => h9) (by unfold chF; rw [h]; rfl) hdg kk
  · exact va_get (D := (dC, dI)) (ci := 5) (C := RX5) (T := TX5) (N := 9) hexec hb hts in_X5 hown hK hP (16 + x) (xG_c2 hx h) rfl 7 (by decide) (hts _ hq) (fun _ h9 => h9) (by unfold chF; rw [h]; rfl) hdg kk
theorem c_twin (hexec : p.tables.exec = Jvm.exec) (hb : c.code = cc) (hts : ∀ w ∈ lw_all, w.before args s = true) {own : String} (hown : s.vm.findClass own = some m.cls) (hK : va_K (dC, dI) clA (tyA ct) s) (hP : va_P (dC, dI) clA (xG ct o q (ql, qs, md, qe, n) y g a ex) H) {x : Nat} (hx : x < n) (h : kdN (a 2 x) = 2) {idx : Nat} (hq : Cond.fieldLink own idx RX5 "this$0" "LLentYouths;" ∈ lw_all) (hdg : decode cc pc = .ok (.getfield idx, 3))
    (kk : W p l e R s m args below meth c H locs cells slots Q (F0 m (pc + 3) ls (.ref o :: rest))) : W p l e R s m args below meth c H locs cells slots Q (F0 m pc ls (.ref (y x) :: rest)) :=
  va_get (D := (dC, dI)) (ci := 5) (C := RX5) (T := TX5) (N := 9) hexec hb hts in_X5 hown hK hP (16 + x) (xG_c2 hx h) rfl 8 (by decide) (hts _ hq) (fun _ h9 => h9) (by unfold chF; rw [h]; rfl) hdg kk
end KROWS
