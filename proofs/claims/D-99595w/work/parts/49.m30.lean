/-! ===== terms as they are read: the plain descent ===== -/
set_option maxRecDepth 100000
/-- a fault (number, token), or the code and the token behind it -/
abbrev pE : Type := Sum (Nat × Nat) (ex × Nat)
/-- m = 0 a unit, 1 a part, 2 what follows a part's beginning, 3 a sum, 4 what follows a sum's beginning -/
def ps (tk : tkf) : Nat → Nat → Nat → Nat → ex → pE
  | 0, _, _, t, _ => .inl (1, t)
  | f + 1, 0, op, t, _ =>
    if (tk t).1 = 2 then (if t = 400 then .inl (2, t) else .inr ([(0, nI (tk t).2.2.1)], t + 1))
    else if 32 ≤ (tk t).1 ∧ (tk t).1 ≤ 40 then (if t = 400 then .inl (2, t) else .inr ([(1, nI ((tk t).1 - 32))], t + 1))
    else if (tk t).1 = 6 then (if op = 6 ∨ t = 400 then .inl (2, t) else match ps tk f 3 (op + 1) (t + 1) [] with
      | .inl e => .inl e
      | .inr (u, t') => if (tk t').1 = 7 then (if t' = 400 then .inl (2, t') else .inr (u, t' + 1)) else .inl (1, t'))
    else .inl (1, t)
  | f + 1, 1, op, t, _ => match ps tk f 0 op t [] with
    | .inl e => .inl e
    | .inr (u, t') => ps tk f 2 op t' u
  | f + 1, 2, op, t, acc => if (tk t).1 = 10 ∨ (tk t).1 = 15 then (if t = 400 then .inl (2, t) else match ps tk f 0 op (t + 1) [] with
      | .inl e => .inl e
      | .inr (u, t') => ps tk f 2 op t' (acc ++ u ++ [(co_c (tk t).1, nI 0)]))
    else .inr (acc, t)
  | f + 1, 3, op, t, _ => match ps tk f 1 op t [] with
    | .inl e => .inl e
    | .inr (u, t') => ps tk f 4 op t' u
  | f + 1, _ + 4, op, t, acc => if (tk t).1 = 8 ∨ (tk t).1 = 9 then (if t = 400 then .inl (2, t) else match ps tk f 1 op (t + 1) [] with
      | .inl e => .inl e
      | .inr (u, t') => ps tk f 4 op t' (acc ++ u ++ [(co_c (tk t).1, nI 0)]))
    else .inr (acc, t)
/-- what a piece of code does to the height -/
def ps_up (u : ex) : Prop := ∀ r k, ex_wf r (k + 1) → ex_wf (u ++ r) k
theorem ps_up.num (v : Int32) : ps_up [(0, v)] := fun r k h => Or.inl ⟨rfl, h⟩
theorem ps_up.var {j : Nat} (hj : j < 9) : ps_up [(1, nI j)] := fun r k h => Or.inr (Or.inl ⟨rfl, ⟨j, hj, rfl⟩, h⟩)
theorem ps_up.op {a u : ex} {c : Nat} (ha : ps_up a) (hu : ps_up u) (hc : c = 2 ∨ c = 3 ∨ c = 4 ∨ c = 5) : ps_up (a ++ u ++ [(c, nI 0)]) := fun r k h => by
  rw [List.append_assoc, List.append_assoc]
  refine ha _ _ (hu _ _ ?_)
  exact Or.inr (Or.inr ⟨hc, by omega, h⟩)
theorem co_c_in (k : Nat) : co_c k = 2 ∨ co_c k = 3 ∨ co_c k = 4 ∨ co_c k = 5 := by
  unfold co_c
  split
  · exact Or.inl rfl
  · split
    · exact Or.inr (Or.inl rfl)
    · split
      · exact Or.inr (Or.inr (Or.inl rfl))
      · exact Or.inr (Or.inr (Or.inr rfl))
/-- what is true of code that was read -/
def ps_ok (tk : tkf) (t : Nat) (u : ex) (t' : Nat) : Prop := t < t' ∧ t' ≤ 400 ∧ u.length ≤ t' - t ∧ ps_up u ∧ ∀ j, t ≤ j → j < t' → ¬ (tk j).1 = 0
theorem ps_one {tk : tkf} {t : Nat} {x : Nat × Int32} (ht : t ≤ 400) (h4 : ¬ t = 400) (hu : ps_up [x]) (h0 : ¬ (tk t).1 = 0) : ps_ok tk t [x] (t + 1) := ⟨by omega, by omega, by simp only [List.length_cons, List.length_nil]; omega, hu, fun j h1 h2 => by
  rw [show j = t by omega]
  exact h0⟩
theorem ps_join {tk : tkf} {t t1 t2 k : Nat} {a u : ex} (ha : ps_ok tk t a t1) (hu : ps_ok tk (t1 + 1) u t2) (h0 : ¬ (tk t1).1 = 0) : ps_ok tk t (a ++ u ++ [(co_c k, nI 0)]) t2 := by
  obtain ⟨a1, a2, a3, a4, a5⟩ := ha
  obtain ⟨u1, u2, u3, u4, u5⟩ := hu
  refine ⟨by omega, u2, ?_, a4.op u4 (co_c_in k), fun j h1 h2 => ?_⟩
  · rw [List.length_append, List.length_append]
    simp only [List.length_cons, List.length_nil]
    omega
  · by_cases h : j < t1
    · exact a5 j h1 h
    · by_cases h3 : j = t1
      · rw [h3]; exact h0
      · exact u5 j (by omega) h2
theorem ps_good (tk : tkf) : ∀ f : Nat,
    (∀ op t u t', t ≤ 400 → ps tk f 0 op t [] = .inr (u, t') → ps_ok tk t u t') ∧
    (∀ op t u t', t ≤ 400 → ps tk f 1 op t [] = .inr (u, t') → ps_ok tk t u t') ∧
    (∀ op t0 t a u t', ps_ok tk t0 a t → ps tk f 2 op t a = .inr (u, t') → ps_ok tk t0 u t') ∧
    (∀ op t u t', t ≤ 400 → ps tk f 3 op t [] = .inr (u, t') → ps_ok tk t u t') ∧
    (∀ op t0 t a u t', ps_ok tk t0 a t → ps tk f 4 op t a = .inr (u, t') → ps_ok tk t0 u t') := by
  intro f
  induction f with
  | zero =>
    refine ⟨?_, ?_, ?_, ?_, ?_⟩
    · intro op t u t' _ h
      cases h
    · intro op t u t' _ h
      cases h
    · intro op t0 t a u t' _ h
      cases h
    · intro op t u t' _ h
      cases h
    · intro op t0 t a u t' _ h
      cases h
  | succ f ih =>
    obtain ⟨i0, i1, i2, i3, i4⟩ := ih
    refine ⟨?_, ?_, ?_, ?_, ?_⟩
    · intro op t u t' ht h
      unfold ps at h
      by_cases k2 : (tk t).1 = 2
      · rw [if_pos k2] at h
        by_cases h4 : t = 400
        · rw [if_pos h4] at h
          cases h
        · rw [if_neg h4] at h
          cases h
          exact ps_one ht h4 (ps_up.num _) (by omega)
      · rw [if_neg k2] at h
        by_cases kv : 32 ≤ (tk t).1 ∧ (tk t).1 ≤ 40
        · rw [if_pos kv] at h
          by_cases h4 : t = 400
          · rw [if_pos h4] at h
            cases h
          · rw [if_neg h4] at h
            cases h
            exact ps_one ht h4 (ps_up.var (by omega)) (by omega)
        · rw [if_neg kv] at h
          by_cases k6 : (tk t).1 = 6
          · rw [if_pos k6] at h
            by_cases h4 : op = 6 ∨ t = 400
            · rw [if_pos h4] at h
              cases h
            · rw [if_neg h4] at h
              cases hx : ps tk f 3 (op + 1) (t + 1) [] with
              | inl e =>
                rw [hx] at h
                cases h
              | inr q =>
                obtain ⟨v, s⟩ := q
                rw [hx] at h
                obtain ⟨s1, s2, s3, s4, s5⟩ := i3 (op + 1) (t + 1) v s (by omega) hx
                have h : (if (tk s).1 = 7 then (if s = 400 then (Sum.inl (2, s) : pE) else .inr (v, s + 1)) else .inl (1, s)) = .inr (u, t') := h
                by_cases k7 : (tk s).1 = 7
                · rw [if_pos k7] at h
                  by_cases hs : s = 400
                  · rw [if_pos hs] at h
                    cases h
                  · rw [if_neg hs] at h
                    cases h
                    refine ⟨by omega, by omega, by omega, s4, fun j h1 h2 => ?_⟩
                    by_cases e1 : j = t
                    · rw [e1]; omega
                    · by_cases e2 : j = s
                      · rw [e2]; omega
                      · exact s5 j (by omega) (by omega)
                · rw [if_neg k7] at h
                  cases h
          · rw [if_neg k6] at h
            cases h
    · intro op t u t' ht h
      unfold ps at h
      cases hx : ps tk f 0 op t [] with
      | inl e =>
        rw [hx] at h
        cases h
      | inr q =>
        obtain ⟨v, s⟩ := q
        rw [hx] at h
        exact i2 op t s v u t' (i0 op t v s ht hx) h
    · intro op t0 t a u t' ha h
      unfold ps at h
      by_cases k : (tk t).1 = 10 ∨ (tk t).1 = 15
      · rw [if_pos k] at h
        by_cases h4 : t = 400
        · rw [if_pos h4] at h
          cases h
        · rw [if_neg h4] at h
          cases hx : ps tk f 0 op (t + 1) [] with
          | inl e =>
            rw [hx] at h
            cases h
          | inr q =>
            obtain ⟨v, s⟩ := q
            rw [hx] at h
            have := ha.2.1
            exact i2 op t0 s _ u t' (ps_join ha (i0 op (t + 1) v s (by omega) hx) (by omega)) h
      · rw [if_neg k] at h
        cases h
        exact ha
    · intro op t u t' ht h
      unfold ps at h
      cases hx : ps tk f 1 op t [] with
      | inl e =>
        rw [hx] at h
        cases h
      | inr q =>
        obtain ⟨v, s⟩ := q
        rw [hx] at h
        exact i4 op t s v u t' (i1 op t v s ht hx) h
    · intro op t0 t a u t' ha h
      unfold ps at h
      by_cases k : (tk t).1 = 8 ∨ (tk t).1 = 9
      · rw [if_pos k] at h
        by_cases h4 : t = 400
        · rw [if_pos h4] at h
          cases h
        · rw [if_neg h4] at h
          cases hx : ps tk f 1 op (t + 1) [] with
          | inl e =>
            rw [hx] at h
            cases h
          | inr q =>
            obtain ⟨v, s⟩ := q
            rw [hx] at h
            have := ha.2.1
            exact i4 op t0 s _ u t' (ps_join ha (i1 op (t + 1) v s (by omega) hx) (by omega)) h
      · rw [if_neg k] at h
        cases h
        exact ha
