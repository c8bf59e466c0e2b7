/-! ===== reading: expression, by the descent's fuel ===== -/
set_option maxRecDepth 100000
abbrev coM (p : List Nat) : ex := p.map (fun k => (co_c k, nI 0))
theorem coM_app (a b : List Nat) : coM (a ++ b) = coM a ++ coM b := List.map_append
theorem ps_0u {tk : tkf} {f op t : Nat} (h : g_isU tk t) : ps tk (f + 1) 0 op t [] = if t = 400 then .inl (2, t) else .inr ([g_u tk t], t + 1) := by
  unfold ps g_u
  by_cases k2 : (tk t).1 = 2
  · rw [if_pos k2, if_pos k2]
  · rw [if_neg k2, if_neg k2, if_pos (h.resolve_left k2)]
theorem ps_0n {tk : tkf} {f op t : Nat} (h : ¬ g_isU tk t) (h6 : ¬ (tk t).1 = 6) : ps tk (f + 1) 0 op t [] = .inl (1, t) := by
  unfold ps
  rw [if_neg (fun g => h (Or.inl g)), if_neg (fun g => h (Or.inr g)), if_neg h6]
theorem ps_0b {tk : tkf} {f op t : Nat} (h6 : (tk t).1 = 6) : ps tk (f + 1) 0 op t [] = if op = 6 ∨ t = 400 then .inl (2, t) else match ps tk f 3 (op + 1) (t + 1) [] with
      | .inl e => .inl e
      | .inr (u, t') => if (tk t').1 = 7 then (if t' = 400 then .inl (2, t') else .inr (u, t' + 1)) else .inl (1, t') := by
  conv => lhs; unfold ps
  rw [if_neg (by omega), if_neg (by omega), if_pos h6]
  rfl
theorem ps_1 {tk : tkf} {f op t : Nat} : ps tk (f + 1) 1 op t [] = match ps tk f 0 op t [] with
    | .inl e => .inl e
    | .inr (u, t') => ps tk f 2 op t' u := rfl
theorem ps_3 {tk : tkf} {f op t : Nat} : ps tk (f + 1) 3 op t [] = match ps tk f 1 op t [] with
    | .inl e => .inl e
    | .inr (u, t') => ps tk f 4 op t' u := rfl
theorem ps_2 {tk : tkf} {f op t : Nat} {a : ex} (h : (tk t).1 = 10 ∨ (tk t).1 = 15) : ps tk (f + 1) 2 op t a = if t = 400 then .inl (2, t) else match ps tk f 0 op (t + 1) [] with
      | .inl e => .inl e
      | .inr (u, t') => ps tk f 2 op t' (a ++ u ++ [(co_c (tk t).1, nI 0)]) := by
  conv => lhs; unfold ps
  rw [if_pos h]
  rfl
theorem ps_2n {tk : tkf} {f op t : Nat} {a : ex} (h : ¬ ((tk t).1 = 10 ∨ (tk t).1 = 15)) : ps tk (f + 1) 2 op t a = .inr (a, t) := by
  unfold ps
  rw [if_neg h]
theorem ps_4 {tk : tkf} {f op t : Nat} {a : ex} (h : (tk t).1 = 8 ∨ (tk t).1 = 9) : ps tk (f + 1) 4 op t a = if t = 400 then .inl (2, t) else match ps tk f 1 op (t + 1) [] with
      | .inl e => .inl e
      | .inr (u, t') => ps tk f 4 op t' (a ++ u ++ [(co_c (tk t).1, nI 0)]) := by
  conv => lhs; unfold ps
  rw [if_pos h]
  rfl
theorem ps_4n {tk : tkf} {f op t : Nat} {a : ex} (h : ¬ ((tk t).1 = 8 ∨ (tk t).1 = 9)) : ps tk (f + 1) 4 op t a = .inr (a, t) := by
  unfold ps
  rw [if_neg h]
def hiOk (p : List Nat) : Prop := p.length ≤ 1 ∧ ∀ k ∈ p, k = 10 ∨ k = 15
def loOk (p : List Nat) : Prop := p.length ≤ 1 ∧ ∀ k ∈ p, k = 8 ∨ k = 9
section M37
variable {G : sm_G} {d : Nat} {I : sm_I} {ρ : sm_R} {QQ : sm_O → sm_I → sm_R → Prop}
theorem ex_all (hm : md ρ) (tk : tkf) (hw : tw tk) (hq0 : tq I ρ tk) (w : Nat × Nat) (c0 c1 : Nat)
    (V23 V96 : sm_I → Prop) (h23 : ∀ J, V23 J ↔ sm_V G xX10_expression (d + 3) 23 [.ref mM, .int (nI 0), .int (nI 1)] [] J ρ QQ)
    (h96 : ∀ J, V96 J ↔ sm_V G xX10_expression (d + 3) 96 [.ref mM, .int (nI 0), .int (nI 1)] [] J ρ QQ)
    (QF : Nat × Nat → Prop) (hF : ∀ x, QF x ↔ ∀ J1, xF c0 c1 I J1 → prs J1 tk (.inl x) → QQ (.inl none) J1 ρ) : ∀ f : Nat,
    (∀ op t W e, 8 * (401 - t) + 1 ≤ f → (∀ x, ps tk f 0 op t [] = .inl x → QF x) → (∀ u t', ps tk f 0 op t [] = .inr (u, t') → ∀ J, xS I tk w c0 c1 J t' op W (e ++ u) → V96 J) → ∀ J, xS I tk w c0 c1 J t op W e → V23 J) ∧
    (∀ op t W e, 8 * (401 - t) + 2 ≤ f → (∀ k r, W = k :: r → co_stop true k) → W.length ≤ 3 * op + 1 → (∀ x, ps tk f 1 op t [] = .inl x → QF x) →
      (∀ u t', ps tk f 1 op t [] = .inr (u, t') → ∀ J hi e1, hiOk hi → e1 ++ coM hi = e ++ u → ¬ ((tk t').1 = 10 ∨ (tk t').1 = 15) → xS I tk w c0 c1 J t' op (hi ++ W) e1 → V96 J) → ∀ J, xS I tk w c0 c1 J t op W e → V23 J) ∧
    (∀ op t W e a, 8 * (401 - t) + 1 ≤ f → (∀ k r, W = k :: r → co_stop true k) → W.length ≤ 3 * op + 1 → (∀ x, ps tk f 2 op t a = .inl x → QF x) →
      (∀ u t', ps tk f 2 op t a = .inr (u, t') → ∀ J hi e1, hiOk hi → e1 ++ coM hi = e ++ u → ¬ ((tk t').1 = 10 ∨ (tk t').1 = 15) → xS I tk w c0 c1 J t' op (hi ++ W) e1 → V96 J) →
      ∀ J hi e1, hiOk hi → e1 ++ coM hi = e ++ a → xS I tk w c0 c1 J t op (hi ++ W) e1 → V96 J) ∧
    (∀ op t W e, 8 * (401 - t) + 3 ≤ f → (∀ k r, W = k :: r → k = 6) → W.length ≤ 3 * op → (∀ x, ps tk f 3 op t [] = .inl x → QF x) →
      (∀ u t', ps tk f 3 op t [] = .inr (u, t') → ∀ J hi lo e1, hiOk hi → loOk lo → e1 ++ coM (hi ++ lo) = e ++ u → (∀ k ∈ [8, 9, 10, 15], ¬ (tk t').1 = k) → xS I tk w c0 c1 J t' op ((hi ++ lo) ++ W) e1 → V96 J) → ∀ J, xS I tk w c0 c1 J t op W e → V23 J) ∧
    (∀ op t W e a, 8 * (401 - t) + 1 ≤ f → (∀ k r, W = k :: r → k = 6) → W.length ≤ 3 * op → (∀ x, ps tk f 4 op t a = .inl x → QF x) →
      (∀ u t', ps tk f 4 op t a = .inr (u, t') → ∀ J hi lo e1, hiOk hi → loOk lo → e1 ++ coM (hi ++ lo) = e ++ u → (∀ k ∈ [8, 9, 10, 15], ¬ (tk t').1 = k) → xS I tk w c0 c1 J t' op ((hi ++ lo) ++ W) e1 → V96 J) →
      ∀ J hi lo e1, hiOk hi → loOk lo → e1 ++ coM (hi ++ lo) = e ++ a → ¬ ((tk t).1 = 10 ∨ (tk t).1 = 15) → xS I tk w c0 c1 J t op ((hi ++ lo) ++ W) e1 → V96 J) := by
  intro f
  induction f with
  | zero =>
    refine ⟨?_, ?_, ?_, ?_, ?_⟩
    · intro op t W e hf
      omega
    · intro op t W e hf
      omega
    · intro op t W e a hf
      omega
    · intro op t W e hf
      omega
    · intro op t W e a hf
      omega
  | succ f ih =>
    obtain ⟨i0, i1, i2, i3, i4⟩ := ih
    obtain ⟨g0, g1, g2, g3, g4⟩ := ps_good tk f
    refine ⟨?_, ?_, ?_, ?_, ?_⟩
    · intro op t W e hf hx hk J h
      have t4 : t ≤ 400 := h.2.1.1.1
      have hl2 : W.length ≤ 3 * op + 2 := h.2.2.2.2.2.2.1
      have hW : ∀ k ∈ W, k < 100 := fun k hkW => by
        obtain ⟨i, hi⟩ := List.getElem?_of_mem hkW
        exact (h.2.2.2.1.2.2 i k hi).1
      by_cases k6 : (tk t).1 = 6
      · rw [ps_0b k6] at hx hk
        refine (h23 J).mpr (ex_open hm tk hw hq0 w c0 c1 J t op W e h k6 (fun ho => (hF _).mp (hx _ (by rw [if_pos ho]))) (fun ho J1 h1 => ?_))
        rw [if_neg ho] at hx hk
        refine (h23 J1).mp (i3 (op + 1) (t + 1) (6 :: W) e (by omega) (fun k r hh => by cases hh; rfl) (by simp only [List.length_cons]; omega) (fun x hxx => hx x (by rw [hxx])) (fun u t' hu J2 hi lo e1 hhi hlo hee hno h2 => ?_) J1 h1)
        rw [hu] at hx hk
        have hx : ∀ x, (if (tk t').1 = 7 then (if t' = 400 then (.inl (2, t') : pE) else .inr (u, t' + 1)) else .inl (1, t')) = .inl x → QF x := hx
        have hk : ∀ u' t'', (if (tk t').1 = 7 then (if t' = 400 then (.inl (2, t') : pE) else .inr (u, t' + 1)) else .inl (1, t')) = .inr (u', t'') → ∀ J, xS I tk w c0 c1 J t'' op W (e ++ u') → V96 J := hk
        have hp6 : ∀ k ∈ hi ++ lo, ¬ k = 6 := fun k hkk => by
          rcases List.mem_append.mp hkk with hh | hh
          · have := hhi.2 k hh
            omega
          · have := hlo.2 k hh
            omega
        by_cases k7 : (tk t').1 = 7
        · rw [if_pos k7] at hx hk
          refine (h96 J2).mpr (ex_close hm tk hw hq0 w c0 c1 J2 t' op (hi ++ lo) W e1 h2 k7 hW hp6 hl2 (fun h4 => (hF _).mp (hx _ (by rw [if_pos h4]))) (fun h4 J3 h3 => ?_))
          rw [hee] at h3
          exact (h96 J3).mp (hk u (t' + 1) (by rw [if_neg h4]) J3 h3)
        · rw [if_neg k7] at hx
          exact (h96 J2).mpr (ex_stop hm tk hw hq0 w c0 c1 J2 t' (op + 1) (hi ++ lo) (6 :: W) e1 h2 hno (Or.inr k7) (fun k r hh => by cases hh; rfl) hp6 (fun _ => (hF _).mp (hx _ rfl)) (fun h0 => absurd h0 (by omega)))
      · refine (h23 J).mpr (ex_unit hm tk hw hq0 w c0 c1 J t op W e h k6 (fun hu => (hF _).mp (hx _ (ps_0n hu k6))) (fun hu h4 => (hF _).mp (hx _ (by rw [ps_0u hu, if_pos h4]))) (fun hu h4 J1 h1 => (h96 J1).mp (hk _ _ (by rw [ps_0u hu, if_neg h4]) J1 h1)))
    · intro op t W e hf hs hl hx hk J h
      have t4 : t ≤ 400 := h.2.1.1.1
      rw [ps_1] at hx hk
      refine i0 op t W e (by omega) (fun x hxx => hx x (by rw [hxx])) (fun u t' hu J1 h1 => ?_) J h
      rw [hu] at hx hk
      have hx : ∀ x, ps tk f 2 op t' u = .inl x → QF x := hx
      have hk : ∀ u' t'', ps tk f 2 op t' u = .inr (u', t'') → ∀ J hi e1, hiOk hi → e1 ++ coM hi = e ++ u' → ¬ ((tk t'').1 = 10 ∨ (tk t'').1 = 15) → xS I tk w c0 c1 J t'' op (hi ++ W) e1 → V96 J := hk
      have hg := (g0 op t u t' t4 hu).1
      exact i2 op t' W e u (by omega) hs hl hx hk J1 [] (e ++ u) ⟨by decide, fun k hh => by cases hh⟩ (List.append_nil _) h1
    · intro op t W e a hf hs hl hx hk J hi e1 hhi hee h
      have t4 : t ≤ 400 := h.2.1.1.1
      by_cases ks : (tk t).1 = 10 ∨ (tk t).1 = 15
      · rw [ps_2 ks] at hx hk
        refine (h96 J).mpr (ex_sign hm tk hw hq0 w c0 c1 J t op hi W e1 true h ⟨fun _ => ks, fun _ => rfl⟩ (by omega) hs (fun k hkk hst => ?_) hl (fun h4 => (hF _).mp (hx _ (by rw [if_pos h4]))) (fun h4 J1 h1 => ?_))
        · have := hhi.2 k hkk
          rcases hst with hh | ⟨-, hh⟩ <;> omega
        · rw [if_neg h4] at hx hk
          have h1 : xS I tk w c0 c1 J1 (t + 1) op ((tk t).1 :: W) (e1 ++ coM hi) := h1
          rw [hee] at h1
          refine (h23 J1).mp (i0 op (t + 1) ((tk t).1 :: W) (e ++ a) (by omega) (fun x hxx => hx x (by rw [hxx])) (fun u t' hu J2 h2 => ?_) J1 h1)
          rw [hu] at hx hk
          have hx : ∀ x, ps tk f 2 op t' (a ++ u ++ [(co_c (tk t).1, nI 0)]) = .inl x → QF x := hx
          have hk : ∀ u' t'', ps tk f 2 op t' (a ++ u ++ [(co_c (tk t).1, nI 0)]) = .inr (u', t'') → ∀ J hi e1, hiOk hi → e1 ++ coM hi = e ++ u' → ¬ ((tk t'').1 = 10 ∨ (tk t'').1 = 15) → xS I tk w c0 c1 J t'' op (hi ++ W) e1 → V96 J := hk
          have hg := (g0 op (t + 1) u t' (by omega) hu).1
          refine i2 op t' W e (a ++ u ++ [(co_c (tk t).1, nI 0)]) (by omega) hs hl hx hk J2 [(tk t).1] (e ++ a ++ u) ⟨by simp only [List.length_cons, List.length_nil]; omega, fun k hh => by rw [List.mem_singleton.mp hh]; exact ks⟩ ?_ h2
          simp only [List.append_assoc]
          rfl
      · rw [ps_2n ks] at hk
        exact hk a t rfl J hi e1 hhi hee ks h
    · intro op t W e hf hs hl hx hk J h
      have t4 : t ≤ 400 := h.2.1.1.1
      rw [ps_3] at hx hk
      refine i1 op t W e (by omega) (fun k r hh => Or.inl (hs k r hh)) (by omega) (fun x hxx => hx x (by rw [hxx])) (fun u t' hu J1 hi e1 hhi hee hno h1 => ?_) J h
      rw [hu] at hx hk
      have hx : ∀ x, ps tk f 4 op t' u = .inl x → QF x := hx
      have hk : ∀ u' t'', ps tk f 4 op t' u = .inr (u', t'') → ∀ J hi lo e1, hiOk hi → loOk lo → e1 ++ coM (hi ++ lo) = e ++ u' → (∀ k ∈ [8, 9, 10, 15], ¬ (tk t'').1 = k) → xS I tk w c0 c1 J t'' op ((hi ++ lo) ++ W) e1 → V96 J := hk
      have hg := (g1 op t u t' t4 hu).1
      refine i4 op t' W e u (by omega) hs hl hx hk J1 hi [] e1 hhi ⟨by decide, fun k hh => by cases hh⟩ ?_ hno ?_
      · rw [List.append_nil]
        exact hee
      · rw [List.append_nil]
        exact h1
    · intro op t W e a hf hs hl hx hk J hi lo e1 hhi hlo hee hno h
      have t4 : t ≤ 400 := h.2.1.1.1
      by_cases ks : (tk t).1 = 8 ∨ (tk t).1 = 9
      · rw [ps_4 ks] at hx hk
        refine (h96 J).mpr (ex_sign hm tk hw hq0 w c0 c1 J t op (hi ++ lo) W e1 false h ⟨fun hh => absurd hh (by decide), fun hh => absurd hh hno⟩ (by omega) (fun k r hh => Or.inl (hs k r hh)) (fun k hkk hst => ?_) (by omega) (fun h4 => (hF _).mp (hx _ (by rw [if_pos h4]))) (fun h4 J1 h1 => ?_))
        · have h6 : k = 6 := hst.resolve_right (fun q => absurd q.1 (by decide))
          rcases List.mem_append.mp hkk with hh | hh
          · have := hhi.2 k hh
            omega
          · have := hlo.2 k hh
            omega
        · rw [if_neg h4] at hx hk
          have h1 : xS I tk w c0 c1 J1 (t + 1) op ((tk t).1 :: W) (e1 ++ coM (hi ++ lo)) := h1
          rw [hee] at h1
          refine (h23 J1).mp (i1 op (t + 1) ((tk t).1 :: W) (e ++ a) (by omega) (fun k r hh => by cases hh; exact Or.inr ⟨rfl, ks⟩) (by simp only [List.length_cons]; omega) (fun x hxx => hx x (by rw [hxx])) (fun u t' hu J2 hi2 e2 hhi2 hee2 hno2 h2 => ?_) J1 h1)
          rw [hu] at hx hk
          have hx : ∀ x, ps tk f 4 op t' (a ++ u ++ [(co_c (tk t).1, nI 0)]) = .inl x → QF x := hx
          have hk : ∀ u' t'', ps tk f 4 op t' (a ++ u ++ [(co_c (tk t).1, nI 0)]) = .inr (u', t'') → ∀ J hi lo e1, hiOk hi → loOk lo → e1 ++ coM (hi ++ lo) = e ++ u' → (∀ k ∈ [8, 9, 10, 15], ¬ (tk t'').1 = k) → xS I tk w c0 c1 J t'' op ((hi ++ lo) ++ W) e1 → V96 J := hk
          have hg := (g1 op (t + 1) u t' (by omega) hu).1
          refine i4 op t' W e (a ++ u ++ [(co_c (tk t).1, nI 0)]) (by omega) hs hl hx hk J2 hi2 [(tk t).1] e2 hhi2 ⟨by simp only [List.length_cons, List.length_nil]; omega, fun k hh => by rw [List.mem_singleton.mp hh]; exact ks⟩ ?_ hno2 ?_
          · rw [coM_app, ← List.append_assoc, hee2]
            simp only [List.append_assoc]
            rfl
          · rw [List.append_assoc]
            exact h2
      · rw [ps_4n ks] at hk
        refine hk a t rfl J hi lo e1 hhi hlo hee (fun k hkk => ?_) h
        simp only [List.mem_cons, List.not_mem_nil, or_false] at hkk
        omega
/-- the outcome of reading a term -/
def g_ex (tk : tkf) : pR → pR × ex
  | .inl x => (.inl x, [])
  | .inr (t, w) => match ps tk 4000 3 0 t [] with
    | .inl x => (.inl x, [])
    | .inr (u, t') => (.inr (t', w), u)
theorem g_ex_l {tk : tkf} {t : Nat} {w x : Nat × Nat} (h : ps tk 4000 3 0 t [] = .inl x) : g_ex tk (.inr (t, w)) = (.inl x, []) := by
  show (match ps tk 4000 3 0 t [] with
    | .inl x => ((.inl x, []) : pR × ex)
    | .inr (u, t') => (.inr (t', w), u)) = _
  rw [h]
theorem g_ex_r {tk : tkf} {t t' : Nat} {w : Nat × Nat} {u : ex} (h : ps tk 4000 3 0 t [] = .inr (u, t')) : g_ex tk (.inr (t, w)) = (.inr (t', w), u) := by
  show (match ps tk 4000 3 0 t [] with
    | .inl x => ((.inl x, []) : pR × ex)
    | .inr (u, t') => (.inr (t', w), u)) = _
  rw [h]
theorem s_expression (hm : md ρ) (tk : tkf) (hw : tw tk) (hq0 : tq I ρ tk) (r : pR) (hr : prs I tk r) (c0 c1 : Nat) (hc1 : c1 ≤ 840) (h12 : ∀ t w, r = .inr (t, w) → I mM 12 = nI 0 ∧ I mM 43 = nI c0 ∧ c0 + (401 - t) ≤ c1) :
    sm_M G xX10_expression (d + 3) [.ref mM] I ρ (sm_Qv (fun I1 ρ1 => ρ1 = ρ ∧ xF c0 c1 I I1 ∧ prs I1 tk (g_ex tk r).1 ∧ (∀ t w, (g_ex tk r).1 = .inr (t, w) → I1 mM 12 = nI 0 ∧ I1 mM 43 = nI (c0 + (g_ex tk r).2.length) ∧ ex_at I1 c0 (g_ex tk r).2))) := by
  show sm_V G xX10_expression (d + 3) 0 [.ref mM, .retAddr 0, .retAddr 0] [] I ρ _
  have hf1 : mf [] [47] I (sm_u I mM 47 (nI 0)) := mf.uM (by decide)
  have g47 : sm_u I mM 47 (nI 0) mM 47 = nI 0 := by rw [sm_u_eq, pk_us]
  have hr1 := hr.kept hf1 (by decide)
  have g12 : sm_u I mM 47 (nI 0) mM 12 = I mM 12 := hf1.2 12 (by decide)
  cases r with
  | inl x =>
    obtain ⟨n, j⟩ := x
    have hn := hr.1
    refine wp_aload0 1 rfl dX10_expression_0 ?_
    refine wp_iconst (nI 0) 2 rfl dX10_expression_1 (by decide) ?_
    refine wp_puti 5 rfl dX10_expression_2 pX10_296_10 (md_M hm) ⟨rfl, rfl⟩ ?_
    refine wp_aload0 6 rfl dX10_expression_5 ?_
    refine wp_geti 9 rfl dX10_expression_6 fX10_230_10 (md_M hm) ?_
    refine wp_istore1 10 rfl dX10_expression_9 (by decide) rfl ?_
    refine wp_iconst (nI 1) 11 rfl dX10_expression_10 (by decide) ?_
    refine wp_istore2 12 rfl dX10_expression_11 (by decide) rfl ?_
    refine wp_iload2 13 rfl dX10_expression_12 ?_
    refine wp_if_eq 16 272 rfl rfl dX10_expression_13 (fun c13 => absurd c13 (by decide)) (fun c13 => ?_)
    refine wp_aload0 17 rfl dX10_expression_16 ?_
    refine wp_geti 20 rfl dX10_expression_17 fX10_203_10 (md_M hm) ?_
    rw [show sm_u I mM 47 (nI 0) mM 13 = nI n from hr1.2.1]
    refine wp_if_ne 23 272 rfl rfl dX10_expression_20 (fun c20 => ?_) (fun c20 => absurd c20 (nI_ne0 (by omega) (by omega)))
    refine wp_vret dX10_expression_272 rfl ?_
    exact ⟨rfl, rfl, hf1.x (by decide), hr1, fun t w hh => by cases hh⟩
  | inr q =>
    obtain ⟨t, w⟩ := q
    obtain ⟨z12, z43, zl⟩ := h12 t w rfl
    have t4 : t ≤ 400 := hr.1.1
    have hc : cdR I c0 c1 [] := ⟨z43, (fun i k v hi => by cases hi), (by show c0 ≤ c1; omega), hc1⟩
    have hc1 := hc.kept hf1 (by decide)
    refine wp_aload0 1 rfl dX10_expression_0 ?_
    refine wp_iconst (nI 0) 2 rfl dX10_expression_1 (by decide) ?_
    refine wp_puti 5 rfl dX10_expression_2 pX10_296_10 (md_M hm) ⟨rfl, rfl⟩ ?_
    refine wp_aload0 6 rfl dX10_expression_5 ?_
    refine wp_geti 9 rfl dX10_expression_6 fX10_230_10 (md_M hm) ?_
    rw [show sm_u I mM 47 (nI 0) mM 12 = nI 0 from g12.trans z12]
    refine wp_istore1 10 rfl dX10_expression_9 (by decide) rfl ?_
    refine wp_iconst (nI 1) 11 rfl dX10_expression_10 (by decide) ?_
    refine wp_istore2 12 rfl dX10_expression_11 (by decide) rfl ?_
    refine wp_iload2 13 rfl dX10_expression_12 ?_
    refine wp_if_eq 16 272 rfl rfl dX10_expression_13 (fun c13 => absurd c13 (by decide)) (fun c13 => ?_)
    refine wp_aload0 17 rfl dX10_expression_16 ?_
    refine wp_geti 20 rfl dX10_expression_17 fX10_203_10 (md_M hm) ?_
    rw [show sm_u I mM 47 (nI 0) mM 13 = nI 0 from hr1.2.1]
    refine wp_if_ne 23 272 rfl rfl dX10_expression_20 (fun c20 => absurd (rfl) c20) (fun c20 => ?_)
    generalize sm_u I mM 47 (nI 0) = J at hf1 g47 hr1 hc1 g12 ⊢
    have all := ex_all (G := G) (d := d) (I := I) (QQ := sm_Qv (fun I1 ρ1 => ρ1 = ρ ∧ xF c0 c1 I I1 ∧ prs I1 tk (g_ex tk (.inr (t, w))).1 ∧ (∀ t' w', (g_ex tk (.inr (t, w))).1 = .inr (t', w') → I1 mM 12 = nI 0 ∧ I1 mM 43 = nI (c0 + (g_ex tk (.inr (t, w))).2.length) ∧ ex_at I1 c0 (g_ex tk (.inr (t, w))).2))) hm tk hw hq0 w c0 c1 _ _ (fun _ => Iff.rfl) (fun _ => Iff.rfl) _ (fun _ => Iff.rfl) 4000
    refine all.2.2.2.1 0 t [] [] (by omega) (fun k q hh => by cases hh) (Nat.zero_le _) (fun x hx J1 hx1 hp1 => ?_) (fun u t' hu J1 hi lo e1 hhi hlo hee hno h1 => ?_) J ⟨hf1.x (by decide), hr1, g12.trans z12, ⟨g47, by decide, fun i k hi => by cases hi⟩, hc1, zl, by decide, by decide⟩
    · have hg : g_ex tk (.inr (t, w)) = (.inl x, []) := g_ex_l hx
      rw [hg]
      exact ⟨rfl, rfl, hx1, hp1, fun t' w' hh => by cases hh⟩
    · have hg : g_ex tk (.inr (t, w)) = (.inr (t', w), u) := g_ex_r hu
      rw [hg]
      have hp6 : ∀ k ∈ hi ++ lo, ¬ k = 6 := fun k hkk => by
        rcases List.mem_append.mp hkk with hh | hh
        · have := hhi.2 k hh
          omega
        · have := hlo.2 k hh
          omega
      refine ex_stop hm tk hw hq0 w c0 c1 J1 t' 0 (hi ++ lo) [] e1 h1 hno (Or.inl rfl) (fun k q hh => by cases hh) hp6 (fun h0 => absurd rfl h0) (fun _ J2 hx2 hp2 h122 hc2 => ?_)
      have hc2 : cdR J2 c0 c1 (e1 ++ coM (hi ++ lo)) := hc2
      rw [hee] at hc2
      exact ⟨rfl, rfl, hx2, hp2, fun t'' w'' hh => ⟨h122, hc2.1, hc2.2.1⟩⟩
/-- what is true of a term that was read -/
theorem g_ex_ok {tk : tkf} {t : Nat} {w : Nat × Nat} {t' : Nat} {w' : Nat × Nat} (ht : t ≤ 400) (h : (g_ex tk (.inr (t, w))).1 = .inr (t', w')) : w' = w ∧ ps_ok tk t (g_ex tk (.inr (t, w))).2 t' := by
  cases hx : ps tk 4000 3 0 t [] with
  | inl x =>
    rw [g_ex_l hx] at h
    cases h
  | inr q =>
    obtain ⟨u, s⟩ := q
    rw [g_ex_r hx] at h ⊢
    cases h
    exact ⟨rfl, (ps_good tk 4000).2.2.2.1 0 t u _ ht hx⟩
theorem ps_up.wf {u : ex} (h : ps_up u) : ex_wf u 0 := by
  have := h [] 0 rfl
  rw [List.append_nil] at this
  exact this
end M37
