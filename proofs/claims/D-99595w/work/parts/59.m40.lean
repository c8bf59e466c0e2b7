/-! ===== reading: names, rounds ===== -/
set_option maxRecDepth 100000
/-- names told: name, number (a caller's 10 more), the first first -/
def nmR (I : sm_I) (ρ : sm_R) (N : List (Nat × Nat)) : Prop := I mM 20 = nI N.length ∧ ∀ i x, N[i]? = some x → ρ.1 m_nameOf i = lN x.1 ∧ I m_nameAt i = nI x.2 ∧ x.1 < 2 ^ 62 ∧ x.2 < 100
theorem nmR.kept {A F : List Nat} {I J : sm_I} {ρ σ : sm_R} {N : List (Nat × Nat)} (h : nmR I ρ N) (hf : mf A F I J) (hA : m_nameAt ∉ A) (hF : 20 ∉ F) (hL : σ.1 m_nameOf = ρ.1 m_nameOf) : nmR J σ N := ⟨(hf.2 20 hF).trans h.1, fun i x hi => by
  rw [hf.1 m_nameAt hA (by decide), hL]
  exact h.2 i x hi⟩
def g_named (tk : tkf) (N : List (Nat × Nat)) : pR → pR
  | .inl e => .inl e
  | .inr (t, w) => g_must tk 1 (.inr (t, if N.any (fun x => x.1 == (tk t).2.2.2) = true then g_tell w 3 t else w))
def g_find (nm lo : Nat) : List (Nat × Nat) → Option Nat
  | [] => none
  | x :: N => if x.1 = nm ∧ lo ≤ x.2 ∧ x.2 < lo + 10 then some (x.2 - lo) else g_find nm lo N
def g_known (tk : tkf) (N : List (Nat × Nat)) (lo : Nat) : pR → pR
  | .inl e => .inl e
  | .inr (t, w) => g_must tk 1 (.inr (t, if (g_find (tk t).2.2.2 lo N).isSome = true then w else g_tell w 4 t))
theorem g_tell_2 {w : Nat × Nat} {n j : Nat} (hn : ¬ n = 0) : g_tell (g_tell w n j) n j = g_tell w n j := by
  unfold g_tell
  by_cases h : ¬ w.1 = 0 ∧ (w.2 < j ∨ j = w.2 ∧ w.1 ≤ n)
  · rw [if_pos h, if_pos h]
  · rw [if_neg h, if_pos ⟨hn, Or.inr ⟨rfl, Nat.le_refl _⟩⟩]
theorem g_tell_0 {w : Nat × Nat} {n j : Nat} (hn : ¬ n = 0) : ¬ (g_tell w n j).1 = 0 := by
  unfold g_tell
  by_cases h : ¬ w.1 = 0 ∧ (w.2 < j ∨ j = w.2 ∧ w.1 ≤ n)
  · rw [if_pos h]
    exact h.1
  · rw [if_neg h]
    exact hn
theorem g_must_w {tk : tkf} {k t : Nat} {w w' : Nat × Nat} {x : Nat × Nat} (h : g_must tk k (.inr (t, w)) = .inl x) : g_must tk k (.inr (t, w')) = .inl x := by
  have h : (if (tk t).1 = k then g_pass (.inr (t, w)) else .inl (1, t)) = .inl x := h
  show (if (tk t).1 = k then g_pass (.inr (t, w')) else .inl (1, t)) = .inl x
  by_cases hk : (tk t).1 = k
  · rw [if_pos hk] at h ⊢
    have h : (if t = 400 then (.inl (2, t) : pR) else .inr (t + 1, w)) = .inl x := h
    show (if t = 400 then (.inl (2, t) : pR) else .inr (t + 1, w')) = .inl x
    by_cases h4 : t = 400
    · rw [if_pos h4] at h ⊢
      exact h
    · rw [if_neg h4] at h
      cases h
  · rw [if_neg hk] at h ⊢
    exact h
theorem g_must_r {tk : tkf} {k t t' : Nat} {w w' w'' : Nat × Nat} (h : g_must tk k (.inr (t, w)) = .inr (t', w'')) : g_must tk k (.inr (t, w')) = .inr (t', w') := by
  obtain ⟨t0, e0, k0, q0, n0⟩ := g_must_inv h
  cases e0
  show (if (tk t).1 = k then g_pass (.inr (t, w')) else .inl (1, t)) = .inr (t', w')
  rw [if_pos k0]
  show (if t = 400 then (.inl (2, t) : pR) else .inr (t + 1, w')) = .inr (t', w')
  rw [if_neg n0, q0]
section M40
variable {G : sm_G} {d : Nat} {I : sm_I} {ρ : sm_R} {QQ : sm_O → sm_I → sm_R → Prop}
theorem s_named (hm : md ρ) (tk : tkf) (hw : tw tk) (hq : tq I ρ tk) (t : Nat) (w : Nat × Nat) (hr : prs I tk (.inr (t, w))) (N : List (Nat × Nat)) (hN : nmR I ρ N) (hl : N.length ≤ 11) : sm_M G xX10_named (d + 3) [.ref mM] I ρ (sm_Qi (fun v I1 ρ1 => ρ1 = ρ ∧ mf [] mPF I I1 ∧ prs I1 tk (g_named tk N (.inr (t, w))) ∧ v = nI t)) := by
  show sm_V G xX10_named (d + 3) 0 [.ref mM, .retAddr 0, .retAddr 0] [] I ρ _
  obtain ⟨⟨p1, p2, p3, p4⟩, h13, h11, h15, h16⟩ := id hr
  obtain ⟨q1, q2, q3, q4⟩ := hq t p1 p2
  obtain ⟨b1, b2, b3, b4⟩ := hw.1 t
  refine wp_aload0 1 rfl dX10_named_0 ?_
  refine wp_geti 4 rfl dX10_named_1 fX10_206_10 (md_M hm) ?_
  rw [h11]
  refine wp_istore1 5 rfl dX10_named_4 (by decide) rfl ?_
  refine wp_aload0 6 rfl dX10_named_5 ?_
  refine wp_iconst (nI 1) 7 rfl dX10_named_6 (by decide) ?_
  refine wp_Vv1 10 rfl dX10_named_7 kX10_must lX10_261 (md_M hm) (nl rfl) (nl rfl) (s_must hm tk hq hw _ hr 1 (by decide)) (fun J1 ρ1 hq1 => ?_)
  refine wp_iconst (nI 0) 11 rfl dX10_named_10 (by decide) ?_
  refine wp_istore2 12 rfl dX10_named_11 (by decide) rfl ?_
  obtain ⟨rfl, f1, r1⟩ := hq1
  have hq1 : tq J1 ρ1 tk := hq.kept f1 (by decide) rfl
  have hN1 : nmR J1 ρ1 N := hN.kept f1 (by decide) (by decide) rfl
  generalize hg : g_must tk 1 (.inr (t, w)) = r9 at r1
  cases r9 with
  | inl x =>
    have hgn : g_named tk N (.inr (t, w)) = .inl x := g_must_w hg
    rw [hgn]
    obtain ⟨m, j⟩ := x
    have hm12 := r1.1
    refine wp_iload2 13 rfl dX10_named_12 ?_
    refine wp_aload0 14 rfl dX10_named_13 ?_
    refine wp_geti 17 rfl dX10_named_14 fX10_239_10 (md_M hm) ?_
    rw [hN1.1]
    by_cases h0 : N.length = 0
    · rw [h0]
      refine wp_icmp_ge 20 55 rfl rfl dX10_named_17 (fun c17 => ?_) (fun c17 => absurd (by decide) c17)
      refine wp_iload1 56 rfl dX10_named_55 ?_
      refine wp_iret dX10_named_56 rfl ?_
      exact ⟨_, rfl, rfl, f1, r1, rfl⟩
    · refine wp_icmp_ge 20 55 rfl rfl dX10_named_17 (fun c17 => absurd c17 (nI_ge (by omega) (by omega))) (fun c17 => ?_)
      refine wp_aload0 21 rfl dX10_named_20 ?_
      refine wp_geti 24 rfl dX10_named_21 fX10_203_10 (md_M hm) ?_
      rw [r1.2.1]
      refine wp_if_ne 27 55 rfl rfl dX10_named_24 (fun c24 => ?_) (fun c24 => absurd c24 (nI_ne0 (by omega) (by omega)))
      refine wp_iload1 56 rfl dX10_named_55 ?_
      refine wp_iret dX10_named_56 rfl ?_
      exact ⟨_, rfl, rfl, f1, r1, rfl⟩
  | inr q =>
    obtain ⟨t1, w1⟩ := q
    obtain ⟨t0, e0, k0, q0, n0⟩ := g_must_inv hg
    cases e0
    have hgn : g_named tk N (.inr (t, w)) = .inr (t1, if N.any (fun x => x.1 == (tk t).2.2.2) = true then g_tell w 3 t else w) := g_must_r hg
    rw [hgn]
    have loop : ∀ (R pre : List (Nat × Nat)) (J : sm_I) (w2 : Nat × Nat), N = pre ++ R → w2 = (if pre.any (fun x => x.1 == (tk t).2.2.2) = true then g_tell w 3 t else w) → mf [] mPF I J → prs J tk (.inr (t1, w2)) → sm_V G xX10_named (d + 3) 12 [.ref mM, .int (nI t), .int (nI pre.length)] [] J ρ1 (sm_Qi (fun v I1 ρ => ρ = ρ1 ∧ mf [] mPF I I1 ∧ prs I1 tk (.inr (t1, if N.any (fun x => x.1 == (tk t).2.2.2) = true then g_tell w 3 t else w)) ∧ v = nI t)) := by
      intro R
      induction R with
      | nil =>
        intro pre J w2 hpre hw2 hf hp
        rw [List.append_nil] at hpre
        subst hpre
        have hNJ : nmR J ρ1 N := hN.kept hf (by decide) (by decide) rfl
        refine wp_iload2 13 rfl dX10_named_12 ?_
        refine wp_aload0 14 rfl dX10_named_13 ?_
        refine wp_geti 17 rfl dX10_named_14 fX10_239_10 (md_M hm) ?_
        rw [hNJ.1]
        refine wp_icmp_ge 20 55 rfl rfl dX10_named_17 (fun c17 => ?_) (fun c17 => absurd (nI_le (Nat.le_refl _) (by omega)) c17)
        refine wp_iload1 56 rfl dX10_named_55 ?_
        refine wp_iret dX10_named_56 rfl ?_
        rw [← hw2]
        exact ⟨_, rfl, rfl, hf, hp, rfl⟩
      | cons x R ih =>
        intro pre J w2 hpre hw2 hf hp
        have hNJ : nmR J ρ1 N := hN.kept hf (by decide) (by decide) rfl
        have hqJ : tq J ρ1 tk := hq.kept hf (by decide) rfl
        have hlen : N.length = pre.length + (R.length + 1) := by rw [hpre, List.length_append]; rfl
        have hx : N[pre.length]? = some x := by rw [hpre, List.getElem?_append_right (Nat.le_refl _), Nat.sub_self]; rfl
        obtain ⟨x1, x2, x3, x4⟩ := hNJ.2 _ _ hx
        have hpre2 : N = (pre ++ [x]) ++ R := by rw [List.append_assoc]; exact hpre
        have hlp : (pre ++ [x]).length = pre.length + 1 := by rw [List.length_append]; rfl
        have hany : (pre ++ [x]).any (fun x => x.1 == (tk t).2.2.2) = (pre.any (fun x => x.1 == (tk t).2.2.2) || (x.1 == (tk t).2.2.2)) := by
          rw [List.any_append]
          simp only [List.any_cons, List.any_nil, Bool.or_false]
        refine wp_iload2 13 rfl dX10_named_12 ?_
        refine wp_aload0 14 rfl dX10_named_13 ?_
        refine wp_geti 17 rfl dX10_named_14 fX10_239_10 (md_M hm) ?_
        rw [hNJ.1]
        refine wp_icmp_ge 20 55 rfl rfl dX10_named_17 (fun c17 => absurd c17 (nI_ge (by omega) (by omega))) (fun c17 => ?_)
        refine wp_aload0 21 rfl dX10_named_20 ?_
        refine wp_geti 24 rfl dX10_named_21 fX10_203_10 (md_M hm) ?_
        rw [hp.2.1]
        refine wp_if_ne 27 55 rfl rfl dX10_named_24 (fun c24 => absurd (rfl) c24) (fun c24 => ?_)
        refine wp_aload0 28 rfl dX10_named_27 ?_
        refine wp_getr 31 rfl dX10_named_28 fX10_40_10 (md_M hm) (mp_nameOf hm) ?_
        refine wp_iload2 32 rfl dX10_named_31 ?_
        refine wp_lald 33 rfl dX10_named_32 (ms_nameOf hm) (pre.length) (by first | rfl | simp only [pk_mul, nI_add]) (⟨by omega, by decide⟩) ?_
        rw [x1]
        refine wp_aload0 34 rfl dX10_named_33 ?_
        refine wp_getr 37 rfl dX10_named_34 fX10_30_10 (md_M hm) (mp_tName hm) ?_
        refine wp_iload1 38 rfl dX10_named_37 ?_
        refine wp_lald 39 rfl dX10_named_38 (ms_tName hm) (t) (by first | rfl | simp only [pk_mul, nI_add]) (⟨by omega, by decide⟩) ?_
        rw [q4]
        by_cases ek : x.1 = (tk t).2.2.2
        · refine wp_lcmp 40 rfl dX10_named_39 ?_
          refine wp_if_ne 43 49 rfl rfl dX10_named_40 (fun c40 => absurd ((lg_cmp_eq _ _).mpr (by rw [ek])) c40) (fun c40 => ?_)
          refine wp_aload0 44 rfl dX10_named_43 ?_
          refine wp_iconst (nI 3) 45 rfl dX10_named_44 (by decide) ?_
          refine wp_iload1 46 rfl dX10_named_45 ?_
          refine wp_Vv2 49 rfl dX10_named_46 kX10_wrong lX10_284 (md_M hm) (nl rfl) (nl rfl) (s_wrong hm tk hqJ hw _ hp 3 t (by decide) p1 (fun t' w' e => by cases e; omega)) (fun J2 ρ2 hq2 => ?_)
          obtain ⟨rfl, f2, r2⟩ := hq2
          have ih := ih (pre ++ [x]) J2 (g_tell w2 3 t) hpre2 (by
            rw [hany, beq_iff_eq.mpr ek, Bool.or_true, if_pos rfl, hw2]
            by_cases ha : pre.any (fun x => x.1 == (tk t).2.2.2) = true
            · rw [if_pos ha, g_tell_2 (by decide)]
            · rw [if_neg ha]) (hf.tr f2) r2
          rw [hlp] at ih
          refine wp_iincN2 52 rfl dX10_named_49 (by decide) rfl ?_
          refine wp_goto 12 rfl dX10_named_52 ?_
          exact ih
        · have ih := ih (pre ++ [x]) J w2 hpre2 (by
            rw [hany, beq_eq_false_iff_ne.mpr ek, Bool.or_false]
            exact hw2) hf hp
          rw [hlp] at ih
          refine wp_lcmp 40 rfl dX10_named_39 ?_
          refine wp_if_ne 43 49 rfl rfl dX10_named_40 (fun c40 => ?_) (fun c40 => absurd c40 (fun h => ek ((pk_lEQ (by omega) (by omega)).mp ((lg_cmp_eq _ _).mp h))))
          refine wp_iincN2 52 rfl dX10_named_49 (by decide) rfl ?_
          refine wp_goto 12 rfl dX10_named_52 ?_
          exact ih
    exact loop N [] J1 w rfl rfl f1 r1
theorem s_known (hm : md ρ) (tk : tkf) (hw : tw tk) (hq : tq I ρ tk) (r : pR) (hr : prs I tk r) (N : List (Nat × Nat)) (hN : nmR I ρ N) (hl : N.length ≤ 11) (lo : Nat) (hlo : lo ≤ 10) : sm_M G xX10_known (d + 3) [.ref mM, .int (nI lo)] I ρ (sm_Qi (fun v I1 ρ1 => ρ1 = ρ ∧ mf [] mPF I I1 ∧ prs I1 tk (g_known tk N lo r) ∧ ∀ t w k, r = .inr (t, w) → g_find (tk t).2.2.2 lo N = some k → (∃ t' w', g_known tk N lo r = .inr (t', w')) → v = nI k)) := by
  show sm_V G xX10_known (d + 3) 0 [.ref mM, .int (nI lo), .retAddr 0, .retAddr 0] [] I ρ _
  obtain ⟨tt, htt, h11⟩ : ∃ t, t ≤ 400 ∧ I mM 11 = nI t := by
    cases r with
    | inl e => exact hr.2.2.2
    | inr e => exact ⟨e.1, hr.1.1, hr.2.2.1⟩
  refine wp_aload0 1 rfl dX10_known_0 ?_
  refine wp_geti 4 rfl dX10_known_1 fX10_206_10 (md_M hm) ?_
  rw [h11]
  refine wp_istore2 5 rfl dX10_known_4 (by decide) rfl ?_
  refine wp_aload0 6 rfl dX10_known_5 ?_
  refine wp_iconst (nI 1) 7 rfl dX10_known_6 (by decide) ?_
  refine wp_Vv1 10 rfl dX10_known_7 kX10_must lX10_261 (md_M hm) (nl rfl) (nl rfl) (s_must hm tk hq hw _ hr 1 (by decide)) (fun J1 ρ1 hq1 => ?_)
  obtain ⟨rfl, f1, r1⟩ := hq1
  have bad : ∀ x, prs J1 tk (.inl x) → g_known tk N lo r = .inl x → sm_V G xX10_known (d + 3) 10 [.ref mM, .int (nI lo), .int (nI tt), .retAddr 0] [] J1 ρ1 (sm_Qi (fun v I1 ρ => ρ = ρ1 ∧ mf [] mPF I I1 ∧ prs I1 tk (g_known tk N lo r) ∧ ∀ t w k, r = .inr (t, w) → g_find (tk t).2.2.2 lo N = some k → (∃ t' w', g_known tk N lo r = .inr (t', w')) → v = nI k)) := by
    intro x hx hgx
    rw [hgx]
    obtain ⟨m, j⟩ := x
    have hm12 := hx.1
    refine wp_aload0 11 rfl dX10_known_10 ?_
    refine wp_geti 14 rfl dX10_known_11 fX10_203_10 (md_M hm) ?_
    rw [hx.2.1]
    refine wp_if_le 17 19 rfl rfl dX10_known_14 (fun c14 => absurd c14 (nI_nle (by omega) (by omega))) (fun c14 => ?_)
    refine wp_iconst (-1) 18 rfl dX10_known_17 (by decide) ?_
    refine wp_iret dX10_known_18 rfl ?_
    exact ⟨_, rfl, rfl, f1, hx, fun t w k _ _ hh => by obtain ⟨t', w', e⟩ := hh; cases e⟩
  cases r with
  | inl x => exact bad x r1 rfl
  | inr q =>
    obtain ⟨t, w⟩ := q
    have hst : t = tt := (nI_eq (by have := hr.1.1; omega) (by omega)).mp (hr.2.2.1.symm.trans h11)
    subst hst
    obtain ⟨⟨p1, p2, p3, p4⟩, h13, h11, h15, h16⟩ := id hr
    obtain ⟨q1, q2, q3, q4⟩ := hq t p1 p2
    obtain ⟨b1, b2, b3, b4⟩ := hw.1 t
    generalize hg : g_must tk 1 (.inr (t, w)) = r9 at r1
    cases r9 with
    | inl x => exact bad x r1 (g_must_w hg)
    | inr q =>
      obtain ⟨t1, w1⟩ := q
      obtain ⟨t0, e0, k0, q0, n0⟩ := g_must_inv hg
      cases e0
      have hgn : g_known tk N lo (.inr (t, w)) = .inr (t1, if (g_find (tk t).2.2.2 lo N).isSome = true then w else g_tell w 4 t) := g_must_r hg
      rw [hgn]
      have hN1 : nmR J1 ρ1 N := hN.kept f1 (by decide) (by decide) rfl
      have hq1 : tq J1 ρ1 tk := hq.kept f1 (by decide) rfl
      have loop : ∀ (R pre : List (Nat × Nat)), N = pre ++ R → g_find (tk t).2.2.2 lo N = g_find (tk t).2.2.2 lo R → sm_V G xX10_known (d + 3) 21 [.ref mM, .int (nI lo), .int (nI t), .int (nI pre.length)] [] J1 ρ1 (sm_Qi (fun v I1 ρ => ρ = ρ1 ∧ mf [] mPF I I1 ∧ prs I1 tk (.inr (t1, if (g_find (tk t).2.2.2 lo N).isSome = true then w else g_tell w 4 t)) ∧ ∀ t' w' k, (.inr (t, w) : pR) = .inr (t', w') → g_find (tk t').2.2.2 lo N = some k → (∃ t'' w'', (.inr (t1, if (g_find (tk t).2.2.2 lo N).isSome = true then w else g_tell w 4 t) : pR) = .inr (t'', w'')) → v = nI k)) := by
        intro R
        induction R with
        | nil =>
          intro pre hpre hfi
          rw [List.append_nil] at hpre
          subst hpre
          have hfi : g_find (tk t).2.2.2 lo N = none := hfi
          rw [hfi]
          refine wp_iload3 22 rfl dX10_known_21 ?_
          refine wp_aload0 23 rfl dX10_known_22 ?_
          refine wp_geti 26 rfl dX10_known_23 fX10_239_10 (md_M hm) ?_
          rw [hN1.1]
          refine wp_icmp_ge 29 83 rfl rfl dX10_known_26 (fun c26 => ?_) (fun c26 => absurd (nI_le (Nat.le_refl _) (by omega)) c26)
          refine wp_aload0 84 rfl dX10_known_83 ?_
          refine wp_iconst (nI 4) 85 rfl dX10_known_84 (by decide) ?_
          refine wp_iload2 86 rfl dX10_known_85 ?_
          refine wp_Vv2 89 rfl dX10_known_86 kX10_wrong lX10_284 (md_M hm) (nl rfl) (nl rfl) (s_wrong hm tk hq1 hw _ r1 4 t (by decide) p1 (fun t' w' e => by cases e; omega)) (fun J2 ρ2 hq2 => ?_)
          obtain ⟨rfl, f2, r2⟩ := hq2
          refine wp_iconst (-1) 90 rfl dX10_known_89 (by decide) ?_
          refine wp_iret dX10_known_90 rfl ?_
          exact ⟨_, rfl, rfl, f1.tr f2, r2, fun t' w' k e hk _ => by cases e; rw [hfi] at hk; cases hk⟩
        | cons x R ih =>
          intro pre hpre hfi
          have hlen : N.length = pre.length + (R.length + 1) := by rw [hpre, List.length_append]; rfl
          have hx : N[pre.length]? = some x := by rw [hpre, List.getElem?_append_right (Nat.le_refl _), Nat.sub_self]; rfl
          obtain ⟨x1, x2, x3, x4⟩ := hN1.2 _ _ hx
          have hpre2 : N = (pre ++ [x]) ++ R := by rw [List.append_assoc]; exact hpre
          have hlp : (pre ++ [x]).length = pre.length + 1 := by rw [List.length_append]; rfl
          have hfi : g_find (tk t).2.2.2 lo N = if x.1 = (tk t).2.2.2 ∧ lo ≤ x.2 ∧ x.2 < lo + 10 then some (x.2 - lo) else g_find (tk t).2.2.2 lo R := hfi
          have next : ¬ (x.1 = (tk t).2.2.2 ∧ lo ≤ x.2 ∧ x.2 < lo + 10) → sm_V G xX10_known (d + 3) 77 [.ref mM, .int (nI lo), .int (nI t), .int (nI pre.length)] [] J1 ρ1 (sm_Qi (fun v I1 ρ => ρ = ρ1 ∧ mf [] mPF I I1 ∧ prs I1 tk (.inr (t1, if (g_find (tk t).2.2.2 lo N).isSome = true then w else g_tell w 4 t)) ∧ ∀ t' w' k, (.inr (t, w) : pR) = .inr (t', w') → g_find (tk t').2.2.2 lo N = some k → (∃ t'' w'', (.inr (t1, if (g_find (tk t).2.2.2 lo N).isSome = true then w else g_tell w 4 t) : pR) = .inr (t'', w'')) → v = nI k)) := by
            intro hno
            rw [if_neg hno] at hfi
            have ih := ih (pre ++ [x]) hpre2 hfi
            rw [hlp] at ih
            refine wp_iincN3 80 rfl dX10_known_77 (by decide) rfl ?_
            refine wp_goto 21 rfl dX10_known_80 ?_
            exact ih
          refine wp_iload3 22 rfl dX10_known_21 ?_
          refine wp_aload0 23 rfl dX10_known_22 ?_
          refine wp_geti 26 rfl dX10_known_23 fX10_239_10 (md_M hm) ?_
          rw [hN1.1]
          refine wp_icmp_ge 29 83 rfl rfl dX10_known_26 (fun c26 => absurd c26 (nI_ge (by omega) (by omega))) (fun c26 => ?_)
          refine wp_aload0 30 rfl dX10_known_29 ?_
          refine wp_getr 33 rfl dX10_known_30 fX10_40_10 (md_M hm) (mp_nameOf hm) ?_
          refine wp_iload3 34 rfl dX10_known_33 ?_
          refine wp_lald 35 rfl dX10_known_34 (ms_nameOf hm) (pre.length) (by first | rfl | simp only [pk_mul, nI_add]) (⟨by omega, by decide⟩) ?_
          rw [x1]
          refine wp_aload0 36 rfl dX10_known_35 ?_
          refine wp_getr 39 rfl dX10_known_36 fX10_30_10 (md_M hm) (mp_tName hm) ?_
          refine wp_iload2 40 rfl dX10_known_39 ?_
          refine wp_lald 41 rfl dX10_known_40 (ms_tName hm) (t) (by first | rfl | simp only [pk_mul, nI_add]) (⟨by omega, by decide⟩) ?_
          rw [q4]
          by_cases ek : x.1 = (tk t).2.2.2
          · refine wp_lcmp 42 rfl dX10_known_41 ?_
            refine wp_if_ne 45 77 rfl rfl dX10_known_42 (fun c42 => absurd ((lg_cmp_eq _ _).mpr (by rw [ek])) c42) (fun c42 => ?_)
            refine wp_aload0 46 rfl dX10_known_45 ?_
            refine wp_getr 49 rfl dX10_known_46 fX10_43_10 (md_M hm) (mp_nameAt hm) ?_
            refine wp_iload3 50 rfl dX10_known_49 ?_
            refine wp_iald 51 rfl dX10_known_50 (ms_nameAt hm) (pre.length) (by first | rfl | simp only [pk_mul, nI_add]) (⟨by omega, by decide⟩) ?_
            rw [x2]
            by_cases el : lo ≤ x.2
            · refine wp_iload1 52 rfl dX10_known_51 ?_
              refine wp_icmp_lt 55 77 rfl rfl dX10_known_52 (fun c52 => absurd c52 (nI_nlt el (by omega))) (fun c52 => ?_)
              refine wp_aload0 56 rfl dX10_known_55 ?_
              refine wp_getr 59 rfl dX10_known_56 fX10_43_10 (md_M hm) (mp_nameAt hm) ?_
              refine wp_iload3 60 rfl dX10_known_59 ?_
              refine wp_iald 61 rfl dX10_known_60 (ms_nameAt hm) (pre.length) (by first | rfl | simp only [pk_mul, nI_add]) (⟨by omega, by decide⟩) ?_
              rw [x2]
              refine wp_iload1 62 rfl dX10_known_61 ?_
              refine wp_bipush (nI 10) 64 rfl dX10_known_62 (by decide) ?_
              refine wp_iadd 65 rfl dX10_known_64 ?_
              rw [nI_add]
              by_cases eh : x.2 < lo + 10
              · rw [if_pos ⟨ek, el, eh⟩] at hfi
                refine wp_icmp_ge 68 77 rfl rfl dX10_known_65 (fun c65 => absurd c65 (nI_ge eh (by omega))) (fun c65 => ?_)
                refine wp_aload0 69 rfl dX10_known_68 ?_
                refine wp_getr 72 rfl dX10_known_69 fX10_43_10 (md_M hm) (mp_nameAt hm) ?_
                refine wp_iload3 73 rfl dX10_known_72 ?_
                refine wp_iald 74 rfl dX10_known_73 (ms_nameAt hm) (pre.length) (by first | rfl | simp only [pk_mul, nI_add]) (⟨by omega, by decide⟩) ?_
                rw [x2]
                refine wp_iload1 75 rfl dX10_known_74 ?_
                refine wp_isub 76 rfl dX10_known_75 ?_
                rw [pk_sub el]
                refine wp_iret dX10_known_76 rfl ?_
                rw [hfi]
                exact ⟨_, rfl, rfl, f1, r1, fun t' w' k e hk _ => by cases e; rw [hfi] at hk; cases hk; rfl⟩
              · refine wp_icmp_ge 68 77 rfl rfl dX10_known_65 (fun c65 => ?_) (fun c65 => absurd (nI_le (by omega) (by omega)) c65)
                exact next (fun h => eh h.2.2)
            · refine wp_iload1 52 rfl dX10_known_51 ?_
              refine wp_icmp_lt 55 77 rfl rfl dX10_known_52 (fun c52 => ?_) (fun c52 => absurd (nI_lt (by omega) (by omega)) c52)
              exact next (fun h => el h.2.1)
          · refine wp_lcmp 42 rfl dX10_known_41 ?_
            refine wp_if_ne 45 77 rfl rfl dX10_known_42 (fun c42 => ?_) (fun c42 => absurd c42 (fun h => ek ((pk_lEQ (by omega) (by omega)).mp ((lg_cmp_eq _ _).mp h))))
            exact next (fun h => ek h.1)
      refine wp_aload0 11 rfl dX10_known_10 ?_
      refine wp_geti 14 rfl dX10_known_11 fX10_203_10 (md_M hm) ?_
      rw [r1.2.1]
      refine wp_if_le 17 19 rfl rfl dX10_known_14 (fun c14 => ?_) (fun c14 => absurd (by decide) c14)
      refine wp_iconst (nI 0) 20 rfl dX10_known_19 (by decide) ?_
      refine wp_istore3 21 rfl dX10_known_20 (by decide) rfl ?_
      exact loop N [] rfl rfl
/-- a name's end: it is told -/
theorem s_endsName (hm : md ρ) (tk : tkf) (hw : tw tk) (hq : tq I ρ tk) (r : pR) (hr : prs I tk r) (N : List (Nat × Nat)) (hN : nmR I ρ N) (hl : N.length < 11) (j a : Nat) (hj : j ≤ 400) (ha : a < 100) (hjn : ∀ t w, r = .inr (t, w) → j ≤ t) : sm_M G xX10_endsName (d + 3) [.ref mM, .int (nI j), .int (nI a)] I ρ (sm_Qv (fun I1 ρ1 => kyF [m_nameOf] ρ ρ1 ∧ mf [m_nameAt] [11, 13, 14, 15, 16, 20] I I1 ∧ prs I1 tk (g_must tk 4 r) ∧ ∀ t w, g_must tk 4 r = .inr (t, w) → nmR I1 ρ1 (N ++ [((tk j).2.2.2, a)]))) := by
  show sm_V G xX10_endsName (d + 3) 0 [.ref mM, .int (nI j), .int (nI a)] [] I ρ _
  refine wp_aload0 1 rfl dX10_endsName_0 ?_
  refine wp_iconst (nI 4) 2 rfl dX10_endsName_1 (by decide) ?_
  refine wp_Vv1 5 rfl dX10_endsName_2 kX10_must lX10_261 (md_M hm) (nl rfl) (nl rfl) (s_must hm tk hq hw _ hr 4 (by decide)) (fun J1 ρ1 hq1 => ?_)
  obtain ⟨rfl, f1, r1⟩ := hq1
  have hN1 : nmR J1 ρ1 N := hN.kept f1 (by decide) (by decide) rfl
  refine wp_aload0 6 rfl dX10_endsName_5 ?_
  refine wp_geti 9 rfl dX10_endsName_6 fX10_203_10 (md_M hm) ?_
  generalize hg : g_must tk 4 r = r9 at r1 ⊢
  cases r9 with
  | inl x =>
    obtain ⟨m, j⟩ := x
    have hm12 := r1.1
    rw [r1.2.1]
    refine wp_if_le 12 13 rfl rfl dX10_endsName_9 (fun c9 => absurd c9 (nI_nle (by omega) (by omega))) (fun c9 => ?_)
    refine wp_vret dX10_endsName_12 rfl ?_
    exact ⟨rfl, kyF.rf, f1.wk (by decide) (by decide), r1, fun t w e => by cases e⟩
  | inr q =>
    obtain ⟨t, w⟩ := q
    obtain ⟨t0, e0, k0, q0, n0⟩ := g_must_inv hg
    have hjt := hjn t0 w e0
    rw [r1.2.1]
    have q4 : ρ1.1 m_tName j = lN (tk j).2.2.2 := (hq j hj (fun i hi => r1.1.2.1 i (by omega))).2.2.2
    obtain ⟨L, hL⟩ : ∃ L, L = N.length := ⟨_, rfl⟩
    have h20 : J1 mM 20 = nI L := by rw [hL]; exact hN1.1
    refine wp_if_le 12 13 rfl rfl dX10_endsName_9 (fun c9 => ?_) (fun c9 => absurd (by decide) c9)
    refine wp_aload0 14 rfl dX10_endsName_13 ?_
    refine wp_getr 17 rfl dX10_endsName_14 fX10_40_10 (md_M hm) (mp_nameOf hm) ?_
    refine wp_aload0 18 rfl dX10_endsName_17 ?_
    refine wp_geti 21 rfl dX10_endsName_18 fX10_239_10 (md_M hm) ?_
    refine wp_aload0 22 rfl dX10_endsName_21 ?_
    refine wp_getr 25 rfl dX10_endsName_22 fX10_30_10 (md_M hm) (mp_tName hm) ?_
    refine wp_iload1 26 rfl dX10_endsName_25 ?_
    refine wp_lald 27 rfl dX10_endsName_26 (ms_tName hm) (j) (by first | rfl | simp only [pk_mul, nI_add]) (⟨by omega, by decide⟩) ?_
    rw [q4]
    refine wp_last 28 rfl dX10_endsName_27 (ms_nameOf hm) (L) (h20) (⟨by omega, by decide⟩) ?_
    have hky : kyF [m_nameOf] ρ1 (sm_ul ρ1.1 m_nameOf L (lN (tk j).2.2.2), ρ1.2) := kyF.u (by decide)
    have hul : (sm_ul ρ1.1 m_nameOf L (lN (tk j).2.2.2)) m_nameOf = fun i => if i = L then lN (tk j).2.2.2 else ρ1.1 m_nameOf i := by
      funext i
      by_cases e : i = L
      · rw [if_pos e, e]
        exact pk_uLs
      · rw [if_neg e]
        exact pk_uLn e
    obtain ⟨σ, hσ⟩ : ∃ σ : sm_R, σ = (sm_ul ρ1.1 m_nameOf L (lN (tk j).2.2.2), ρ1.2) := ⟨_, rfl⟩
    rw [← hσ] at hky ⊢
    have hs : σ.1 m_nameOf = fun i => if i = L then lN (tk j).2.2.2 else ρ1.1 m_nameOf i := by rw [hσ]; exact hul
    have hm := hky.mdl hm
    refine wp_aload0 29 rfl dX10_endsName_28 ?_
    refine wp_getr 32 rfl dX10_endsName_29 fX10_43_10 (md_M hm) (mp_nameAt hm) ?_
    refine wp_aload0 33 rfl dX10_endsName_32 ?_
    refine wp_geti 36 rfl dX10_endsName_33 fX10_239_10 (md_M hm) ?_
    refine wp_iload2 37 rfl dX10_endsName_36 ?_
    refine wp_iast 38 rfl dX10_endsName_37 (ms_nameAt hm) (L) (h20) (⟨by omega, by decide⟩) ?_
    refine wp_aload0 39 rfl dX10_endsName_38 ?_
    refine wp_dup 40 rfl dX10_endsName_39 rfl ?_
    refine wp_geti 43 rfl dX10_endsName_40 fX10_239_10 (md_M hm) ?_
    refine wp_iconst (nI 1) 44 rfl dX10_endsName_43 (by decide) ?_
    refine wp_iadd 45 rfl dX10_endsName_44 ?_
    refine wp_puti 48 rfl dX10_endsName_45 pX10_239_10 (md_M hm) ⟨rfl, rfl⟩ ?_
    refine wp_vret dX10_endsName_48 rfl ?_
    refine ⟨rfl, hky, ((f1.wk (by decide) (by decide)).tr (mf.u (by decide) (by decide))).tr (mf.uM (by decide)), (r1.kept (mf.u (A := [m_nameAt]) (F := []) (by decide) (by decide)) (by decide)).kept (mf.uM (A := []) (F := [20]) (by decide)) (by decide), fun t' w' e => ⟨?_, fun i x hi => ?_⟩⟩
    · rw [sm_u_eq, pk_us, show sm_u J1 m_nameAt L (nI a) mM 20 = nI L from h20, List.length_append, ← hL]
      exact nI_add L 1
    · rw [sm_u_ne _ _ _ (by decide), hs, sm_u_eq]
      by_cases hlt : i < L
      · rw [List.getElem?_append_left (by omega)] at hi
        rw [pk_un (by omega)]
        show (if i = L then lN (tk j).2.2.2 else ρ1.1 m_nameOf i) = lN x.1 ∧ _
        rw [if_neg (by omega)]
        exact hN1.2 i x hi
      · rw [List.getElem?_append_right (by omega)] at hi
        have hi0 : i = L := by
          have := (List.getElem?_eq_some_iff.mp hi).1
          simp only [List.length_cons, List.length_nil] at this
          omega
        rw [hi0, ← hL, Nat.sub_self] at hi
        cases hi
        rw [hi0, pk_us]
        refine ⟨?_, rfl, (hw.1 j).2.2.2, ha⟩
        show (if L = L then lN (tk j).2.2.2 else ρ1.1 m_nameOf L) = _
        rw [if_pos rfl]
end M40
