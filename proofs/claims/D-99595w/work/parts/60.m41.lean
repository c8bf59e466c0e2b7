/-! ===== reading: a round ===== -/
set_option maxRecDepth 100000
theorem g_num_inv {tk : tkf} {lo hi : Nat} {r : pR} {t' : Nat} {w' : Nat × Nat} (h : g_num tk lo hi r = .inr (t', w')) : ∃ t w, r = .inr (t, w) ∧ (tk t).1 = 2 ∧ t' = t + 1 ∧ ¬ t = 400 ∧ (w'.1 = 0 → w.1 = 0 ∧ lo ≤ (tk t).2.2.1 ∧ (tk t).2.2.1 ≤ hi) ∧ g_nv tk lo r = (tk t).2.2.1 := by
  cases r with
  | inl e => cases h
  | inr q =>
    obtain ⟨t, w⟩ := q
    have h : (if (tk t).1 = 2 then g_pass (.inr (t, if (tk t).2.2.1 < lo ∨ hi < (tk t).2.2.1 then g_tell w 5 t else w)) else .inl (1, t)) = .inr (t', w') := h
    by_cases hk : (tk t).1 = 2
    · rw [if_pos hk] at h
      obtain ⟨t0, e0, e1, e2⟩ := g_pass_inv h
      refine ⟨t, w, rfl, hk, ?_, ?_, fun hw0 => ?_, if_pos hk⟩
      · cases e0
        exact e1
      · cases e0
        exact e2
      · by_cases hv : (tk t).2.2.1 < lo ∨ hi < (tk t).2.2.1
        · rw [if_pos hv] at e0
          cases e0
          exact absurd hw0 (g_tell_0 (by decide))
        · rw [if_neg hv] at e0
          cases e0
          exact ⟨hw0, by omega, by omega⟩
    · rw [if_neg hk] at h
      cases h
theorem g_named_inv {tk : tkf} {N : List (Nat × Nat)} {r : pR} {t' : Nat} {w' : Nat × Nat} (h : g_named tk N r = .inr (t', w')) : ∃ t w, r = .inr (t, w) ∧ (tk t).1 = 1 ∧ t' = t + 1 ∧ ¬ t = 400 ∧ (w'.1 = 0 → w.1 = 0 ∧ N.any (fun x => x.1 == (tk t).2.2.2) = false) := by
  cases r with
  | inl e => cases h
  | inr q =>
    obtain ⟨t, w⟩ := q
    have h : g_must tk 1 (.inr (t, if N.any (fun x => x.1 == (tk t).2.2.2) = true then g_tell w 3 t else w)) = .inr (t', w') := h
    obtain ⟨t0, e0, k0, q0, n0⟩ := g_must_inv h
    by_cases hv : N.any (fun x => x.1 == (tk t).2.2.2) = true
    · rw [if_pos hv] at e0
      cases e0
      exact ⟨t, w, rfl, k0, q0, n0, fun hw0 => absurd hw0 (g_tell_0 (by decide))⟩
    · rw [if_neg hv] at e0
      cases e0
      exact ⟨t, _, rfl, k0, q0, n0, fun hw0 => ⟨hw0, Bool.eq_false_iff.mpr hv⟩⟩
theorem g_known_inv {tk : tkf} {N : List (Nat × Nat)} {lo : Nat} {r : pR} {t' : Nat} {w' : Nat × Nat} (h : g_known tk N lo r = .inr (t', w')) : ∃ t w, r = .inr (t, w) ∧ (tk t).1 = 1 ∧ t' = t + 1 ∧ ¬ t = 400 ∧ (w'.1 = 0 → w.1 = 0 ∧ ∃ k, g_find (tk t).2.2.2 lo N = some k) := by
  cases r with
  | inl e => cases h
  | inr q =>
    obtain ⟨t, w⟩ := q
    have h : g_must tk 1 (.inr (t, if (g_find (tk t).2.2.2 lo N).isSome = true then w else g_tell w 4 t)) = .inr (t', w') := h
    obtain ⟨t0, e0, k0, q0, n0⟩ := g_must_inv h
    by_cases hv : (g_find (tk t).2.2.2 lo N).isSome = true
    · rw [if_pos hv] at e0
      cases e0
      exact ⟨t, _, rfl, k0, q0, n0, fun hw0 => ⟨hw0, Option.isSome_iff_exists.mp hv⟩⟩
    · rw [if_neg hv] at e0
      cases e0
      exact ⟨t, w, rfl, k0, q0, n0, fun hw0 => absurd hw0 (g_tell_0 (by decide))⟩
theorem g_room_inv {a b : Nat} {r : pR} {t' : Nat} {w' : Nat × Nat} (h : g_room a b r = .inr (t', w')) : ∃ t, r = .inr (t, w') ∧ ¬ a = b ∧ t' = t + 1 ∧ ¬ t = 400 := by
  unfold g_room at h
  obtain ⟨t, e, e1, e2⟩ := g_pass_inv h
  by_cases hab : a = b
  · rw [if_pos hab] at e
    cases r with
    | inl x => cases e
    | inr q => cases e
  · rw [if_neg hab] at e
    exact ⟨t, e, hab, e1, e2⟩
def g_rnd (tk : tkf) (N : List (Nat × Nat)) (r : pR) : pR := g_must tk 4 (g_num tk 0 29 (g_num tk 1 30 (g_known tk N 0 (g_known tk N 10 r))))
theorem g_rnd_inv {tk : tkf} {N : List (Nat × Nat)} {t : Nat} {w : Nat × Nat} {t' : Nat} {w' : Nat × Nat} (h : g_rnd tk N (.inr (t, w)) = .inr (t', w')) : t' = t + 5 ∧ (∃ w1 w2 w3, g_known tk N 10 (.inr (t, w)) = .inr (t + 1, w1) ∧ g_known tk N 0 (.inr (t + 1, w1)) = .inr (t + 2, w2) ∧ g_num tk 1 30 (.inr (t + 2, w2)) = .inr (t + 3, w3)) ∧ g_nv tk 1 (g_known tk N 0 (g_known tk N 10 (.inr (t, w)))) = (tk (t + 2)).2.2.1 ∧ g_nv tk 0 (g_num tk 1 30 (g_known tk N 0 (g_known tk N 10 (.inr (t, w))))) = (tk (t + 3)).2.2.1 ∧ (w'.1 = 0 → w.1 = 0 ∧ (∃ k, g_find (tk t).2.2.2 10 N = some k) ∧ (∃ k, g_find (tk (t + 1)).2.2.2 0 N = some k) ∧ (1 ≤ (tk (t + 2)).2.2.1 ∧ (tk (t + 2)).2.2.1 ≤ 30) ∧ (tk (t + 3)).2.2.1 ≤ 29) := by
  obtain ⟨t4, e4, k4, q4, n4⟩ := g_must_inv h
  obtain ⟨t3, w3, e3, k3, q3, n3, z3, v3⟩ := g_num_inv e4
  obtain ⟨t2, w2, e2, k2, q2, n2, z2, v2⟩ := g_num_inv e3
  obtain ⟨t1, w1, e1, k1, q1, n1, z1⟩ := g_known_inv e2
  obtain ⟨t0, w0, e0, k0, q0, n0, z0⟩ := g_known_inv e1
  cases e0
  subst q0
  subst q1
  subst q2
  subst q3
  refine ⟨q4, ⟨w1, w2, w3, e1, ?_, ?_⟩, v2, v3, fun hw0 => ?_⟩
  · rw [← e1]
    exact e2
  · rw [← e2]
    exact e3
  · obtain ⟨y3, y3a, y3b⟩ := z3 hw0
    obtain ⟨y2, y2a, y2b⟩ := z2 y3
    obtain ⟨y1, y1a⟩ := z1 y2
    obtain ⟨y0, y0a⟩ := z0 y1
    exact ⟨y0, y0a, y1a, ⟨y2a, y2b⟩, y3b⟩
section M41
variable {G : sm_G} {d : Nat} {I : sm_I} {ρ : sm_R} {QQ : sm_O → sm_I → sm_R → Prop}
theorem s_tellRound (hm : md ρ) (tk : tkf) (hw : tw tk) (hq : tq I ρ tk) (t : Nat) (w : Nat × Nat) (hr : prs I tk (.inr (t, w))) (N : List (Nat × Nat)) (hN : nmR I ρ N) (hl : N.length ≤ 11) (s R : Nat) (hs : s < 2) (h19 : I mM 19 = nI s) (hR : I m_rounds s = nI R) (hR10 : R < 10) :
    sm_M G xX10_tellRound (d + 4) [.ref mM] I ρ (sm_Qv (fun I1 ρ1 => ρ1 = ρ ∧ mf [m_whoOf, m_doorOf, m_everyOf, m_fromOf, m_rounds] mPF I I1 ∧ prs I1 tk (g_rnd tk N (.inr (t, w))) ∧ (∀ j, ¬ j = 10 * s + R → I1 m_whoOf j = I m_whoOf j ∧ I1 m_doorOf j = I m_doorOf j ∧ I1 m_everyOf j = I m_everyOf j ∧ I1 m_fromOf j = I m_fromOf j) ∧ (∀ j, ¬ j = s → I1 m_rounds j = I m_rounds j) ∧
      (∀ t' w', g_rnd tk N (.inr (t, w)) = .inr (t', w') → I1 m_rounds s = nI (R + 1) ∧ I1 m_everyOf (10 * s + R) = nI (tk (t + 2)).2.2.1 ∧ I1 m_fromOf (10 * s + R) = nI (tk (t + 3)).2.2.1 ∧ (∀ k, g_find (tk t).2.2.2 10 N = some k → I1 m_whoOf (10 * s + R) = nI k) ∧ ∀ k, g_find (tk (t + 1)).2.2.2 0 N = some k → I1 m_doorOf (10 * s + R) = nI k))) := by
  show sm_V G xX10_tellRound (d + 4) 0 [.ref mM, .retAddr 0] [] I ρ _
  obtain ⟨x, hx⟩ : ∃ x, x = 10 * s + R := ⟨_, rfl⟩
  rw [← hx]
  have x20 : x < 20 := by omega
  refine wp_bipush (nI 10) 2 rfl dX10_tellRound_0 (by decide) ?_
  refine wp_aload0 3 rfl dX10_tellRound_2 ?_
  refine wp_geti 6 rfl dX10_tellRound_3 fX10_236_10 (md_M hm) ?_
  rw [h19]
  refine wp_imul 7 rfl dX10_tellRound_6 ?_
  refine wp_aload0 8 rfl dX10_tellRound_7 ?_
  refine wp_getr 11 rfl dX10_tellRound_8 fX10_58_10 (md_M hm) (mp_rounds hm) ?_
  refine wp_aload0 12 rfl dX10_tellRound_11 ?_
  refine wp_geti 15 rfl dX10_tellRound_12 fX10_236_10 (md_M hm) ?_
  refine wp_iald 16 rfl dX10_tellRound_15 (ms_rounds hm) (s) (h19) (⟨by omega, by decide⟩) ?_
  rw [hR]
  refine wp_iadd 17 rfl dX10_tellRound_16 ?_
  rw [pk_mul, nI_add, ← hx]
  refine wp_istore1 18 rfl dX10_tellRound_17 (by decide) rfl ?_
  refine wp_aload0 19 rfl dX10_tellRound_18 ?_
  refine wp_getr 22 rfl dX10_tellRound_19 fX10_61_10 (md_M hm) (mp_whoOf hm) ?_
  refine wp_iload1 23 rfl dX10_tellRound_22 ?_
  refine wp_aload0 24 rfl dX10_tellRound_23 ?_
  refine wp_bipush (nI 10) 26 rfl dX10_tellRound_24 (by decide) ?_
  refine wp_Vi1 29 rfl dX10_tellRound_26 kX10_known lX10_287 (md_M hm) (nl rfl) (nl rfl) (s_known hm tk hw hq _ hr N hN hl 10 (by decide)) (fun v1 J1 ρ1 hq1 => ?_)
  obtain ⟨rfl, f1, p1, o1⟩ := hq1
  refine wp_iast 30 rfl dX10_tellRound_29 (ms_whoOf hm) (x) (by first | rfl | simp only [pk_mul, nI_add]) (⟨by omega, by decide⟩) ?_
  obtain ⟨K1, hK1⟩ : ∃ K1, K1 = sm_u J1 m_whoOf x v1 := ⟨_, rfl⟩
  rw [← hK1]
  have g1 : mf [m_whoOf] [] J1 K1 := by rw [hK1]; exact mf.u (by decide) (by decide)
  have a1 : ∀ a j, ¬ j = x → K1 a j = J1 a j := fun a j hj => by rw [hK1]; exact sm_u_off hj
  have c1 : K1 m_whoOf x = v1 := by rw [hK1, sm_u_eq, pk_us]
  have P1 := p1.kept g1 (by decide)
  have q1 : tq K1 ρ1 tk := (hq.kept f1 (by decide) (σ := ρ1) rfl).kept g1 (by decide) rfl
  have n1 : nmR K1 ρ1 N := (hN.kept f1 (by decide) (by decide) (σ := ρ1) rfl).kept g1 (by decide) (by decide) rfl
  refine wp_aload0 31 rfl dX10_tellRound_30 ?_
  refine wp_getr 34 rfl dX10_tellRound_31 fX10_64_10 (md_M hm) (mp_doorOf hm) ?_
  refine wp_iload1 35 rfl dX10_tellRound_34 ?_
  refine wp_aload0 36 rfl dX10_tellRound_35 ?_
  refine wp_iconst (nI 0) 37 rfl dX10_tellRound_36 (by decide) ?_
  refine wp_Vi1 40 rfl dX10_tellRound_37 kX10_known lX10_287 (md_M hm) (nl rfl) (nl rfl) (s_known hm tk hw q1 _ P1 N n1 hl 0 (by decide)) (fun v2 J2 ρ2 hq2 => ?_)
  obtain ⟨rfl, f2, p2, o2⟩ := hq2
  refine wp_iast 41 rfl dX10_tellRound_40 (ms_doorOf hm) (x) (by first | rfl | simp only [pk_mul, nI_add]) (⟨by omega, by decide⟩) ?_
  obtain ⟨K2, hK2⟩ : ∃ K2, K2 = sm_u J2 m_doorOf x v2 := ⟨_, rfl⟩
  rw [← hK2]
  have g2 : mf [m_doorOf] [] J2 K2 := by rw [hK2]; exact mf.u (by decide) (by decide)
  have a2 : ∀ a j, ¬ j = x → K2 a j = J2 a j := fun a j hj => by rw [hK2]; exact sm_u_off hj
  have c2 : K2 m_doorOf x = v2 := by rw [hK2, sm_u_eq, pk_us]
  have P2 := p2.kept g2 (by decide)
  have q2 : tq K2 ρ2 tk := (q1.kept f2 (by decide) (σ := ρ2) rfl).kept g2 (by decide) rfl
  refine wp_aload0 42 rfl dX10_tellRound_41 ?_
  refine wp_getr 45 rfl dX10_tellRound_42 fX10_67_10 (md_M hm) (mp_everyOf hm) ?_
  refine wp_iload1 46 rfl dX10_tellRound_45 ?_
  refine wp_aload0 47 rfl dX10_tellRound_46 ?_
  refine wp_iconst (nI 1) 48 rfl dX10_tellRound_47 (by decide) ?_
  refine wp_bipush (nI 30) 50 rfl dX10_tellRound_48 (by decide) ?_
  refine wp_Vi2 53 rfl dX10_tellRound_50 kX10_bounded lX10_257 (md_M hm) (nl rfl) (nl rfl) (s_bounded hm tk q2 hw _ P2 1 30 (by decide) (by decide)) (fun v3 J3 ρ3 hq3 => ?_)
  obtain ⟨rfl, f3, p3, o3⟩ := hq3
  refine wp_iast 54 rfl dX10_tellRound_53 (ms_everyOf hm) (x) (by first | rfl | simp only [pk_mul, nI_add]) (⟨by omega, by decide⟩) ?_
  obtain ⟨K3, hK3⟩ : ∃ K3, K3 = sm_u J3 m_everyOf x v3 := ⟨_, rfl⟩
  rw [← hK3]
  have g3 : mf [m_everyOf] [] J3 K3 := by rw [hK3]; exact mf.u (by decide) (by decide)
  have a3 : ∀ a j, ¬ j = x → K3 a j = J3 a j := fun a j hj => by rw [hK3]; exact sm_u_off hj
  have c3 : K3 m_everyOf x = v3 := by rw [hK3, sm_u_eq, pk_us]
  have P3 := p3.kept g3 (by decide)
  have q3 : tq K3 ρ3 tk := (q2.kept f3 (by decide) (σ := ρ3) rfl).kept g3 (by decide) rfl
  refine wp_aload0 55 rfl dX10_tellRound_54 ?_
  refine wp_getr 58 rfl dX10_tellRound_55 fX10_70_10 (md_M hm) (mp_fromOf hm) ?_
  refine wp_iload1 59 rfl dX10_tellRound_58 ?_
  refine wp_aload0 60 rfl dX10_tellRound_59 ?_
  refine wp_iconst (nI 0) 61 rfl dX10_tellRound_60 (by decide) ?_
  refine wp_bipush (nI 29) 63 rfl dX10_tellRound_61 (by decide) ?_
  refine wp_Vi2 66 rfl dX10_tellRound_63 kX10_bounded lX10_257 (md_M hm) (nl rfl) (nl rfl) (s_bounded hm tk q3 hw _ P3 0 29 (by decide) (by decide)) (fun v4 J4 ρ4 hq4 => ?_)
  obtain ⟨rfl, f4, p4, o4⟩ := hq4
  refine wp_iast 67 rfl dX10_tellRound_66 (ms_fromOf hm) (x) (by first | rfl | simp only [pk_mul, nI_add]) (⟨by omega, by decide⟩) ?_
  obtain ⟨K4, hK4⟩ : ∃ K4, K4 = sm_u J4 m_fromOf x v4 := ⟨_, rfl⟩
  rw [← hK4]
  have g4 : mf [m_fromOf] [] J4 K4 := by rw [hK4]; exact mf.u (by decide) (by decide)
  have a4 : ∀ a j, ¬ j = x → K4 a j = J4 a j := fun a j hj => by rw [hK4]; exact sm_u_off hj
  have c4 : K4 m_fromOf x = v4 := by rw [hK4, sm_u_eq, pk_us]
  have P4 := p4.kept g4 (by decide)
  have q4 : tq K4 ρ4 tk := (q3.kept f4 (by decide) (σ := ρ4) rfl).kept g4 (by decide) rfl
  refine wp_aload0 68 rfl dX10_tellRound_67 ?_
  refine wp_iconst (nI 4) 69 rfl dX10_tellRound_68 (by decide) ?_
  refine wp_Vv1 72 rfl dX10_tellRound_69 kX10_must lX10_261 (md_M hm) (nl rfl) (nl rfl) (s_must hm tk q4 hw _ P4 4 (by decide)) (fun J5 ρ5 hq5 => ?_)
  obtain ⟨rfl, f5, p5⟩ := hq5
  have p5 : prs J5 tk (g_rnd tk N (.inr (t, w))) := p5
  have F5 : mf [m_whoOf, m_doorOf, m_everyOf, m_fromOf, m_rounds] mPF I J5 := ((((((((f1.wk (by decide) (by decide)).tr (g1.wk (by decide) (by decide))).tr (f2.wk (by decide) (by decide))).tr (g2.wk (by decide) (by decide))).tr (f3.wk (by decide) (by decide))).tr (g3.wk (by decide) (by decide))).tr (f4.wk (by decide) (by decide))).tr (g4.wk (by decide) (by decide))).tr (f5.wk (by decide) (by decide))
  have A5 : ∀ a j, a ∈ [m_whoOf, m_doorOf, m_everyOf, m_fromOf, m_rounds] → ¬ j = x → J5 a j = I a j := fun a j ha hj => by
    have hM : a ≠ mM := fun e => by
      rw [e] at ha
      revert ha
      decide
    rw [f5.1 a List.not_mem_nil hM, a4 a j hj, f4.1 a List.not_mem_nil hM, a3 a j hj, f3.1 a List.not_mem_nil hM, a2 a j hj, f2.1 a List.not_mem_nil hM, a1 a j hj, f1.1 a List.not_mem_nil hM]
  have R5 : J5 m_rounds = I m_rounds := by
    rw [f5.1 m_rounds (by decide) (by decide), g4.1 m_rounds (by decide) (by decide), f4.1 m_rounds (by decide) (by decide), g3.1 m_rounds (by decide) (by decide), f3.1 m_rounds (by decide) (by decide), g2.1 m_rounds (by decide) (by decide), f2.1 m_rounds (by decide) (by decide), g1.1 m_rounds (by decide) (by decide), f1.1 m_rounds (by decide) (by decide)]
  have h19J : J5 mM 19 = nI s := (F5.2 19 (by decide)).trans h19
  have w5 : J5 m_whoOf x = v1 := by
    rw [f5.1 m_whoOf (by decide) (by decide), g4.1 m_whoOf (by decide) (by decide), f4.1 m_whoOf (by decide) (by decide), g3.1 m_whoOf (by decide) (by decide), f3.1 m_whoOf (by decide) (by decide), g2.1 m_whoOf (by decide) (by decide), f2.1 m_whoOf (by decide) (by decide)]
    exact c1
  have d5 : J5 m_doorOf x = v2 := by
    rw [f5.1 m_doorOf (by decide) (by decide), g4.1 m_doorOf (by decide) (by decide), f4.1 m_doorOf (by decide) (by decide), g3.1 m_doorOf (by decide) (by decide), f3.1 m_doorOf (by decide) (by decide)]
    exact c2
  have e5 : J5 m_everyOf x = v3 := by
    rw [f5.1 m_everyOf (by decide) (by decide), g4.1 m_everyOf (by decide) (by decide), f4.1 m_everyOf (by decide) (by decide)]
    exact c3
  have fr5 : J5 m_fromOf x = v4 := by
    rw [f5.1 m_fromOf (by decide) (by decide)]
    exact c4
  refine wp_aload0 73 rfl dX10_tellRound_72 ?_
  refine wp_geti 76 rfl dX10_tellRound_73 fX10_203_10 (md_M hm) ?_
  generalize hg : g_rnd tk N (.inr (t, w)) = r9 at p5 ⊢
  cases r9 with
  | inl y =>
    obtain ⟨m, j⟩ := y
    have hm12 := p5.1
    rw [p5.2.1]
    refine wp_if_ne 79 92 rfl rfl dX10_tellRound_76 (fun c76 => ?_) (fun c76 => absurd c76 (nI_ne0 (by omega) (by omega)))
    refine wp_vret dX10_tellRound_92 rfl ?_
    exact ⟨rfl, rfl, F5, p5, fun j hj => ⟨A5 _ j (by decide) hj, A5 _ j (by decide) hj, A5 _ j (by decide) hj, A5 _ j (by decide) hj⟩, fun j hj => by rw [R5], fun t' w' e => by cases e⟩
  | inr y =>
    obtain ⟨t', w'⟩ := y
    rw [p5.2.1]
    obtain ⟨y1, ⟨w1, w2, w3, y2, y3, y4⟩, y5, y6, y7⟩ := g_rnd_inv hg
    refine wp_if_ne 79 92 rfl rfl dX10_tellRound_76 (fun c76 => absurd (rfl) c76) (fun c76 => ?_)
    refine wp_aload0 80 rfl dX10_tellRound_79 ?_
    refine wp_getr 83 rfl dX10_tellRound_80 fX10_58_10 (md_M hm) (mp_rounds hm) ?_
    refine wp_aload0 84 rfl dX10_tellRound_83 ?_
    refine wp_geti 87 rfl dX10_tellRound_84 fX10_236_10 (md_M hm) ?_
    refine wp_dup2 88 rfl dX10_tellRound_87 rfl rfl ?_
    refine wp_iald 89 rfl dX10_tellRound_88 (ms_rounds hm) (s) (h19J) (⟨by omega, by decide⟩) ?_
    rw [R5, hR]
    refine wp_iconst (nI 1) 90 rfl dX10_tellRound_89 (by decide) ?_
    refine wp_iadd 91 rfl dX10_tellRound_90 ?_
    rw [nI_add]
    refine wp_iast 92 rfl dX10_tellRound_91 (ms_rounds hm) (s) (h19J) (⟨by omega, by decide⟩) ?_
    refine wp_vret dX10_tellRound_92 rfl ?_
    have ne : ∀ a, a ∈ [m_whoOf, m_doorOf, m_everyOf, m_fromOf] → ∀ j, sm_u J5 m_rounds s (nI (R + 1)) a j = J5 a j := fun a ha j => by
      rw [sm_u_ne _ _ _ (fun e => by rw [e] at ha; revert ha; decide)]
    refine ⟨rfl, rfl, F5.tr (mf.u (by decide) (by decide)), p5.kept (mf.u (A := [m_rounds]) (F := []) (by decide) (by decide)) (by decide), fun j hj => ⟨(ne _ (by decide) j).trans (A5 _ j (by decide) hj), (ne _ (by decide) j).trans (A5 _ j (by decide) hj), (ne _ (by decide) j).trans (A5 _ j (by decide) hj), (ne _ (by decide) j).trans (A5 _ j (by decide) hj)⟩, fun j hj => ?_, fun t'' w'' e => ⟨?_, ?_, ?_, fun k hk => ?_, fun k hk => ?_⟩⟩
    · rw [sm_u_eq, pk_un hj, R5]
    · rw [sm_u_eq, pk_us]
    · rw [ne _ (by decide), e5, o3, y5]
    · rw [ne _ (by decide), fr5, o4, y6]
    · rw [ne _ (by decide), w5]
      exact o1 t w k rfl hk ⟨_, _, y2⟩
    · rw [ne _ (by decide), d5]
      exact o2 (t + 1) w1 k y2 hk ⟨t + 2, w2, by rw [y2]; exact y3⟩
end M41
