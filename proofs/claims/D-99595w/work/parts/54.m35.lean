/-! ===== reading: expression, a bracket closes ===== -/
set_option maxRecDepth 100000
theorem sp6 : ∀ s : List Nat, ∃ p r, s = p ++ r ∧ (∀ k ∈ p, ¬ k = 6) ∧ ∀ k q, r = k :: q → k = 6
  | [] => ⟨[], [], rfl, fun k h => (by cases h), fun k q h => (by cases h)⟩
  | x :: s => by
    by_cases h : x = 6
    · exact ⟨[], x :: s, rfl, fun k h => (by cases h), fun k q e => (by cases e; exact h)⟩
    · obtain ⟨p, r, e, hp, hr⟩ := sp6 s
      refine ⟨x :: p, r, by rw [e]; rfl, fun k hk => ?_, hr⟩
      rcases List.mem_cons.mp hk with e | e
      · rw [e]; exact h
      · exact hp k e
section M35
variable {G : sm_G} {d : Nat} {I : sm_I} {ρ : sm_R} {QQ : sm_O → sm_I → sm_R → Prop}
theorem ex_close (hm : md ρ) (tk : tkf) (hw : tw tk) (hq0 : tq I ρ tk) (w : Nat × Nat) (c0 c1 : Nat) (J : sm_I) (t op : Nat) (p s : List Nat) (e : ex) (h : xS I tk w c0 c1 J t (op + 1) (p ++ 6 :: s) e) (k7 : (tk t).1 = 7)
    (hs : ∀ k ∈ s, k < 100) (hp : ∀ k ∈ p, ¬ k = 6) (hl : s.length ≤ 3 * op + 2)
    (kf : t = 400 → ∀ J1, xF c0 c1 I J1 → prs J1 tk (.inl (2, t)) → QQ (.inl none) J1 ρ)
    (kk : ¬ t = 400 → ∀ J1, xS I tk w c0 c1 J1 (t + 1) op s (e ++ p.map (fun k => (co_c k, nI 0))) → sm_V G xX10_expression (d + 3) 96 [.ref mM, .int (nI 0), .int (nI 1)] [] J1 ρ QQ) : sm_V G xX10_expression (d + 3) 96 [.ref mM, .int (nI 0), .int (nI 1)] [] J ρ QQ := by
  have hq : tq J ρ tk := h.tq hq0
  obtain ⟨hx, hr, h12, hwt, hc, b1, b2, b3⟩ := h
  have t4 : t ≤ 400 := hr.1.1
  have hlen : (p ++ 6 :: s).length = p.length + (s.length + 1) := List.length_append
  refine wp_aload0 97 rfl dX10_expression_96 ?_
  refine wp_bipush (nI 7) 99 rfl dX10_expression_97 (by decide) ?_
  refine wp_Vi1 102 rfl dX10_expression_99 kX10_is lX10_221 (md_M hm) (nl rfl) (nl rfl) (s_is hm tk hq hw _ hr 7 (by decide)) (fun v J1 ρ1 hq1 => ?_)
  obtain ⟨rfl, rfl, h01, hv⟩ := hq1
  rw [hv.mpr k7]
  refine wp_if_eq 105 145 rfl rfl dX10_expression_102 (fun c102 => absurd c102 (by decide)) (fun c102 => ?_)
  refine wp_aload0 106 rfl dX10_expression_105 ?_
  refine wp_geti 109 rfl dX10_expression_106 fX10_230_10 (md_M hm) ?_
  rw [h12]
  refine wp_iload1 110 rfl dX10_expression_109 ?_
  refine wp_icmp_le 113 145 rfl rfl dX10_expression_110 (fun c110 => absurd c110 (nI_ge (by omega) (by omega))) (fun c110 => ?_)
  refine wp_aload0 114 rfl dX10_expression_113 ?_
  refine wp_iconst (nI 0) 115 rfl dX10_expression_114 (by decide) ?_
  refine wp_Vv1 118 rfl dX10_expression_115 kX10_comesOut lX10_305 (md_M hm) (nl rfl) (nl rfl) (s_come hm false c0 c1 p (6 :: s) e (fun k r h => by cases h; exact Or.inl rfl) (fun k hk h => h.elim (hp k hk) (fun q => absurd q.1 (by decide))) hwt hc (by omega) _ rfl) (fun J2 ρ2 hq2 => ?_)
  obtain ⟨rfl, hf1, hw1, hc1⟩ := hq2
  have h47 : J2 mM 47 = nI (s.length + 1) := hw1.1
  have h12' : J2 mM 12 = nI (op + 1) := (hf1.1.2 12 (by decide)).trans h12
  refine wp_aload0 119 rfl dX10_expression_118 ?_
  refine wp_dup 120 rfl dX10_expression_119 rfl ?_
  refine wp_geti 123 rfl dX10_expression_120 fX10_296_10 (md_M hm) ?_
  rw [h47]
  refine wp_iconst (nI 1) 124 rfl dX10_expression_123 (by decide) ?_
  refine wp_isub 125 rfl dX10_expression_124 ?_
  rw [pk_sub (by omega), show s.length + 1 - 1 = s.length by omega]
  refine wp_puti 128 rfl dX10_expression_125 pX10_296_10 (md_M hm) ⟨rfl, rfl⟩ ?_
  refine wp_aload0 129 rfl dX10_expression_128 ?_
  refine wp_dup 130 rfl dX10_expression_129 rfl ?_
  refine wp_geti 133 rfl dX10_expression_130 fX10_230_10 (md_M hm) ?_
  rw [show sm_u J2 mM 47 (nI s.length) mM 12 = nI (op + 1) from h12']
  refine wp_iconst (nI 1) 134 rfl dX10_expression_133 (by decide) ?_
  refine wp_isub 135 rfl dX10_expression_134 ?_
  rw [pk_sub (by omega), show op + 1 - 1 = op by omega]
  refine wp_puti 138 rfl dX10_expression_135 pX10_230_10 (md_M hm) ⟨rfl, rfl⟩ ?_
  obtain ⟨K, hK⟩ : ∃ K, K = sm_u (sm_u J2 mM 47 (nI s.length)) mM 12 (nI op) := ⟨_, rfl⟩
  rw [← hK]
  have hf : mf [] [12, 47] J2 K := by rw [hK]; exact (mf.uM (by decide)).tr (mf.uM (by decide))
  have g12 : K mM 12 = nI op := by rw [hK, sm_u_eq, pk_us]
  have g47 : K mM 47 = nI s.length := by rw [hK, sm_u_eq, pk_un (by decide), sm_u_eq, pk_us]
  have hwK : wtR K s := hw1.tl g47 (hf.1 m_waits (by decide) (by decide))
  have hrK : prs K tk (.inr (t, w)) := (hr.kept hf1.1 (by decide)).kept hf (by decide)
  have hqK : tq K ρ2 tk := (hq.kept hf1.1 (by decide) (σ := ρ2) rfl).kept hf (by decide) rfl
  have hcK := hc1.kept hf (by decide)
  refine wp_aload0 139 rfl dX10_expression_138 ?_
  refine wp_Vv0 142 rfl dX10_expression_139 kX10_goesOn lX10_224 (md_M hm) (nl rfl) (nl rfl) (s_goesOn hm tk hqK _ hrK (fun t' w' e => by cases e; omega)) (fun K3 ρ3 hq3 => ?_)
  obtain ⟨rfl, hf3, hp3⟩ := hq3
  have hx3 : xF c0 c1 I K3 := ((hx.tr hf1.x).tr (hf.x (by decide))).tr (hf3.x (by decide))
  refine wp_goto 96 rfl dX10_expression_142 ?_
  by_cases h4 : t = 400
  · have hp4 : prs K3 tk (.inl (2, t)) := by
      have e3 : g_pass (.inr (t, w)) = .inl (2, t) := if_pos h4
      rw [e3] at hp3
      exact hp3
    obtain ⟨p2, s2, e2, hp2, hs2⟩ := sp6 s
    have hl2 : s.length = p2.length + s2.length := by rw [e2, List.length_append]
    have hw4 : wtR K3 (p2 ++ s2) := by rw [← e2]; exact hwK.kept hf3 (by decide) (by decide)
    refine ex_96f hm tk hw K3 (hqK.kept hf3 (by decide) rfl) 2 t hp4 c0 c1 p2 s2 _ hs2 hp2 hw4 (hcK.kept hf3 (by decide)) ?_ op ((hf3.2 12 (by decide)).trans g12) (by omega) _ (fun J1 hx1 hr1 => kf h4 J1 (hx3.tr hx1) hr1)
    rw [List.length_append, List.length_map]
    omega
  · have hp4 : prs K3 tk (.inr (t + 1, w)) := by
      have e3 : g_pass (.inr (t, w)) = .inr (t + 1, w) := if_neg h4
      rw [e3] at hp3
      exact hp3
    refine kk h4 K3 ⟨hx3, hp4, (hf3.2 12 (by decide)).trans g12, hwK.kept hf3 (by decide) (by decide), hcK.kept hf3 (by decide), ?_, hl, by omega⟩
    rw [List.length_append, List.length_map]
    omega
end M35
