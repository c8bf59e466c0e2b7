/-! ===== reading: expression, the whole ===== -/
set_option maxRecDepth 100000
section M36
variable {G : sm_G} {d : Nat} {I : sm_I} {ρ : sm_R} {QQ : sm_O → sm_I → sm_R → Prop}
/-- no bracket closes and no sign follows -/
theorem ex_stop (hm : md ρ) (tk : tkf) (hw : tw tk) (hq0 : tq I ρ tk) (w : Nat × Nat) (c0 c1 : Nat) (J : sm_I) (t op : Nat) (p s : List Nat) (e : ex) (h : xS I tk w c0 c1 J t op (p ++ s) e) (hn : ∀ k ∈ [8, 9, 10, 15], ¬ (tk t).1 = k) (k7 : op = 0 ∨ ¬ (tk t).1 = 7)
    (hs : ∀ k r, s = k :: r → k = 6) (hp : ∀ k ∈ p, ¬ k = 6)
    (kf : ¬ op = 0 → ∀ J1, xF c0 c1 I J1 → prs J1 tk (.inl (1, t)) → QQ (.inl none) J1 ρ)
    (kk : op = 0 → ∀ J1, xF c0 c1 I J1 → prs J1 tk (.inr (t, w)) → J1 mM 12 = nI 0 → cdR J1 c0 c1 (e ++ p.map (fun k => (co_c k, nI 0))) → QQ (.inl none) J1 ρ) : sm_V G xX10_expression (d + 3) 96 [.ref mM, .int (nI 0), .int (nI 1)] [] J ρ QQ := by
  have hq : tq J ρ tk := h.tq hq0
  obtain ⟨hx, hr, h12, hwt, hc, b1, b2, b3⟩ := h
  have t4 : t ≤ 400 := hr.1.1
  have hlen : (p ++ s).length = p.length + s.length := List.length_append
  have on : sm_V G xX10_expression (d + 3) 145 [.ref mM, .int (nI 0), .int (nI 1)] [] J ρ QQ := by
    refine ex_none hm tk hw J hq _ hr (fun k hk h => hn k hk h) (nI 0) _ ?_
    refine wp_aload0 192 rfl dX10_expression_191 ?_
    refine wp_geti 195 rfl dX10_expression_192 fX10_230_10 (md_M hm) ?_
    rw [h12]
    by_cases h0 : op = 0
    · refine wp_iload1 196 rfl dX10_expression_195 ?_
      refine wp_icmp_le 199 204 rfl rfl dX10_expression_196 (fun c196 => ?_) (fun c196 => absurd (by rw [h0]; decide) c196)
      exact ex_ret hm J c0 c1 p s e hs hp hwt hc (by omega) _ _ (fun J1 hf _ hc1 => kk h0 J1 (hx.tr hf.x) (hr.kept hf.1 (by decide)) (((hf.1.2 12 (by decide)).trans h12).trans (by rw [h0])) hc1)
    · refine wp_iload1 196 rfl dX10_expression_195 ?_
      refine wp_icmp_le 199 204 rfl rfl dX10_expression_196 (fun c196 => absurd c196 (nI_ge (by omega) (by omega))) (fun c196 => ?_)
      refine wp_aload0 200 rfl dX10_expression_199 ?_
      refine wp_iconst (nI 1) 201 rfl dX10_expression_200 (by decide) ?_
      refine wp_Vv1 204 rfl dX10_expression_201 kX10_fail lX10_218 (md_M hm) (nl rfl) (nl rfl) (s_fail hm tk hq _ hr 1 (Or.inl rfl)) (fun J2 ρ2 hq2 => ?_)
      obtain ⟨rfl, hf2, hp2⟩ := hq2
      exact ex_ret hm J2 c0 c1 p s e hs hp (hwt.kept hf2 (by decide) (by decide)) (hc.kept hf2 (by decide)) (by omega) _ _ (fun J1 hf _ _ => kf h0 J1 ((hx.tr (hf2.x (by decide))).tr hf.x) (prs.kept (r := .inl (1, t)) hp2 hf.1 (by decide)))
  refine wp_aload0 97 rfl dX10_expression_96 ?_
  refine wp_bipush (nI 7) 99 rfl dX10_expression_97 (by decide) ?_
  refine wp_Vi1 102 rfl dX10_expression_99 kX10_is lX10_221 (md_M hm) (nl rfl) (nl rfl) (s_is hm tk hq hw _ hr 7 (by decide)) (fun v J1 ρ1 hq1 => ?_)
  obtain ⟨rfl, rfl, h01, hv⟩ := hq1
  by_cases g7 : (tk t).1 = 7
  · rw [hv.mpr g7]
    refine wp_if_eq 105 145 rfl rfl dX10_expression_102 (fun c102 => absurd c102 (by decide)) (fun c102 => ?_)
    refine wp_aload0 106 rfl dX10_expression_105 ?_
    refine wp_geti 109 rfl dX10_expression_106 fX10_230_10 (md_M hm) ?_
    rw [h12]
    refine wp_iload1 110 rfl dX10_expression_109 ?_
    refine wp_icmp_le 113 145 rfl rfl dX10_expression_110 (fun c110 => ?_) (fun c110 => absurd (by rw [k7.resolve_right (fun h => h g7)]; decide) c110)
    exact on
  · rw [h01.resolve_right (fun h => g7 (hv.mp h))]
    refine wp_if_eq 105 145 rfl rfl dX10_expression_102 (fun c102 => ?_) (fun c102 => absurd (rfl) c102)
    exact on
end M36
