/-! ===== reading: tellOne, the whole ===== -/
set_option maxRecDepth 100000
theorem tF.r {s c b : Nat} {I J : sm_I} (h : tF s c b I J) (hc : 420 * s ≤ c) (hb : 130 * s ≤ b) : rF s I J := by
  refine rF.of h.1 (by decide) (by decide) (fun x hx hA j hj => ?_)
  have hc1 : ∀ x ∈ rdW, x.1 ∈ [m_code, m_codeInt, m_waits, m_hasTest, m_testFrom, m_testMid, m_testTo, m_termTo] → x = (m_code, 420) ∨ x = (m_codeInt, 420) ∨ x = (m_hasTest, 130) ∨ x = (m_testFrom, 130) ∨ x = (m_testMid, 130) ∨ x = (m_testTo, 130) ∨ x = (m_termTo, 130) := by decide
  rcases hc1 x hx hA with e | e | e | e | e | e | e
  · subst e
    exact (h.2.1 j (by omega)).1
  · subst e
    exact (h.2.1 j (by omega)).2
  · subst e
    exact (h.2.2 j (by omega)).1
  · subst e
    exact (h.2.2 j (by omega)).2.1
  · subst e
    exact (h.2.2 j (by omega)).2.2.1
  · subst e
    exact (h.2.2 j (by omega)).2.2.2.1
  · subst e
    exact (h.2.2 j (by omega)).2.2.2.2
section M47
variable {G : sm_G} {d : Nat} {I : sm_I} {ρ : sm_R}
theorem s_tellOne (hm : md ρ) (tk : tkf) (hw : tw tk) (hq : tq I ρ tk) (t : Nat) (w : Nat × Nat) (hr : prs I tk (.inr (t, w))) (k0 : ¬ (tk t).1 = 0) (s : Nat) (B : rb) (hB : bR I ρ s t w B) :
    sm_M G xX10_tellOne (d + 6) [.ref mM] I ρ (sm_Qv (fun I1 ρ1 => kyF [m_nameOf] ρ ρ1 ∧ rF s I I1 ∧ prs I1 tk (g_one tk t w B).1 ∧ ∀ t' w', (g_one tk t w B).1 = .inr (t', w') → t < t' ∧ bR I1 ρ1 s t' w' (g_one tk t w B).2)) := by
  show sm_V G xX10_tellOne (d + 6) 0 [.ref mM, .retAddr 0, .retAddr 0] [] I ρ _
  obtain ⟨⟨⟨h19, hs⟩, ⟨hD, hC, hR⟩, ⟨hD6, hC5, hR10⟩, hN, hNl, hNx⟩, ⟨b, c, ⟨b1, b2, b3⟩, ⟨c1, c2, c3⟩, z12, hbl⟩, hV⟩ := id hB
  obtain ⟨⟨p1, p2, p3, p4⟩, h13, h11, h15, h16⟩ := id hr
  obtain ⟨q1, q2, q3, q4⟩ := hq t p1 p2
  obtain ⟨y1, y2, y3, y4⟩ := hw.1 t
  have t4 : t ≤ 400 := p1
  refine wp_aload0 1 rfl dX10_tellOne_0 ?_
  refine wp_getr 4 rfl dX10_tellOne_1 fX10_20_10 (md_M hm) (mp_tKind hm) ?_
  refine wp_aload0 5 rfl dX10_tellOne_4 ?_
  refine wp_geti 8 rfl dX10_tellOne_5 fX10_206_10 (md_M hm) ?_
  refine wp_iald 9 rfl dX10_tellOne_8 (ms_tKind hm) (t) (h11) (⟨by omega, by decide⟩) ?_
  rw [q1]
  by_cases k20 : (tk t).1 = 20
  · have eg : g_one tk t w B = (g_nd tk B.2 (tx_D B.1) 6 (.inr (t, w)), x_door B.1 (fun p => nI (tk (t + 2 + p)).2.2.1), B.2 ++ [((tk (t + 1)).2.2.2, tx_D B.1)]) := if_pos k20
    rw [eg, k20]
    refine wp_tableIn (off := 51) 60 dX10_tellOne_9 (by decide) (by decide) (by decide) rfl ?_
    refine t1_door hm tk hw hq t w hr k0 B.2 hN (by omega) s (tx_D B.1) hs h19 hD hD6 (by omega) (fun I1 ρ1 ky f r1 zf zd zo => ⟨rfl, ky, rF.of f (by decide) (by decide) (fun x hx hA j hj => ?_), r1, fun t' w' e => ?_⟩)
    · have hc1 : ∀ x ∈ rdW, x.1 ∈ [m_firstFace, m_nameAt, m_doors] → x = (m_firstFace, 24) ∨ x = (m_doors, 1) := by decide
      rcases hc1 x hx hA with e | e
      · subst e
        exact zf j (by omega)
      · subst e
        exact zd j (by omega)
    · obtain ⟨o1, o2, o3⟩ := zo t' w' e
      refine ⟨?_, bR_door hB f zf o1 o2 o3 e⟩
      have := (g_nd_inv e).1
      omega
  by_cases k21 : (tk t).1 = 21
  · have eg : g_one tk t w B = (g_nd tk B.2 (tx_C B.1) 5 (.inr (t, w)), x_caller B.1 (fun p => nI (tk (t + 2 + p)).2.2.1), B.2 ++ [((tk (t + 1)).2.2.2, 10 + tx_C B.1)]) := by
      unfold g_one
      rw [if_neg k20, if_pos k21]
    rw [eg, k21]
    refine wp_tableIn (off := 162) 171 dX10_tellOne_9 (by decide) (by decide) (by decide) rfl ?_
    refine t1_caller hm tk hw hq t w hr k0 B.2 hN (by omega) s (tx_C B.1) hs h19 hC hC5 (by omega) (fun I1 ρ1 ky f r1 zf zd zo => ⟨rfl, ky, rF.of f (by decide) (by decide) (fun x hx hA j hj => ?_), r1, fun t' w' e => ?_⟩)
    · have hc1 : ∀ x ∈ rdW, x.1 ∈ [m_faceOf, m_nameAt, m_callers] → x = (m_faceOf, 20) ∨ x = (m_callers, 1) := by decide
      rcases hc1 x hx hA with e | e
      · subst e
        exact zf j (by omega)
      · subst e
        exact zd j (by omega)
    · obtain ⟨o1, o2, o3⟩ := zo t' w' e
      refine ⟨?_, bR_caller hB f zf o1 o2 o3 e⟩
      have := (g_nd_inv e).1
      omega
  by_cases k22 : (tk t).1 = 22
  · have eg : g_one tk t w B = (g_rnd tk B.2 (g_room (tx_R B.1) 10 (.inr (t, w))), x_round B.1 ((g_find (tk (t + 1)).2.2.2 10 B.2).getD 0, (g_find (tk (t + 2)).2.2.2 0 B.2).getD 0, nI (tk (t + 3)).2.2.1, nI (tk (t + 4)).2.2.1), B.2) := by
      unfold g_one
      rw [if_neg k20, if_neg k21, if_pos k22]
    rw [eg, k22]
    refine wp_tableIn (off := 275) 284 dX10_tellOne_9 (by decide) (by decide) (by decide) rfl ?_
    refine t1_round hm tk hw hq t w hr k0 B.2 hN (by omega) s (tx_R B.1) hs h19 hR hR10 (fun I1 f r1 z1 z2 zo => ⟨rfl, kyF.rf, rF.of f (by decide) (by decide) (fun x hx hA j hj => ?_), r1, fun t' w' e => ?_⟩)
    · have hc1 : ∀ x ∈ rdW, x.1 ∈ [m_whoOf, m_doorOf, m_everyOf, m_fromOf, m_rounds] → x = (m_whoOf, 10) ∨ x = (m_doorOf, 10) ∨ x = (m_everyOf, 10) ∨ x = (m_fromOf, 10) ∨ x = (m_rounds, 1) := by decide
      rcases hc1 x hx hA with e | e | e | e | e
      · subst e
        exact (z1 j (by omega)).1
      · subst e
        exact (z1 j (by omega)).2.1
      · subst e
        exact (z1 j (by omega)).2.2.1
      · subst e
        exact (z1 j (by omega)).2.2.2
      · subst e
        exact z2 j (by omega)
    · obtain ⟨o1, o2, o3, o4, o5⟩ := zo t' w' e
      exact bR_round hB f z1 o1 o2 o3 o4 o5 e
  by_cases k26 : (tk t).1 = 26
  · have eg : g_one tk t w B = (g_ti tk 100 (.inr (t, w)), x_wind B.1 (nI (tk (t + 1)).2.2.1), B.2) := by
      unfold g_one
      rw [if_neg k20, if_neg k21, if_neg k22, if_pos k26]
    rw [eg, k26]
    refine wp_tableIn (off := 304) 313 dX10_tellOne_9 (by decide) (by decide) (by decide) rfl ?_
    refine t1_wind hm tk hw hq t w hr k0 s hs h19 (fun I1 f r1 z1 zo => ⟨rfl, kyF.rf, rF.of f (by decide) (by decide) (fun x hx hA j hj => ?_), r1, fun t' w' e => ?_⟩)
    · have hc1 : ∀ x ∈ rdW, x.1 ∈ [m_wind] → x = (m_wind, 1) := by decide
      have e := hc1 x hx hA
      subst e
      exact z1 j (by omega)
    · obtain ⟨a1, a2, a3⟩ := g_ti_inv e
      refine ⟨by omega, bR_int hB f (by decide) (by omega) rfl rfl rfl rfl rfl (fun h0 => ⟨(a3 h0).1, fun v => ⟨zo t' w' e, ?_, ?_⟩, fun v => v⟩)⟩
      · rw [f.1 m_near (by decide) (by decide)]; exact v.2.1
      · rw [f.1 m_seed (by decide) (by decide)]; exact v.2.2
  by_cases k27 : (tk t).1 = 27
  · have eg : g_one tk t w B = (g_ti tk 396 (.inr (t, w)), x_near B.1 (nI (tk (t + 1)).2.2.1), B.2) := by
      unfold g_one
      rw [if_neg k20, if_neg k21, if_neg k22, if_neg k26, if_pos k27]
    rw [eg, k27]
    refine wp_tableIn (off := 323) 332 dX10_tellOne_9 (by decide) (by decide) (by decide) rfl ?_
    refine t1_near hm tk hw hq t w hr k0 s hs h19 (fun I1 f r1 z1 zo => ⟨rfl, kyF.rf, rF.of f (by decide) (by decide) (fun x hx hA j hj => ?_), r1, fun t' w' e => ?_⟩)
    · have hc1 : ∀ x ∈ rdW, x.1 ∈ [m_near] → x = (m_near, 1) := by decide
      have e := hc1 x hx hA
      subst e
      exact z1 j (by omega)
    · obtain ⟨a1, a2, a3⟩ := g_ti_inv e
      refine ⟨by omega, bR_int hB f (by decide) (by omega) rfl rfl rfl rfl rfl (fun h0 => ⟨(a3 h0).1, fun v => ⟨?_, zo t' w' e, ?_⟩, fun v => ⟨_, (a3 h0).2, rfl⟩⟩)⟩
      · rw [f.1 m_wind (by decide) (by decide)]; exact v.1
      · rw [f.1 m_seed (by decide) (by decide)]; exact v.2.2
  by_cases k28 : (tk t).1 = 28
  · have eg : g_one tk t w B = (g_ti tk 9999 (.inr (t, w)), x_seed B.1 (nI (tk (t + 1)).2.2.1), B.2) := by
      unfold g_one
      rw [if_neg k20, if_neg k21, if_neg k22, if_neg k26, if_neg k27, if_pos k28]
    rw [eg, k28]
    refine wp_tableIn (off := 343) 352 dX10_tellOne_9 (by decide) (by decide) (by decide) rfl ?_
    refine t1_seed hm tk hw hq t w hr k0 s hs h19 (fun I1 f r1 z1 zo => ⟨rfl, kyF.rf, rF.of f (by decide) (by decide) (fun x hx hA j hj => ?_), r1, fun t' w' e => ?_⟩)
    · have hc1 : ∀ x ∈ rdW, x.1 ∈ [m_seed] → x = (m_seed, 1) := by decide
      have e := hc1 x hx hA
      subst e
      exact z1 j (by omega)
    · obtain ⟨a1, a2, a3⟩ := g_ti_inv e
      refine ⟨by omega, bR_int hB f (by decide) (by omega) rfl rfl rfl rfl rfl (fun h0 => ⟨(a3 h0).1, fun v => ⟨?_, ?_, zo t' w' e⟩, fun v => v⟩)⟩
      · rw [f.1 m_wind (by decide) (by decide)]; exact v.1
      · rw [f.1 m_near (by decide) (by decide)]; exact v.2.1
  by_cases k23 : 23 ≤ (tk t).1 ∧ (tk t).1 ≤ 25
  · have eg : g_one tk t w B = (g_must tk 4 (g_law tk (g_pass (.inr (t, w)))).1, x_law B.1 ((tk t).1 - 23) (g_law tk (g_pass (.inr (t, w)))).2, B.2) := by
      unfold g_one
      rw [if_neg k20, if_neg k21, if_neg k22, if_neg k26, if_neg k27, if_neg k28, if_pos k23]
    rw [eg]
    have main : sm_V G xX10_tellOne (d + 6) 372 [.ref mM, .retAddr 0, .retAddr 0] [] I ρ (sm_Qv (fun I1 ρ1 => kyF [m_nameOf] ρ ρ1 ∧ rF s I I1 ∧ prs I1 tk (g_must tk 4 (g_law tk (g_pass (.inr (t, w)))).1) ∧ ∀ t' w', g_must tk 4 (g_law tk (g_pass (.inr (t, w)))).1 = .inr (t', w') → t < t' ∧ bR I1 ρ1 s t' w' (x_law B.1 ((tk t).1 - 23) (g_law tk (g_pass (.inr (t, w)))).2, B.2))) := by
      refine t1_law hm tk hw hq t w hr ((tk t).1 - 23) (by omega) (by omega) s b c hs h19 (by omega) b1 z12 c1 (by omega) c2 (fun I1 r1 o => ?_)
      rcases o with ⟨x, e, tf⟩ | ⟨t', w', J0, e, tf, hI1, j12, j43, j37, jat⟩
      · exact ⟨rfl, kyF.rf, tf.r c2 b2, r1, fun t' w' e' => by rw [e] at e'; cases e'⟩
      · refine ⟨rfl, kyF.rf, ?_, r1, fun t'' w'' e' => ?_⟩
        · refine (tf.r c2 b2).tr (rF.of (A := [m_lawFirst, m_lawLast]) (F := []) ?_ (by decide) (by decide) (fun x hx hA j hj => ?_))
          · rw [hI1]
            exact (mf.u (by decide) (by decide)).tr (mf.u (by decide) (by decide))
          · have hc1 : ∀ x ∈ rdW, x.1 ∈ [m_lawFirst, m_lawLast] → x = (m_lawFirst, 3) ∨ x = (m_lawLast, 3) := by decide
            have hj3 : ¬ j = 3 * s + ((tk t).1 - 23) := by
              rcases hc1 x hx hA with e | e
              · subst e
                have hj : j < 3 * s ∨ 3 * s + 3 ≤ j := hj
                omega
              · subst e
                have hj : j < 3 * s ∨ 3 * s + 3 ≤ j := hj
                omega
            rw [hI1, sm_u_off hj3, sm_u_off hj3]
        · obtain ⟨t1, e1, m1, n1, n2⟩ := g_must_inv e'
          obtain ⟨t2, e2, ok⟩ := g_ifs_ok tk 4 _ t1 w'' e1
          obtain ⟨t3, e3, m3, n3, n4⟩ := g_must_inv e2
          obtain ⟨t5, e5, n5, n6⟩ := g_pass_inv e3
          cases e5
          obtain ⟨l1, l2, l3, l4⟩ := ok (by omega)
          have l2 : t2 + 4 * (g_law tk (g_pass (.inr (t, w)))).2.1.length + 1 ≤ t1 := l2
          have l3 : lw_len (g_law tk (g_pass (.inr (t, w)))).2.1 (g_law tk (g_pass (.inr (t, w)))).2.2 ≤ t1 - t2 := l3
          have l5 : t + 4 * (g_law tk (g_pass (.inr (t, w)))).2.1.length + 4 ≤ t'' := by omega
          have l6 : c + lw_len (g_law tk (g_pass (.inr (t, w)))).2.1 (g_law tk (g_pass (.inr (t, w)))).2.2 ≤ 420 * s + t'' := by omega
          refine ⟨by omega, ?_⟩
          rw [hI1]
          exact bR_law (r := .inr (t, w)) hB (by omega) b1 b2 b3 c1 c2 c3 hbl tf j12 j43 j37 jat rfl l5 l6 l4
    have k3 : (tk t).1 = 23 ∨ (tk t).1 = 24 ∨ (tk t).1 = 25 := by omega
    rcases k3 with e | e | e
    · rw [show nI (tk t).1 = nI 23 by rw [e]]
      refine wp_tableIn (off := 363) 372 dX10_tellOne_9 (by decide) (by decide) (by decide) rfl ?_
      exact main
    · rw [show nI (tk t).1 = nI 24 by rw [e]]
      refine wp_tableIn (off := 363) 372 dX10_tellOne_9 (by decide) (by decide) (by decide) rfl ?_
      exact main
    · rw [show nI (tk t).1 = nI 25 by rw [e]]
      refine wp_tableIn (off := 363) 372 dX10_tellOne_9 (by decide) (by decide) (by decide) rfl ?_
      exact main
  · have eg : g_one tk t w B = (.inl (1, t), B) := by
      unfold g_one
      rw [if_neg k20, if_neg k21, if_neg k22, if_neg k26, if_neg k27, if_neg k28, if_neg k23]
    rw [eg]
    have hto : (nI (tk t).1).toInt = ((tk t).1 : Int) := nI_toInt (by omega)
    have hout : (nI (tk t).1).toInt < 20 ∨ 28 < (nI (tk t).1).toInt := by
      rw [hto]
      omega
    refine wp_tableOut 372 dX10_tellOne_9 (hout) rfl ?_
    exact t1_none hm tk hw hq t w hr k23 (fun I1 f r1 => ⟨rfl, kyF.rf, rF.of f (by decide) (by decide) (fun x hx hA => absurd hA List.not_mem_nil), r1, fun t' w' e => by cases e⟩)
end M47
