/-! ===== reading: one thing told, the text behind it ===== -/
set_option maxRecDepth 100000
section M45
variable {I I1 : sm_I} {ρ ρ1 : sm_R} {tk : tkf} {s t t' : Nat} {w w' : Nat × Nat} {B : rb}
theorem nI_cg {a b : Nat} (h : a = b) : nI a = nI b := by rw [h]
theorem bR_door (hB : bR I ρ s t w B) (hf : mf [m_firstFace, m_nameAt, m_doors] [11, 13, 14, 15, 16, 20] I I1) (z1 : ∀ j, (j < 24 * s + 4 * tx_D B.1 ∨ 24 * s + 24 ≤ j) → I1 m_firstFace j = I m_firstFace j) (zD : I1 m_doors s = nI (tx_D B.1 + 1)) (zF : ∀ p, p < 4 → I1 m_firstFace (24 * s + 4 * tx_D B.1 + p) = nI (tk (t + 2 + p)).2.2.1) (zN : nmR I1 ρ1 (B.2 ++ [((tk (t + 1)).2.2.2, tx_D B.1)])) (h : g_nd tk B.2 (tx_D B.1) 6 (.inr (t, w)) = .inr (t', w')) :
    bR I1 ρ1 s t' w' (x_door B.1 (fun p => nI (tk (t + 2 + p)).2.2.1), B.2 ++ [((tk (t + 1)).2.2.2, tx_D B.1)]) := by
  obtain ⟨⟨⟨h1, h2⟩, ⟨h3, h4, h5⟩, ⟨h6, h6b, h6c⟩, h7, h8, h9⟩, hL, hV⟩ := hB
  obtain ⟨y1, y2, y3⟩ := g_nd_inv h
  refine ⟨⟨⟨(hf.2 19 (by decide)).trans h1, h2⟩, ⟨zD, ?_, ?_⟩, ⟨?_, h6b, h6c⟩, zN, ?_, fun x hx => ?_⟩, hL.kept hf (by decide) (by decide) (by omega) rfl, fun h0 => ?_⟩
  · rw [hf.1 m_callers (by decide) (by decide)]; exact h4
  · rw [hf.1 m_rounds (by decide) (by decide)]; exact h5
  · show tx_D B.1 + 1 ≤ 6
    omega
  · show (B.2 ++ [((tk (t + 1)).2.2.2, tx_D B.1)]).length = tx_D B.1 + 1 + tx_C B.1
    rw [List.length_append]
    simp only [List.length_cons, List.length_nil]
    omega
  · show x.2 < tx_D B.1 + 1 ∨ 10 ≤ x.2 ∧ x.2 < 10 + tx_C B.1
    rcases List.mem_append.mp hx with hh | hh
    · have := h9 x hh
      omega
    · rw [List.mem_singleton.mp hh]
      exact Or.inl (Nat.lt_succ_self _)
  · obtain ⟨u1, u2, u3⟩ := y3 h0
    obtain ⟨⟨v1, v2, v3, v4, v5, v6⟩, ⟨k1, k2, k3, k4, k5, k6⟩⟩ := hV u1
    have ffe : ∀ j, tx_ff (x_door B.1 (fun p => nI (tk (t + 2 + p)).2.2.1)) j = if 4 * tx_D B.1 ≤ j ∧ j < 4 * tx_D B.1 + 4 then nI (tk (t + 2 + (j - 4 * tx_D B.1))).2.2.1 else tx_ff B.1 j := fun j => rfl
    refine ⟨⟨fun j hj => ?_, fun j hj => ?_, fun r hr => ?_, ?_, ?_, ?_⟩, ⟨?_, k1.2⟩, k2, fun j hj => ?_, fun r hr => ?_, k5, k6⟩
    · rw [hf.1 m_faceOf (by decide) (by decide)]
      exact v1 j hj
    · have hj : j < 4 * (tx_D B.1 + 1) := hj
      rw [ffe]
      by_cases hlt : j < 4 * tx_D B.1
      · rw [if_neg (by omega), z1 _ (by omega)]
        exact v2 j hlt
      · rw [if_pos (by omega)]
        have := zF (j - 4 * tx_D B.1) (by omega)
        rw [show 24 * s + 4 * tx_D B.1 + (j - 4 * tx_D B.1) = 24 * s + j by omega] at this
        exact this
    · rw [hf.1 m_whoOf (by decide) (by decide), hf.1 m_doorOf (by decide) (by decide), hf.1 m_everyOf (by decide) (by decide), hf.1 m_fromOf (by decide) (by decide)]
      exact v3 r hr
    · rw [hf.1 m_wind (by decide) (by decide)]; exact v4
    · rw [hf.1 m_near (by decide) (by decide)]; exact v5
    · rw [hf.1 m_seed (by decide) (by decide)]; exact v6
    · show tx_D B.1 + 1 ≤ 6
      omega
    · have hj : j < 4 * (tx_D B.1 + 1) := hj
      rw [ffe]
      by_cases hlt : j < 4 * tx_D B.1
      · rw [if_neg (by omega)]
        exact k3 j hlt
      · rw [if_pos (by omega)]
        exact ⟨_, u3 _ (by omega), rfl⟩
    · obtain ⟨a1, a2, a3⟩ := k4 r hr
      exact ⟨a1, Nat.lt_succ_of_lt a2, a3⟩
theorem bR_caller (hB : bR I ρ s t w B) (hf : mf [m_faceOf, m_nameAt, m_callers] [11, 13, 14, 15, 16, 20] I I1) (z1 : ∀ j, (j < 20 * s + 4 * tx_C B.1 ∨ 20 * s + 20 ≤ j) → I1 m_faceOf j = I m_faceOf j) (zD : I1 m_callers s = nI (tx_C B.1 + 1)) (zF : ∀ p, p < 4 → I1 m_faceOf (20 * s + 4 * tx_C B.1 + p) = nI (tk (t + 2 + p)).2.2.1) (zN : nmR I1 ρ1 (B.2 ++ [((tk (t + 1)).2.2.2, 10 + tx_C B.1)])) (h : g_nd tk B.2 (tx_C B.1) 5 (.inr (t, w)) = .inr (t', w')) :
    bR I1 ρ1 s t' w' (x_caller B.1 (fun p => nI (tk (t + 2 + p)).2.2.1), B.2 ++ [((tk (t + 1)).2.2.2, 10 + tx_C B.1)]) := by
  obtain ⟨⟨⟨h1, h2⟩, ⟨h3, h4, h5⟩, ⟨h6, h6b, h6c⟩, h7, h8, h9⟩, hL, hV⟩ := hB
  obtain ⟨y1, y2, y3⟩ := g_nd_inv h
  refine ⟨⟨⟨(hf.2 19 (by decide)).trans h1, h2⟩, ⟨?_, zD, ?_⟩, ⟨h6, ?_, h6c⟩, zN, ?_, fun x hx => ?_⟩, hL.kept hf (by decide) (by decide) (by omega) rfl, fun h0 => ?_⟩
  · rw [hf.1 m_doors (by decide) (by decide)]; exact h3
  · rw [hf.1 m_rounds (by decide) (by decide)]; exact h5
  · show tx_C B.1 + 1 ≤ 5
    omega
  · show (B.2 ++ [((tk (t + 1)).2.2.2, 10 + tx_C B.1)]).length = tx_D B.1 + (tx_C B.1 + 1)
    rw [List.length_append]
    simp only [List.length_cons, List.length_nil]
    omega
  · show x.2 < tx_D B.1 ∨ 10 ≤ x.2 ∧ x.2 < 10 + (tx_C B.1 + 1)
    rcases List.mem_append.mp hx with hh | hh
    · have := h9 x hh
      omega
    · rw [List.mem_singleton.mp hh]
      exact Or.inr ⟨Nat.le_add_right _ _, by show 10 + tx_C B.1 < 10 + (tx_C B.1 + 1); omega⟩
  · obtain ⟨u1, u2, u3⟩ := y3 h0
    obtain ⟨⟨v1, v2, v3, v4, v5, v6⟩, ⟨k1, k2, k3, k4, k5, k6⟩⟩ := hV u1
    have ffe : ∀ j, tx_cf (x_caller B.1 (fun p => nI (tk (t + 2 + p)).2.2.1)) j = if 4 * tx_C B.1 ≤ j ∧ j < 4 * tx_C B.1 + 4 then nI (tk (t + 2 + (j - 4 * tx_C B.1))).2.2.1 else tx_cf B.1 j := fun j => rfl
    refine ⟨⟨fun j hj => ?_, fun j hj => ?_, fun r hr => ?_, ?_, ?_, ?_⟩, ⟨k1.1, ?_, k1.2.2⟩, fun j hj => ?_, k3, fun r hr => ?_, k5, k6⟩
    · have hj : j < 4 * (tx_C B.1 + 1) := hj
      rw [ffe]
      by_cases hlt : j < 4 * tx_C B.1
      · rw [if_neg (by omega), z1 _ (by omega)]
        exact v1 j hlt
      · rw [if_pos (by omega)]
        have := zF (j - 4 * tx_C B.1) (by omega)
        rw [show 20 * s + 4 * tx_C B.1 + (j - 4 * tx_C B.1) = 20 * s + j by omega] at this
        exact this
    · rw [hf.1 m_firstFace (by decide) (by decide)]
      exact v2 j hj
    · rw [hf.1 m_whoOf (by decide) (by decide), hf.1 m_doorOf (by decide) (by decide), hf.1 m_everyOf (by decide) (by decide), hf.1 m_fromOf (by decide) (by decide)]
      exact v3 r hr
    · rw [hf.1 m_wind (by decide) (by decide)]; exact v4
    · rw [hf.1 m_near (by decide) (by decide)]; exact v5
    · rw [hf.1 m_seed (by decide) (by decide)]; exact v6
    · show tx_C B.1 + 1 ≤ 5
      omega
    · have hj : j < 4 * (tx_C B.1 + 1) := hj
      rw [ffe]
      by_cases hlt : j < 4 * tx_C B.1
      · rw [if_neg (by omega)]
        exact k2 j hlt
      · rw [if_pos (by omega)]
        exact ⟨_, u3 _ (by omega), rfl⟩
    · obtain ⟨a1, a2, a3⟩ := k4 r hr
      exact ⟨Nat.lt_succ_of_lt a1, a2, a3⟩
theorem bR_round (hB : bR I ρ s t w B) (hf : mf [m_whoOf, m_doorOf, m_everyOf, m_fromOf, m_rounds] mPF I I1) (z1 : ∀ j, ¬ (j = 10 * s + tx_R B.1 ∧ tx_R B.1 < 10) → I1 m_whoOf j = I m_whoOf j ∧ I1 m_doorOf j = I m_doorOf j ∧ I1 m_everyOf j = I m_everyOf j ∧ I1 m_fromOf j = I m_fromOf j) (zR : I1 m_rounds s = nI (tx_R B.1 + 1)) (zE : I1 m_everyOf (10 * s + tx_R B.1) = nI (tk (t + 3)).2.2.1) (zF : I1 m_fromOf (10 * s + tx_R B.1) = nI (tk (t + 4)).2.2.1) (zW : ∀ k, g_find (tk (t + 1)).2.2.2 10 B.2 = some k → I1 m_whoOf (10 * s + tx_R B.1) = nI k) (zD : ∀ k, g_find (tk (t + 2)).2.2.2 0 B.2 = some k → I1 m_doorOf (10 * s + tx_R B.1) = nI k) (h : g_rnd tk B.2 (g_room (tx_R B.1) 10 (.inr (t, w))) = .inr (t', w')) :
    t < t' ∧ bR I1 ρ s t' w' (x_round B.1 ((g_find (tk (t + 1)).2.2.2 10 B.2).getD 0, (g_find (tk (t + 2)).2.2.2 0 B.2).getD 0, nI (tk (t + 3)).2.2.1, nI (tk (t + 4)).2.2.1), B.2) := by
  obtain ⟨⟨⟨h1, h2⟩, ⟨h3, h4, h5⟩, ⟨h6, h6b, h6c⟩, h7, h8, h9⟩, hL, hV⟩ := hB
  generalize hg : g_room (tx_R B.1) 10 (.inr (t, w)) = r1 at h
  cases r1 with
  | inl y => cases h
  | inr y =>
    obtain ⟨t1, w1⟩ := y
    obtain ⟨t0, e0, nR, q0, n0⟩ := g_room_inv hg
    cases e0
    subst q0
    obtain ⟨y1, -, -, -, y3⟩ := g_rnd_inv h
    refine ⟨by omega, ⟨⟨(hf.2 19 (by decide)).trans h1, h2⟩, ⟨?_, ?_, zR⟩, ⟨h6, h6b, ?_⟩, h7.kept hf (by decide) (by decide) rfl, h8, h9⟩, hL.kept hf (by decide) (by decide) (by omega) rfl, fun h0 => ?_⟩
    · rw [hf.1 m_doors (by decide) (by decide)]; exact h3
    · rw [hf.1 m_callers (by decide) (by decide)]; exact h4
    · show tx_R B.1 + 1 ≤ 10
      omega
    · obtain ⟨u1, ⟨ka, ea⟩, ⟨kb, eb⟩, u4, u5⟩ := y3 h0
      obtain ⟨⟨v1, v2, v3, v4, v5, v6⟩, ⟨k1, k2, k3, k4, k5, k6⟩⟩ := hV u1
      have ea : g_find (tk (t + 1)).2.2.2 10 B.2 = some ka := ea
      have eb : g_find (tk (t + 2)).2.2.2 0 B.2 = some kb := eb
      obtain ⟨xa, ma, -, la, ua, qa⟩ := g_find_in ea
      obtain ⟨xb, mb, -, lb, ub, qb⟩ := g_find_in eb
      have ia := h9 xa ma
      have ib := h9 xb mb
      rw [ea, eb]
      have rde : ∀ r, (x_round B.1 ((some ka).getD 0, (some kb).getD 0, nI (tk (t + 3)).2.2.1, nI (tk (t + 4)).2.2.1)).2.2.2.1 r = if r = tx_R B.1 then (ka, kb, nI (tk (t + 3)).2.2.1, nI (tk (t + 4)).2.2.1) else B.1.2.2.2.1 r := fun r => rfl
      refine ⟨⟨fun j hj => ?_, fun j hj => ?_, fun r hr => ?_, ?_, ?_, ?_⟩, ⟨k1.1, k1.2.1, ?_⟩, k2, k3, fun r hr => ?_, k5, k6⟩
      · rw [hf.1 m_faceOf (by decide) (by decide)]
        exact v1 j hj
      · rw [hf.1 m_firstFace (by decide) (by decide)]
        exact v2 j hj
      · have hr : r < tx_R B.1 + 1 := hr
        unfold tx_who tx_door tx_ev tx_fr
        rw [rde]
        by_cases hrr : r = tx_R B.1
        · rw [if_pos hrr, hrr]
          exact ⟨zW ka ea, zD kb eb, zE, zF⟩
        · rw [if_neg hrr]
          obtain ⟨a1, a2, a3, a4⟩ := z1 (10 * s + r) (by omega)
          rw [a1, a2, a3, a4]
          exact v3 r (by omega)
      · rw [hf.1 m_wind (by decide) (by decide)]; exact v4
      · rw [hf.1 m_near (by decide) (by decide)]; exact v5
      · rw [hf.1 m_seed (by decide) (by decide)]; exact v6
      · show tx_R B.1 + 1 ≤ 10
        omega
      · have hr : r < tx_R B.1 + 1 := hr
        unfold tx_who tx_door tx_ev tx_fr
        rw [rde]
        by_cases hrr : r = tx_R B.1
        · rw [if_pos hrr]
          refine ⟨?_, ?_, ⟨_, u4.1, u4.2, rfl⟩, _, u5, rfl⟩
          · show ka < tx_C B.1
            omega
          · show kb < tx_D B.1
            omega
        · rw [if_neg hrr]
          exact k4 r (by omega)
end M45
