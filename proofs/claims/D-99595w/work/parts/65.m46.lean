/-! ===== reading: tellOne ===== -/
set_option maxRecDepth 100000
section M46
variable {G : sm_G} {d : Nat} {I I1 : sm_I} {ρ ρ1 : sm_R} {tk : tkf} {s t t' : Nat} {w w' : Nat × Nat} {B : rb}
/-- wind, near, seed: what stays -/
theorem bR_int {A : List Nat} {T : tx} (hB : bR I ρ s t w B) (hf : mf A mPF I I1) (hA : ∀ a ∈ [m_doors, m_callers, m_rounds, m_nameAt, m_lawFirst, m_lawLast, m_hasTest, m_testFrom, m_testMid, m_testTo, m_termTo, m_code, m_codeInt, m_faceOf, m_firstFace, m_whoOf, m_doorOf, m_everyOf, m_fromOf], a ∉ A) (ht : t ≤ t') (e1 : T.1 = B.1.1) (e2 : T.2.1 = B.1.2.1) (e3 : T.2.2.1 = B.1.2.2.1) (e4 : T.2.2.2.1 = B.1.2.2.2.1) (e6 : T.2.2.2.2.2 = B.1.2.2.2.2.2)
    (hz : w'.1 = 0 → w.1 = 0 ∧ ((I m_wind s = tx_wind B.1 ∧ I m_near s = tx_near B.1 ∧ I m_seed s = tx_seed B.1) → (I1 m_wind s = tx_wind T ∧ I1 m_near s = tx_near T ∧ I1 m_seed s = tx_seed T)) ∧ ((∃ n, n ≤ 396 ∧ tx_near B.1 = nI n) → ∃ n, n ≤ 396 ∧ tx_near T = nI n)) : bR I1 ρ s t' w' (T, B.2) := by
  obtain ⟨T1, T2, T3, T4, T5, T6⟩ := T
  obtain ⟨⟨B1, B2, B3, B4, B5, B6⟩, N⟩ := B
  cases e1
  cases e2
  cases e3
  cases e4
  cases e6
  obtain ⟨hC, hL, hV⟩ := hB
  have ee : ∀ a, a ∈ [m_doors, m_callers, m_rounds, m_nameAt, m_lawFirst, m_lawLast, m_hasTest, m_testFrom, m_testMid, m_testTo, m_termTo, m_code, m_codeInt, m_faceOf, m_firstFace, m_whoOf, m_doorOf, m_everyOf, m_fromOf] → I1 a = I a := fun a ha => hf.1 a (hA a ha) (fun e => by
    rw [e] at ha
    revert ha
    decide)
  refine ⟨hC.kept hf (fun a ha => hA a (by revert ha; revert a; decide)) (by decide) rfl, hL.kept hf (fun a ha => hA a (by revert ha; revert a; decide)) (by decide) ht rfl, fun h0 => ?_⟩
  obtain ⟨z1, z2, z3⟩ := hz h0
  obtain ⟨⟨v1, v2, v3, v4⟩, ⟨k1, k2, k3, k4, k5, k6⟩⟩ := hV z1
  refine ⟨⟨fun j hj => ?_, fun j hj => ?_, fun r hr => ?_, z2 v4⟩, k1, k2, k3, k4, z3 k5, k6⟩
  · rw [ee m_faceOf (by decide)]
    exact v1 j hj
  · rw [ee m_firstFace (by decide)]
    exact v2 j hj
  · rw [ee m_whoOf (by decide), ee m_doorOf (by decide), ee m_everyOf (by decide), ee m_fromOf (by decide)]
    exact v3 r hr
theorem bR_law {k b c : Nat} {J0 : sm_I} {ts : lwt} {e : ex} {r : pR} (hB : bR I ρ s t w B) (hk : k < 3) (hb1 : I mM 37 = nI b) (hb2 : 130 * s ≤ b) (hb3 : 4 * (b - 130 * s) ≤ t) (hc1 : I mM 43 = nI c) (hc2 : 420 * s ≤ c) (hc3 : c ≤ 420 * s + t) (hbl : ∀ k, k < 3 → lw_bl I s k (tx_law B.1 k) b c)
    (ht0 : tF s c b I J0) (h12 : J0 mM 12 = nI 0) (h43 : J0 mM 43 = nI (c + lw_len ts e)) (h37 : J0 mM 37 = nI (b + ts.length + 1)) (hat : lw_at2 (420 * s) (c + lw_len ts e) J0 ts e b) (hw : w' = w) (hlen : t + 4 * ts.length + 4 ≤ t') (hcl : c + lw_len ts e ≤ 420 * s + t') (hwf : lw_w2 ts e) :
    bR (sm_u (sm_u J0 m_lawFirst (3 * s + k) (nI b)) m_lawLast (3 * s + k) (nI (b + ts.length + 1))) ρ s t' w' (x_law B.1 k (ts, e), B.2) := by
  obtain ⟨hC, -, hV⟩ := hB
  subst hw
  obtain ⟨K, hK⟩ : ∃ K, K = sm_u (sm_u J0 m_lawFirst (3 * s + k) (nI b)) m_lawLast (3 * s + k) (nI (b + ts.length + 1)) := ⟨_, rfl⟩
  rw [← hK]
  have g : mf [m_lawFirst, m_lawLast] [] J0 K := by
    rw [hK]
    exact (mf.u (by decide) (by decide)).tr (mf.u (by decide) (by decide))
  have g1 : K m_lawFirst (3 * s + k) = nI b := by rw [hK, sm_u_ne _ _ _ (by decide), sm_u_eq, pk_us]
  have g2 : K m_lawLast (3 * s + k) = nI (b + ts.length + 1) := by rw [hK, sm_u_eq, pk_us]
  have g3 : ∀ j, ¬ j = 3 * s + k → K m_lawFirst j = I m_lawFirst j ∧ K m_lawLast j = I m_lawLast j := fun j hj => by
    rw [hK, sm_u_off hj, sm_u_off hj, sm_u_off hj, sm_u_off hj, ht0.1.1 m_lawFirst (by decide) (by decide), ht0.1.1 m_lawLast (by decide) (by decide)]
    exact ⟨rfl, rfl⟩
  have hl : tx_law (x_law B.1 k (ts, e)) = fun i => if i = k then some (ts, e) else tx_law B.1 i := rfl
  refine ⟨(hC.kept ht0.1 (by decide) (by decide) (σ := ρ) rfl).kept g (by decide) (by decide) rfl, ⟨b + ts.length + 1, c + lw_len ts e, ⟨(g.2 37 (by decide)).trans h37, by omega, by omega⟩, ⟨(g.2 43 (by decide)).trans h43, by omega, hcl⟩, (g.2 12 (by decide)).trans h12, fun i hi => ?_⟩, fun h0 => ?_⟩
  · have kc : ∀ j, K m_code j = J0 m_code j ∧ K m_codeInt j = J0 m_codeInt j := fun j => by
      rw [g.1 m_code (by decide) (by decide), g.1 m_codeInt (by decide) (by decide)]
      exact ⟨rfl, rfl⟩
    have kt : ∀ j, K m_hasTest j = J0 m_hasTest j ∧ K m_testFrom j = J0 m_testFrom j ∧ K m_testMid j = J0 m_testMid j ∧ K m_testTo j = J0 m_testTo j ∧ K m_termTo j = J0 m_termTo j := fun j => by
      rw [g.1 m_hasTest (by decide) (by decide), g.1 m_testFrom (by decide) (by decide), g.1 m_testMid (by decide) (by decide), g.1 m_testTo (by decide) (by decide), g.1 m_termTo (by decide) (by decide)]
      exact ⟨rfl, rfl, rfl, rfl, rfl⟩
    rw [hl]
    show lw_bl K s i (if i = k then some (ts, e) else tx_law B.1 i) _ _
    by_cases hik : i = k
    · rw [if_pos hik, hik]
      exact ⟨b, g1, g2, hb2, Nat.le_refl _, lw_at2.kp (Nat.le_refl _) (fun j _ _ => kc j) hat (fun j _ _ => kt j)⟩
    · rw [if_neg hik]
      obtain ⟨f1, f2⟩ := g3 (3 * s + i) (by omega)
      refine (hbl i hi).kp (by omega) (by omega) f1 f2 (fun j hj => ?_) (fun j hj => ?_)
      · obtain ⟨a1, a2⟩ := ht0.2.1 j (Or.inl hj)
        exact ⟨(kc j).1.trans a1, (kc j).2.trans a2⟩
      · obtain ⟨a1, a2, a3, a4, a5⟩ := ht0.2.2 j (Or.inl hj)
        obtain ⟨b1, b2, b3, b4, b5⟩ := kt j
        exact ⟨b1.trans a1, b2.trans a2, b3.trans a3, b4.trans a4, b5.trans a5⟩
  · obtain ⟨⟨v1, v2, v3, v4, v5, v6⟩, ⟨k1, k2, k3, k4, k5, k6⟩⟩ := hV h0
    have ee : ∀ a, a ∈ [m_faceOf, m_firstFace, m_whoOf, m_doorOf, m_everyOf, m_fromOf, m_wind, m_near, m_seed] → K a = I a := fun a ha => by
      have n1 : ∀ a ∈ [m_faceOf, m_firstFace, m_whoOf, m_doorOf, m_everyOf, m_fromOf, m_wind, m_near, m_seed], a ∉ [m_lawFirst, m_lawLast] ∧ a ∉ [m_code, m_codeInt, m_waits, m_hasTest, m_testFrom, m_testMid, m_testTo, m_termTo] ∧ a ≠ mM := by decide
      obtain ⟨q1, q2, q3⟩ := n1 a ha
      rw [g.1 a q1 q3, ht0.1.1 a q2 q3]
    refine ⟨⟨fun j hj => ?_, fun j hj => ?_, fun r hr => ?_, ?_, ?_, ?_⟩, k1, k2, k3, k4, k5, fun i hi => ?_⟩
    · rw [ee m_faceOf (by decide)]
      exact v1 j hj
    · rw [ee m_firstFace (by decide)]
      exact v2 j hj
    · rw [ee m_whoOf (by decide), ee m_doorOf (by decide), ee m_everyOf (by decide), ee m_fromOf (by decide)]
      exact v3 r hr
    · rw [ee m_wind (by decide)]; exact v4
    · rw [ee m_near (by decide)]; exact v5
    · rw [ee m_seed (by decide)]; exact v6
    · rw [hl]
      show lw_wf (if i = k then some (ts, e) else tx_law B.1 i)
      by_cases hik : i = k
      · rw [if_pos hik]
        intro ts' e' he
        cases he
        exact hwf
      · rw [if_neg hik]
        exact k6 i hi
end M46
