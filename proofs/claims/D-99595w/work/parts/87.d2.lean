/-! ===== the component: days ahead ===== -/
set_option maxRecDepth 100000
section D2
variable {G : sm_G} {d : Nat} {I : sm_I} {ρ : sm_R} {tp : Nat} {q : tq4} {T : tx} {w : Nat → Int32}
theorem s_runs (hK : kd ρ) (hP : ρ.2.1 64 3 = some tp) {b : Nat} {s : Int32} (ht : td ρ b) (hb : 79 ≤ b ∧ b ≤ 882) (hR : tR I b w s) (hw : wok w) (hz : wkT T w) (hT : cT I ρ tp q T) (hk : tok T) {k : Nat} {st : Int32} (hsk : cSk k st) (n : Nat) (hn : n ≤ 60) :
    sm_M G xX0_runs (d + 407) [.ref 64, .ref b, .int (nI n), .ref k] I ρ (sm_Qv (fun I1 ρ1 => ρ1 = ρ ∧ cf (tWs b) I I1 ∧ tR I1 b (r_days T st s w n) s)) := by
  show sm_V G xX0_runs (d + 407) 0 [.ref 64, .ref b, .int (nI n), .ref k, .retAddr 0] [] I ρ _
  have hT0 := hT
  refine wp_iconst (nI 0) 1 rfl dX0_runs_0 (by decide) ?_
  refine wp_istore4 3 rfl dX0_runs_1 (by decide) rfl ?_
  refine sm_for (P := fun p => ∀ J : sm_I, cf (tWs b) I J → tR J b (r_days T st s w p) s → sm_V G xX0_runs (d + 407) 3 [.ref 64, .ref b, .int (nI n), .ref k, .int (nI p)] [] J ρ _) 0 n (Nat.zero_le _) ?_ (fun p _ hp ih => ?_) I cf.rf hR
  · intro J hf hJ
    refine wp_iload4 5 rfl dX0_runs_3 ?_
    refine wp_iload2 6 rfl dX0_runs_5 ?_
    refine wp_icmp_ge 9 24 rfl rfl dX0_runs_6 (fun c6 => ?_) (fun c6 => absurd (nI_le (Nat.le_refl _) (by omega)) c6)
    refine wp_vret dX0_runs_24 rfl ?_
    exact ⟨rfl, rfl, hf, hJ⟩
  · intro J hf hJ
    have hT := hT0.kept (hf.T (tW_s hb))
    obtain ⟨w1, w2⟩ := wok_days (st := st) (l := s) hw hz hk p
    refine wp_iload4 5 rfl dX0_runs_3 ?_
    refine wp_iload2 6 rfl dX0_runs_5 ?_
    refine wp_icmp_ge 9 24 rfl rfl dX0_runs_6 (fun c6 => absurd c6 (nI_ge hp (by omega))) (fun c6 => ?_)
    refine wp_aload1 10 rfl dX0_runs_9 ?_
    refine wp_aload0 11 rfl dX0_runs_10 ?_
    refine wp_getr 14 rfl dX0_runs_11 fX0_51_1 (o1 hK) (hP) ?_
    refine wp_aload3 15 rfl dX0_runs_14 ?_
    refine wp_Vv2 18 rfl dX0_runs_15 kX5_goesBy lX0_282 (o6 ht) (nl rfl) (nl rfl) (s_goesBy (d := d) hK ht hb hJ w1 w2 hT hk hsk) (fun J1 ρ1 hq => ?_)
    obtain ⟨e1, f1, hR1⟩ := hq
    have e1 := e1.symm
    subst e1
    refine wp_iincN4 21 rfl dX0_runs_18 (by decide) rfl ?_
    refine wp_goto 3 rfl dX0_runs_21 ?_
    exact ih J1 (hf.tr f1) hR1
theorem cq.tr9 {I J J1 : sm_I} (h : cq I J) (h2 : cf (tWs 95) J J1) : cq I J1 := h.tr (cq.of h2 (cs_town (Or.inl rfl)))
theorem c_then (hA : cA I ρ tp q T w) (x n what : Int32) : sm_M G xX0_then (d + 408) [.ref 64, .int x, .int n, .int what] I ρ (cPost I ρ (o_then T w x n what)) := by
  obtain ⟨hK, hP, hT, hk, ⟨hw, hz⟩, hR⟩ := hA
  show sm_V G xX0_then (d + 408) 0 [.ref 64, .int x, .int n, .int what] [] I ρ _
  obtain ⟨h6, h5, h10⟩ := hk.1
  have ht := k_town hK
  have ht2 := k_trial hK
  unfold o_then
  refine wp_aload0 1 rfl dX0_then_0 ?_
  refine wp_iload1 2 rfl dX0_then_1 ?_
  refine wp_Ve1 5 rfl dX0_then_2 kX0_isDoor lX0_185 (o1 hK) (nl rfl) (nl rfl) (s_cisDoor hK hP hT hk x) ?_
  by_cases hX : ∃ j, j < tx_D T ∧ x = nI j
  · obtain ⟨j, hj, e⟩ := hX
    subst e
    rw [z_ix_n hj (by omega)]
    refine wp_if_eq 8 24 rfl rfl dX0_then_5 (fun c5 => absurd c5 (z_b_ne.mpr ⟨j, hj, rfl⟩)) (fun c5 => ?_)
    refine wp_iload2 9 rfl dX0_then_8 ?_
    refine wp_Se1 12 rfl dX0_then_9 kX0_isAhead lX0_286 (nl rfl) (nl rfl) (s_isAhead n) ?_
    by_cases hX : ∃ j, (0 ≤ j ∧ j ≤ 60) ∧ n = nI j
    · obtain ⟨m, hm, e⟩ := hX
      subst e
      rw [z_iv_n (l := 0) (m := 60) hm (by decide) (by decide)]
      refine wp_if_eq 15 24 rfl rfl dX0_then_12 (fun c12 => absurd c12 (z_b_ne.mpr ((z_iv_iff (l := 0) (m := 60) (by decide) (by decide)).mpr ⟨m, hm, rfl⟩))) (fun c12 => ?_)
      refine wp_iload3 16 rfl dX0_then_15 ?_
      refine wp_iconst (nI 0) 17 rfl dX0_then_16 (by decide) ?_
      refine wp_iconst (nI 5) 18 rfl dX0_then_17 (by decide) ?_
      refine wp_Se3 21 rfl dX0_then_18 kX0_isIn lX0_161 (nl rfl) (nl rfl) (s_isIn _ _ _) ?_
      by_cases hX : ∃ j, (0 ≤ j ∧ j ≤ 5) ∧ what = nI j
      · obtain ⟨kk, hkk, e⟩ := hX
        subst e
        rw [z_iv_n (l := 0) (m := 5) hkk (by decide) (by decide)]
        refine wp_if_ne 24 26 rfl rfl dX0_then_21 (fun c21 => ?_) (fun c21 => absurd c21 (z_b_ne.mpr ((z_iv_iff (l := 0) (m := 5) (by decide) (by decide)).mpr ⟨kk, hkk, rfl⟩)))
        refine wp_aload0 27 rfl dX0_then_26 ?_
        refine wp_getr 30 rfl dX0_then_27 fX0_66_1 (o1 hK) (p1_8 hK) ?_
        refine wp_aload0 31 rfl dX0_then_30 ?_
        refine wp_getr 34 rfl dX0_then_31 fX0_62_1 (o1 hK) (p1_7 hK) ?_
        refine wp_Vv1 37 rfl dX0_then_34 kX5_takes lX0_261 (o6 (k_trial hK)) (nl rfl) (nl rfl) (s_takes ht2 ht (by omega) hR) (fun J0 ρ1 hq9 => ?_)
        obtain ⟨e1, f0, hR0⟩ := hq9
        have e1 := e1.symm
        subst e1
        have hq0 : cq I J0 := cq.of f0 (cs_town (Or.inl rfl))
        have hT0 := hT.kept hq0.T
        have hT := hT0
        refine wp_aload0 38 rfl dX0_then_37 ?_
        refine wp_aload0 39 rfl dX0_then_38 ?_
        refine wp_getr 42 rfl dX0_then_39 fX0_66_1 (o1 hK) (p1_8 hK) ?_
        refine wp_iload2 43 rfl dX0_then_42 ?_
        refine wp_aload0 44 rfl dX0_then_43 ?_
        refine wp_getr 47 rfl dX0_then_44 fX0_82_1 (o1 hK) (p1_12 hK) ?_
        refine wp_Vv3 50 rfl dX0_then_47 kX0_runs lX0_289 (o1 hK) (nl rfl) (nl rfl) (s_runs (d := d) hK hP ht2 ⟨by decide, by decide⟩ hR0 hw hz hT hk (Or.inl ⟨rfl, rfl⟩) m hm.2) (fun J1 ρ1 hq9 => ?_)
        obtain ⟨e1, f1, hR1⟩ := hq9
        have e1 := e1.symm
        subst e1
        have hq1 := hq0.tr9 f1
        have hT := hT.kept (cq.of f1 (cs_town (Or.inl rfl))).T
        obtain ⟨w1, w2⟩ := wok_days (st := nI 0) (l := tx_seed T) hw hz hk m
        by_cases e4 : kk = 4
        · subst e4
          refine wp_iload3 51 rfl dX0_then_50 ?_
          refine wp_iconst (nI 4) 52 rfl dX0_then_51 (by decide) ?_
          refine wp_icmp_ne 55 70 rfl rfl dX0_then_52 (fun c52 => absurd (rfl) c52) (fun c52 => ?_)
          refine wp_aload0 56 rfl dX0_then_55 ?_
          refine wp_getr 59 rfl dX0_then_56 fX0_66_1 (o1 hK) (p1_8 hK) ?_
          refine wp_aload0 60 rfl dX0_then_59 ?_
          refine wp_getr 63 rfl dX0_then_60 fX0_51_1 (o1 hK) (hP) ?_
          refine wp_iload1 64 rfl dX0_then_63 ?_
          refine wp_Ve2 67 rfl dX0_then_64 kX5_known lX0_204 (o6 (k_trial hK)) (nl rfl) (nl rfl) (s_known' ht2 hR1 w1 hT hk (by omega)) ?_
          refine wp_goto 98 rfl dX0_then_67 ?_
          refine wp_iret dX0_then_98 rfl ?_
          exact sm_ci hq1 rfl
        · by_cases e5 : kk = 5
          · subst e5
            refine wp_iload3 51 rfl dX0_then_50 ?_
            refine wp_iconst (nI 4) 52 rfl dX0_then_51 (by decide) ?_
            refine wp_icmp_ne 55 70 rfl rfl dX0_then_52 (fun c52 => ?_) (fun c52 => absurd c52 (by decide))
            refine wp_iload3 71 rfl dX0_then_70 ?_
            refine wp_iconst (nI 5) 72 rfl dX0_then_71 (by decide) ?_
            refine wp_icmp_ne 75 87 rfl rfl dX0_then_72 (fun c72 => absurd (rfl) c72) (fun c72 => ?_)
            refine wp_aload0 76 rfl dX0_then_75 ?_
            refine wp_getr 79 rfl dX0_then_76 fX0_66_1 (o1 hK) (p1_8 hK) ?_
            refine wp_getr 82 rfl dX0_then_79 fX0_201_6 (o6 (k_trial hK)) (p6_4 (k_trial hK)) ?_
            refine wp_iload1 83 rfl dX0_then_82 ?_
            refine wp_iald 84 rfl dX0_then_83 (s6_4 (k_trial hK)) (j) (by first | rfl | simp only [pk_mul, nI_add]) (⟨by omega, by decide⟩) ?_
            refine wp_goto 98 rfl dX0_then_84 ?_
            refine wp_iret dX0_then_98 rfl ?_
            refine sm_ci hq1 ?_
            exact (hR1.2.1 j (by omega)).2.2.2
          · refine wp_iload3 51 rfl dX0_then_50 ?_
            refine wp_iconst (nI 4) 52 rfl dX0_then_51 (by decide) ?_
            refine wp_icmp_ne 55 70 rfl rfl dX0_then_52 (fun c52 => ?_) (fun c52 => absurd c52 (fun z => e4 ((nI_eq (by omega) (by decide)).mp z)))
            refine wp_iload3 71 rfl dX0_then_70 ?_
            refine wp_iconst (nI 5) 72 rfl dX0_then_71 (by decide) ?_
            refine wp_icmp_ne 75 87 rfl rfl dX0_then_72 (fun c72 => ?_) (fun c72 => absurd c72 (fun z => e5 ((nI_eq (by omega) (by decide)).mp z)))
            refine wp_aload0 88 rfl dX0_then_87 ?_
            refine wp_getr 91 rfl dX0_then_88 fX0_66_1 (o1 hK) (p1_8 hK) ?_
            refine wp_getr 94 rfl dX0_then_91 fX0_170_6 (o6 (k_trial hK)) (p6_0 (k_trial hK)) ?_
            refine wp_iload1 95 rfl dX0_then_94 ?_
            refine wp_aald (t := 10) 96 rfl dX0_then_95 (by decide) rfl rfl (s6_0 (k_trial hK)) (j) (by first | rfl | simp only [pk_mul, nI_add]) (⟨by omega, by decide⟩) (e6_0 (k_trial hK) (by omega)) ?_
            refine wp_iload3 97 rfl dX0_then_96 ?_
            refine wp_iald 98 rfl dX0_then_97 (i6_0 (k_trial hK) (by omega)) (kk) (by first | rfl | simp only [pk_mul, nI_add]) (⟨by omega, by decide⟩) ?_
            refine wp_iret dX0_then_98 rfl ?_
            refine sm_ci hq1 ?_
            rw [hR1.1 j kk (by omega) (by omega)]
            exact (if_pos (by omega)).symm
      · rw [z_iv_o (l := 0) (m := 5) (fun z => hX ((z_iv_iff (by decide) (by decide)).mp z))]
        refine wp_if_ne 24 26 rfl rfl dX0_then_21 (fun c21 => absurd (z_b_eq.mpr (fun z => hX ((z_iv_iff (l := 0) (m := 5) (by decide) (by decide)).mp z))) c21) (fun c21 => ?_)
        refine wp_iconst (-1) 25 rfl dX0_then_24 (by decide) ?_
        refine wp_iret dX0_then_25 rfl ?_
        exact sm_ci cq.rf rfl
    · rw [z_iv_o (l := 0) (m := 60) (fun z => hX ((z_iv_iff (by decide) (by decide)).mp z))]
      refine wp_if_eq 15 24 rfl rfl dX0_then_12 (fun c12 => ?_) (fun c12 => absurd (z_b_eq.mpr (fun z => hX ((z_iv_iff (l := 0) (m := 60) (by decide) (by decide)).mp z))) c12)
      refine wp_iconst (-1) 25 rfl dX0_then_24 (by decide) ?_
      refine wp_iret dX0_then_25 rfl ?_
      exact sm_ci cq.rf rfl
  · rw [z_ix_no (by omega) hX]
    refine wp_if_eq 8 24 rfl rfl dX0_then_5 (fun c5 => ?_) (fun c5 => absurd (z_b_eq.mpr hX) c5)
    refine wp_iconst (-1) 25 rfl dX0_then_24 (by decide) ?_
    refine wp_iret dX0_then_25 rfl ?_
    exact sm_ci cq.rf rfl
theorem c_shift (hA : cA I ρ tp q T w) (x n : Int32) : sm_M G xX0_shift (d + 408) [.ref 64, .int x, .int n] I ρ (cPost I ρ (o_shift T w x n)) := by
  obtain ⟨hK, hP, hT, hk, ⟨hw, hz⟩, hR⟩ := hA
  show sm_V G xX0_shift (d + 408) 0 [.ref 64, .int x, .int n] [] I ρ _
  obtain ⟨h6, h5, h10⟩ := hk.1
  have ht := k_town hK
  have ht2 := k_trial hK
  unfold o_shift
  refine wp_aload0 1 rfl dX0_shift_0 ?_
  refine wp_iload1 2 rfl dX0_shift_1 ?_
  refine wp_Ve1 5 rfl dX0_shift_2 kX0_isDoor lX0_185 (o1 hK) (nl rfl) (nl rfl) (s_cisDoor hK hP hT hk x) ?_
  by_cases hX : ∃ j, j < tx_D T ∧ x = nI j
  · obtain ⟨j, hj, e⟩ := hX
    subst e
    rw [z_ix_n hj (by omega)]
    refine wp_if_eq 8 15 rfl rfl dX0_shift_5 (fun c5 => absurd c5 (z_b_ne.mpr ⟨j, hj, rfl⟩)) (fun c5 => ?_)
    refine wp_iload2 9 rfl dX0_shift_8 ?_
    refine wp_Se1 12 rfl dX0_shift_9 kX0_isAhead lX0_286 (nl rfl) (nl rfl) (s_isAhead n) ?_
    by_cases hX : ∃ j, (0 ≤ j ∧ j ≤ 60) ∧ n = nI j
    · obtain ⟨m, hm, e⟩ := hX
      subst e
      rw [z_iv_n (l := 0) (m := 60) hm (by decide) (by decide)]
      refine wp_if_ne 15 17 rfl rfl dX0_shift_12 (fun c12 => ?_) (fun c12 => absurd c12 (z_b_ne.mpr ((z_iv_iff (l := 0) (m := 60) (by decide) (by decide)).mpr ⟨m, hm, rfl⟩)))
      refine wp_aload0 18 rfl dX0_shift_17 ?_
      refine wp_getr 21 rfl dX0_shift_18 fX0_66_1 (o1 hK) (p1_8 hK) ?_
      refine wp_aload0 22 rfl dX0_shift_21 ?_
      refine wp_getr 25 rfl dX0_shift_22 fX0_62_1 (o1 hK) (p1_7 hK) ?_
      refine wp_Vv1 28 rfl dX0_shift_25 kX5_takes lX0_261 (o6 (k_trial hK)) (nl rfl) (nl rfl) (s_takes ht2 ht (by omega) hR) (fun J0 ρ1 hq9 => ?_)
      obtain ⟨e1, f0, hR0⟩ := hq9
      have e1 := e1.symm
      subst e1
      have hq0 : cq I J0 := cq.of f0 (cs_town (Or.inl rfl))
      have hT0 := hT.kept hq0.T
      have hT := hT0
      refine wp_aload0 29 rfl dX0_shift_28 ?_
      refine wp_aload0 30 rfl dX0_shift_29 ?_
      refine wp_getr 33 rfl dX0_shift_30 fX0_66_1 (o1 hK) (p1_8 hK) ?_
      refine wp_iload2 34 rfl dX0_shift_33 ?_
      refine wp_aload0 35 rfl dX0_shift_34 ?_
      refine wp_getr 38 rfl dX0_shift_35 fX0_89_1 (o1 hK) (p1_13 hK) ?_
      refine wp_Vv3 41 rfl dX0_shift_38 kX0_runs lX0_289 (o1 hK) (nl rfl) (nl rfl) (s_runs (d := d) hK hP ht2 ⟨by decide, by decide⟩ hR0 hw hz hT hk (Or.inr ⟨rfl, rfl⟩) m hm.2) (fun J1 ρ1 hq9 => ?_)
      obtain ⟨e1, f1, hR1⟩ := hq9
      have e1 := e1.symm
      subst e1
      have hq1 := hq0.tr9 f1
      obtain ⟨w1, w2⟩ := wok_days (st := nI 1) (l := tx_seed T) hw hz hk m
      have hRt := (cA.q (I1 := J1) ⟨hK, hP, ‹cT I ρ tp q T›, hk, ⟨hw, hz⟩, hR⟩ hq1).2.2.2.2.2
      refine wp_aload0 42 rfl dX0_shift_41 ?_
      refine wp_getr 45 rfl dX0_shift_42 fX0_66_1 (o1 hK) (p1_8 hK) ?_
      refine wp_getr 48 rfl dX0_shift_45 fX0_170_6 (o6 (k_trial hK)) (p6_0 (k_trial hK)) ?_
      refine wp_iload1 49 rfl dX0_shift_48 ?_
      refine wp_aald (t := 10) 50 rfl dX0_shift_49 (by decide) rfl rfl (s6_0 (k_trial hK)) (j) (by first | rfl | simp only [pk_mul, nI_add]) (⟨by omega, by decide⟩) (e6_0 (k_trial hK) (by omega)) ?_
      refine wp_aload0 51 rfl dX0_shift_50 ?_
      refine wp_getr 54 rfl dX0_shift_51 fX0_62_1 (o1 hK) (p1_7 hK) ?_
      refine wp_getr 57 rfl dX0_shift_54 fX0_170_6 (o6 (k_town hK)) (p6_0 (k_town hK)) ?_
      refine wp_iload1 58 rfl dX0_shift_57 ?_
      refine wp_aald (t := 10) 59 rfl dX0_shift_58 (by decide) rfl rfl (s6_0 (k_town hK)) (j) (by first | rfl | simp only [pk_mul, nI_add]) (⟨by omega, by decide⟩) (e6_0 (k_town hK) (by omega)) ?_
      refine wp_Se2 62 rfl dX0_shift_59 kX0_unlikeOf lX0_181 (nl rfl) (nl rfl) (s_unlikeOf (i6_0 ht2 (by omega)) (i6_0 ht (by omega)) (fun p hp => by rw [hR1.1 j p (by omega) hp]; exact w1.1 _ (by omega)) (fun p hp => by rw [hRt.1 j p (by omega) hp]; exact hw.1 _ (by omega))) ?_
      refine wp_iret dX0_shift_62 rfl ?_
      refine sm_ci hq1 ?_
      exact z_sum_congr (fun p hp => by rw [hR1.1 j p (by omega) hp, hRt.1 j p (by omega) hp])
    · rw [z_iv_o (l := 0) (m := 60) (fun z => hX ((z_iv_iff (by decide) (by decide)).mp z))]
      refine wp_if_ne 15 17 rfl rfl dX0_shift_12 (fun c12 => absurd (z_b_eq.mpr (fun z => hX ((z_iv_iff (l := 0) (m := 60) (by decide) (by decide)).mp z))) c12) (fun c12 => ?_)
      refine wp_iconst (-1) 16 rfl dX0_shift_15 (by decide) ?_
      refine wp_iret dX0_shift_16 rfl ?_
      exact sm_ci cq.rf rfl
  · rw [z_ix_no (by omega) hX]
    refine wp_if_eq 8 15 rfl rfl dX0_shift_5 (fun c5 => ?_) (fun c5 => absurd (z_b_eq.mpr hX) c5)
    refine wp_iconst (-1) 16 rfl dX0_shift_15 (by decide) ?_
    refine wp_iret dX0_shift_16 rfl ?_
    exact sm_ci cq.rf rfl
theorem c_without (hA : cA I ρ tp q T w) (x n : Int32) : sm_M G xX0_without (d + 408) [.ref 64, .int x, .int n] I ρ (cPost I ρ (o_without T w x n)) := by
  obtain ⟨hK, hP, hT, hk, ⟨hw, hz⟩, hR⟩ := hA
  show sm_V G xX0_without (d + 408) 0 [.ref 64, .int x, .int n] [] I ρ _
  obtain ⟨h6, h5, h10⟩ := hk.1
  have ht := k_town hK
  have ht2 := k_trial hK
  unfold o_without
  refine wp_aload0 1 rfl dX0_without_0 ?_
  refine wp_iload1 2 rfl dX0_without_1 ?_
  refine wp_Ve1 5 rfl dX0_without_2 kX0_isRound lX0_221 (o1 hK) (nl rfl) (nl rfl) (s_cisRound hK hP hT hk x) ?_
  by_cases hX : ∃ j, j < tx_R T ∧ x = nI j
  · obtain ⟨r, hr, e⟩ := hX
    subst e
    rw [z_ix_n hr (by omega)]
    refine wp_if_eq 8 18 rfl rfl dX0_without_5 (fun c5 => absurd c5 (z_b_ne.mpr ⟨r, hr, rfl⟩)) (fun c5 => ?_)
    refine wp_iload2 9 rfl dX0_without_8 ?_
    refine wp_iconst (nI 1) 10 rfl dX0_without_9 (by decide) ?_
    refine wp_bipush (nI 60) 12 rfl dX0_without_10 (by decide) ?_
    refine wp_Se3 15 rfl dX0_without_12 kX0_isIn lX0_161 (nl rfl) (nl rfl) (s_isIn _ _ _) ?_
    by_cases hX : ∃ j, (1 ≤ j ∧ j ≤ 60) ∧ n = nI j
    · obtain ⟨m, hm, e⟩ := hX
      subst e
      rw [z_iv_n (l := 1) (m := 60) hm (by decide) (by decide)]
      refine wp_if_ne 18 20 rfl rfl dX0_without_15 (fun c15 => ?_) (fun c15 => absurd c15 (z_b_ne.mpr ((z_iv_iff (l := 1) (m := 60) (by decide) (by decide)).mpr ⟨m, hm, rfl⟩)))
      refine wp_aload0 21 rfl dX0_without_20 ?_
      refine wp_getr 24 rfl dX0_without_21 fX0_66_1 (o1 hK) (p1_8 hK) ?_
      refine wp_aload0 25 rfl dX0_without_24 ?_
      refine wp_getr 28 rfl dX0_without_25 fX0_62_1 (o1 hK) (p1_7 hK) ?_
      refine wp_Vv1 31 rfl dX0_without_28 kX5_takes lX0_261 (o6 (k_trial hK)) (nl rfl) (nl rfl) (s_takes ht2 ht (by omega) hR) (fun J0 ρ1 hq9 => ?_)
      obtain ⟨e1, f0, hR0⟩ := hq9
      have e1 := e1.symm
      subst e1
      have hq0 : cq I J0 := cq.of f0 (cs_town (Or.inl rfl))
      have hT0 := hT.kept hq0.T
      have hT := hT0
      have eK : J0 95 6 &&& (nI 1 <<< (nI r &&& 31) ^^^ (-1)) = z_set (fun i => upd w (54 + r) (nI 0) (54 + i) = nI 1) 10 := by
        rw [hR0.2.2.2.1]
        refine z_set_cl _ _ (Nat.le_refl _) (by omega) (fun i hi => ?_) ?_
        · rw [pk_un (by omega)]
        · rw [pk_us]
          decide
      have hRk : tR (sm_u J0 95 6 (J0 95 6 &&& (nI 1 <<< (nI r &&& 31) ^^^ (-1)))) 95 (upd w (54 + r) (nI 0)) (tx_seed T) := by
        refine hR0.own (fun j hj => pk_un (by omega)) ?_ ?_ ?_ ?_
        · rw [pk_us]
          exact eK
        · rw [pk_un (by decide), hR0.2.2.2.2.1]
          exact z_set_congr (fun i hi => by rw [pk_un (by omega)])
        · rw [pk_un (by decide), pk_un (by omega)]
          exact hR0.2.2.2.2.2.1
        · rw [pk_un (by decide)]
          exact hR0.2.2.2.2.2.2
      have hw' := wok_k hw (r := r) (by omega) (Or.inl (rfl : nI 0 = nI 0))
      have hz' : wkT T (upd w (54 + r) (nI 0)) := ⟨fun dd h1 h2 => by rw [pk_un (by omega)]; exact hz.1 dd h1 h2, fun i h1 h2 => by
        by_cases e : i = r
        · rw [e, pk_us]
        · rw [pk_un (by omega)]
          exact hz.2 i h1 h2⟩
      refine wp_aload0 32 rfl dX0_without_31 ?_
      refine wp_getr 35 rfl dX0_without_32 fX0_66_1 (o1 hK) (p1_8 hK) ?_
      refine wp_dup 36 rfl dX0_without_35 rfl ?_
      refine wp_geti 39 rfl dX0_without_36 fX0_279_6 (o6 (k_trial hK)) ?_
      refine wp_iconst (nI 1) 40 rfl dX0_without_39 (by decide) ?_
      refine wp_iload1 41 rfl dX0_without_40 ?_
      refine wp_ishl 42 rfl dX0_without_41 ?_
      refine wp_iconst (-1) 43 rfl dX0_without_42 (by decide) ?_
      refine wp_ixor 44 rfl dX0_without_43 ?_
      refine wp_iand 45 rfl dX0_without_44 ?_
      refine wp_puti 48 rfl dX0_without_45 pX0_279_6 (o6 (k_trial hK)) (⟨rfl, rfl⟩) ?_
      have fk : cf (tWs 95) J0 (sm_u J0 95 6 (J0 95 6 &&& (nI 1 <<< (nI r &&& 31) ^^^ (-1)))) := cf.su (by omega)
      have hqk := hq0.tr9 fk
      have hT := hT.kept (cq.of fk (cs_town (Or.inl rfl))).T
      refine wp_aload0 49 rfl dX0_without_48 ?_
      refine wp_aload0 50 rfl dX0_without_49 ?_
      refine wp_getr 53 rfl dX0_without_50 fX0_66_1 (o1 hK) (p1_8 hK) ?_
      refine wp_iload2 54 rfl dX0_without_53 ?_
      refine wp_aload0 55 rfl dX0_without_54 ?_
      refine wp_getr 58 rfl dX0_without_55 fX0_89_1 (o1 hK) (p1_13 hK) ?_
      refine wp_Vv3 61 rfl dX0_without_58 kX0_runs lX0_289 (o1 hK) (nl rfl) (nl rfl) (s_runs (d := d) hK hP ht2 ⟨by decide, by decide⟩ hRk hw' hz' hT hk (Or.inr ⟨rfl, rfl⟩) m hm.2) (fun J1 ρ1 hq9 => ?_)
      obtain ⟨e1, f1, hR1⟩ := hq9
      have e1 := e1.symm
      subst e1
      have hq1 := hqk.tr9 f1
      have hT := hT.kept (cq.of f1 (cs_town (Or.inl rfl))).T
      obtain ⟨w1, w2⟩ := wok_days (st := nI 1) (l := tx_seed T) hw' hz' hk m
      have hQ := cT_rr hT hr
      have kr := hk.2.2.2.1 r hr
      refine wp_aload0 62 rfl dX0_without_61 ?_
      refine wp_getr 65 rfl dX0_without_62 fX0_66_1 (o1 hK) (p1_8 hK) ?_
      refine wp_aload0 66 rfl dX0_without_65 ?_
      refine wp_getr 69 rfl dX0_without_66 fX0_51_1 (o1 hK) (hP) ?_
      refine wp_aload0 70 rfl dX0_without_69 ?_
      refine wp_getr 73 rfl dX0_without_70 fX0_51_1 (o1 hK) (hP) ?_
      refine wp_getr 76 rfl dX0_without_73 fX0_167_5 (o5 hT) (p5_2 hT) ?_
      refine wp_iload1 77 rfl dX0_without_76 ?_
      refine wp_Ve1 80 rfl dX0_without_77 kJ5_get lX0_173 (o18 (cT_r hT)) (nl rfl) (nl rfl) (s_get (cT_r hT) (hr)) ?_
      refine wp_cast 83 rfl dX0_without_80 caX0_224_17 (o17 (cT_rr hT (hr))) ?_
      refine wp_geti 86 rfl dX0_without_83 fX0_229_17 (o17 (cT_rr hT (hr))) ?_
      rw [hQ.2.2.1]
      refine wp_Ve2 89 rfl dX0_without_86 kX5_known lX0_204 (o6 ht2) (nl rfl) (nl rfl) (s_known' ht2 hR1 w1 hT hk (by omega)) ?_
      refine wp_iret dX0_without_89 rfl ?_
      exact sm_ci hq1 rfl
    · rw [z_iv_o (l := 1) (m := 60) (fun z => hX ((z_iv_iff (by decide) (by decide)).mp z))]
      refine wp_if_ne 18 20 rfl rfl dX0_without_15 (fun c15 => absurd (z_b_eq.mpr (fun z => hX ((z_iv_iff (l := 1) (m := 60) (by decide) (by decide)).mp z))) c15) (fun c15 => ?_)
      refine wp_iconst (-1) 19 rfl dX0_without_18 (by decide) ?_
      refine wp_iret dX0_without_19 rfl ?_
      exact sm_ci cq.rf rfl
  · rw [z_ix_no (by omega) hX]
    refine wp_if_eq 8 18 rfl rfl dX0_without_5 (fun c5 => ?_) (fun c5 => absurd (z_b_eq.mpr hX) c5)
    refine wp_iconst (-1) 19 rfl dX0_without_18 (by decide) ?_
    refine wp_iret dX0_without_19 rfl ?_
    exact sm_ci cq.rf rfl
end D2
