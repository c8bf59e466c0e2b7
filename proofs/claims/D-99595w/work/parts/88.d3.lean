/-! ===== the component: when, alone, changes, rubs, year ===== -/
set_option maxRecDepth 100000
theorem z_first_y {P : Nat → Prop} [DecidablePred P] {k n : Nat} (h0 : 0 < k) (h : P n) : z_first P k n = nI n := by
  cases k with
  | zero => omega
  | succ k => exact if_pos h
theorem z_first_n {P : Nat → Prop} [DecidablePred P] {k n : Nat} (h0 : 0 < k) (h : ¬ P n) : z_first P k n = z_first P (k - 1) (n + 1) := by
  cases k with
  | zero => omega
  | succ k => exact if_neg h
section D3
variable {G : sm_G} {d : Nat} {I : sm_I} {ρ : sm_R} {tp : Nat} {q : tq4} {T : tx} {w : Nat → Int32}
theorem wok_liftN (hw : wok w) (hz : wkT T w) (hk : tok T) {dd c : Nat} (hd : dd < tx_D T) (hc : c < tx_C T) : ∀ n, wok (r_liftN T dd c w n) ∧ wkT T (r_liftN T dd c w n)
  | 0 => ⟨hw, hz⟩
  | n + 1 => by
    have ih := wok_liftN hw hz hk hd hc n
    have h6 := hk.1.1
    exact ⟨wok_lift ih.1 hk (by omega) hc, wkT_lift ih.2 hk hd hc⟩
theorem wok_polN (hw : wok w) (hk : tok T) {dd : Nat} (hd : dd < tx_D T) : ∀ n, wok (r_polN T dd w n)
  | 0 => hw
  | n + 1 => wok_polish (wok_polN hw hk hd n) hk hd
theorem c_when (hA : cA I ρ tp q T w) (x y : Int32) : sm_M G xX0_when (d + 408) [.ref 64, .int x, .int y] I ρ (cPost I ρ (o_when T w x y)) := by
  obtain ⟨hK, hP, hT, hk, ⟨hw, hz⟩, hR⟩ := hA
  show sm_V G xX0_when (d + 408) 0 [.ref 64, .int x, .int y, .retAddr 0] [] I ρ _
  obtain ⟨h6, h5, h10⟩ := hk.1
  have ht := k_town hK
  have ht2 := k_trial hK
  unfold o_when
  refine wp_aload0 1 rfl dX0_when_0 ?_
  refine wp_iload1 2 rfl dX0_when_1 ?_
  refine wp_Ve1 5 rfl dX0_when_2 kX0_isDoor lX0_185 (o1 hK) (nl rfl) (nl rfl) (s_cisDoor hK hP hT hk x) ?_
  by_cases hX : ∃ j, j < tx_D T ∧ x = nI j
  · obtain ⟨j, hj, e⟩ := hX
    subst e
    rw [z_ix_n hj (by omega)]
    refine wp_if_eq 8 16 rfl rfl dX0_when_5 (fun c5 => absurd c5 (z_b_ne.mpr ⟨j, hj, rfl⟩)) (fun c5 => ?_)
    refine wp_aload0 9 rfl dX0_when_8 ?_
    refine wp_iload2 10 rfl dX0_when_9 ?_
    refine wp_Ve1 13 rfl dX0_when_10 kX0_isCaller lX0_212 (o1 hK) (nl rfl) (nl rfl) (s_cisCaller hK hP hT hk y) ?_
    by_cases hX : ∃ j, j < tx_C T ∧ y = nI j
    · obtain ⟨c, hc, e⟩ := hX
      subst e
      rw [z_ix_n hc (by omega)]
      refine wp_if_ne 16 18 rfl rfl dX0_when_13 (fun c13 => ?_) (fun c13 => absurd c13 (z_b_ne.mpr ⟨c, hc, rfl⟩))
      refine wp_aload0 19 rfl dX0_when_18 ?_
      refine wp_getr 22 rfl dX0_when_19 fX0_66_1 (o1 hK) (p1_8 hK) ?_
      refine wp_aload0 23 rfl dX0_when_22 ?_
      refine wp_getr 26 rfl dX0_when_23 fX0_62_1 (o1 hK) (p1_7 hK) ?_
      refine wp_Vv1 29 rfl dX0_when_26 kX5_takes lX0_261 (o6 (k_trial hK)) (nl rfl) (nl rfl) (s_takes ht2 ht (by omega) hR) (fun J0 ρ1 hq9 => ?_)
      obtain ⟨e1, f0, hR0⟩ := hq9
      have e1 := e1.symm
      subst e1
      have hq0 : cq I J0 := cq.of f0 (cs_town (Or.inl rfl))
      have hT0 := hT.kept hq0.T
      refine wp_iconst (nI 0) 30 rfl dX0_when_29 (by decide) ?_
      refine wp_istore3 31 rfl dX0_when_30 (by decide) rfl ?_
      have hT9 := hT
      refine sm_for (P := fun p => ∀ J : sm_I, cq I J → tR J 95 (r_still T w p) (tx_seed T) → sm_V G xX0_when (d + 408) 31 [.ref 64, .int (nI j), .int (nI c), .int (nI p)] [] J ρ (cPost I ρ (z_first (fun n => r_known T (r_still T w n) j = nI c) (61 - p) p))) 0 61 (nl rfl) ?_ (fun p _ hp ih => ?_) J0 hq0 hR0
      · intro J hJ hRJ
        refine wp_iload3 32 rfl dX0_when_31 ?_
        refine wp_bipush (nI 60) 34 rfl dX0_when_32 (by decide) ?_
        refine wp_icmp_gt 37 76 rfl rfl dX0_when_34 (fun c34 => ?_) (fun c34 => absurd (by decide) c34)
        refine wp_bipush (-2) 78 rfl dX0_when_76 (by decide) ?_
        refine wp_iret dX0_when_78 rfl ?_
        exact sm_ci hJ rfl
      · intro J hJ hRJ
        have hT := hT9.kept hJ.T
        obtain ⟨w1, w2⟩ := wok_days (st := nI 1) (l := tx_seed T) hw hz hk p
        refine wp_iload3 32 rfl dX0_when_31 ?_
        refine wp_bipush (nI 60) 34 rfl dX0_when_32 (by decide) ?_
        refine wp_icmp_gt 37 76 rfl rfl dX0_when_34 (fun c34 => absurd c34 (nI_nlt (by omega) (by decide))) (fun c34 => ?_)
        refine wp_aload0 38 rfl dX0_when_37 ?_
        refine wp_getr 41 rfl dX0_when_38 fX0_66_1 (o1 hK) (p1_8 hK) ?_
        refine wp_aload0 42 rfl dX0_when_41 ?_
        refine wp_getr 45 rfl dX0_when_42 fX0_51_1 (o1 hK) (hP) ?_
        refine wp_iload1 46 rfl dX0_when_45 ?_
        refine wp_Ve2 49 rfl dX0_when_46 kX5_known lX0_204 (o6 (k_trial hK)) (nl rfl) (nl rfl) (s_known' ht2 hRJ w1 hT hk (by omega)) ?_
        refine wp_iload2 50 rfl dX0_when_49 ?_
        refine wp_icmp_ne 53 55 rfl rfl dX0_when_50 (fun c50 => ?_) (fun c50 => ?_)
        · rw [z_first_n (by omega) c50]
          refine wp_aload0 56 rfl dX0_when_55 ?_
          refine wp_getr 59 rfl dX0_when_56 fX0_66_1 (o1 hK) (p1_8 hK) ?_
          refine wp_aload0 60 rfl dX0_when_59 ?_
          refine wp_getr 63 rfl dX0_when_60 fX0_51_1 (o1 hK) (hP) ?_
          refine wp_aload0 64 rfl dX0_when_63 ?_
          refine wp_getr 67 rfl dX0_when_64 fX0_89_1 (o1 hK) (p1_13 hK) ?_
          refine wp_Vv2 70 rfl dX0_when_67 kX5_goesBy lX0_282 (o6 (k_trial hK)) (nl rfl) (nl rfl) (s_goesBy (d := d + 1) hK ht2 ⟨by decide, by decide⟩ hRJ w1 w2 hT hk (Or.inr ⟨rfl, rfl⟩)) (fun J1 ρ1 hq9 => ?_)
          obtain ⟨e1, f1, hR1⟩ := hq9
          have e1 := e1.symm
          subst e1
          refine wp_iincN3 73 rfl dX0_when_70 (by decide) rfl ?_
          refine wp_goto 31 rfl dX0_when_73 ?_
          have := ih J1 (hJ.tr9 f1) hR1
          rw [show 61 - (p + 1) = 61 - p - 1 by omega] at this
          exact this
        · rw [z_first_y (by omega) c50]
          refine wp_iload3 54 rfl dX0_when_53 ?_
          refine wp_iret dX0_when_54 rfl ?_
          exact sm_ci hJ rfl
    · rw [z_ix_no (by omega) hX]
      refine wp_if_ne 16 18 rfl rfl dX0_when_13 (fun c13 => absurd (z_b_eq.mpr hX) c13) (fun c13 => ?_)
      refine wp_iconst (-1) 17 rfl dX0_when_16 (by decide) ?_
      refine wp_iret dX0_when_17 rfl ?_
      exact sm_ci cq.rf rfl
  · rw [z_ix_no (by omega) hX]
    refine wp_if_eq 8 16 rfl rfl dX0_when_5 (fun c5 => ?_) (fun c5 => absurd (z_b_eq.mpr hX) c5)
    refine wp_iconst (-1) 17 rfl dX0_when_16 (by decide) ?_
    refine wp_iret dX0_when_17 rfl ?_
    exact sm_ci cq.rf rfl
theorem c_alone (hA : cA I ρ tp q T w) (x y : Int32) : sm_M G xX0_alone (d + 408) [.ref 64, .int x, .int y] I ρ (cPost I ρ (o_alone T w x y)) := by
  obtain ⟨hK, hP, hT, hk, ⟨hw, hz⟩, hR⟩ := hA
  show sm_V G xX0_alone (d + 408) 0 [.ref 64, .int x, .int y, .retAddr 0] [] I ρ _
  obtain ⟨h6, h5, h10⟩ := hk.1
  have ht := k_town hK
  have ht2 := k_trial hK
  unfold o_alone
  refine wp_aload0 1 rfl dX0_alone_0 ?_
  refine wp_iload1 2 rfl dX0_alone_1 ?_
  refine wp_Ve1 5 rfl dX0_alone_2 kX0_isDoor lX0_185 (o1 hK) (nl rfl) (nl rfl) (s_cisDoor hK hP hT hk x) ?_
  by_cases hX : ∃ j, j < tx_D T ∧ x = nI j
  · obtain ⟨j, hj, e⟩ := hX
    subst e
    rw [z_ix_n hj (by omega)]
    refine wp_if_eq 8 16 rfl rfl dX0_alone_5 (fun c5 => absurd c5 (z_b_ne.mpr ⟨j, hj, rfl⟩)) (fun c5 => ?_)
    refine wp_aload0 9 rfl dX0_alone_8 ?_
    refine wp_iload2 10 rfl dX0_alone_9 ?_
    refine wp_Ve1 13 rfl dX0_alone_10 kX0_isCaller lX0_212 (o1 hK) (nl rfl) (nl rfl) (s_cisCaller hK hP hT hk y) ?_
    by_cases hX : ∃ j, j < tx_C T ∧ y = nI j
    · obtain ⟨c, hc, e⟩ := hX
      subst e
      rw [z_ix_n hc (by omega)]
      refine wp_if_ne 16 18 rfl rfl dX0_alone_13 (fun c13 => ?_) (fun c13 => absurd c13 (z_b_ne.mpr ⟨c, hc, rfl⟩))
      refine wp_aload0 19 rfl dX0_alone_18 ?_
      refine wp_getr 22 rfl dX0_alone_19 fX0_66_1 (o1 hK) (p1_8 hK) ?_
      refine wp_aload0 23 rfl dX0_alone_22 ?_
      refine wp_getr 26 rfl dX0_alone_23 fX0_62_1 (o1 hK) (p1_7 hK) ?_
      refine wp_Vv1 29 rfl dX0_alone_26 kX5_takes lX0_261 (o6 (k_trial hK)) (nl rfl) (nl rfl) (s_takes ht2 ht (by omega) hR) (fun J0 ρ1 hq9 => ?_)
      obtain ⟨e1, f0, hR0⟩ := hq9
      have e1 := e1.symm
      subst e1
      have hq0 : cq I J0 := cq.of f0 (cs_town (Or.inl rfl))
      have hT0 := hT.kept hq0.T
      refine wp_iconst (nI 0) 30 rfl dX0_alone_29 (by decide) ?_
      refine wp_istore3 31 rfl dX0_alone_30 (by decide) rfl ?_
      have hT9 := hT
      refine sm_for (P := fun p => ∀ J : sm_I, cq I J → tR J 95 (r_liftN T j c w p) (tx_seed T) → sm_V G xX0_alone (d + 408) 31 [.ref 64, .int (nI j), .int (nI c), .int (nI p)] [] J ρ (cPost I ρ (z_first (fun n => r_known T (r_liftN T j c w n) j = nI c) (61 - p) p))) 0 61 (nl rfl) ?_ (fun p _ hp ih => ?_) J0 hq0 hR0
      · intro J hJ hRJ
        refine wp_iload3 32 rfl dX0_alone_31 ?_
        refine wp_bipush (nI 60) 34 rfl dX0_alone_32 (by decide) ?_
        refine wp_icmp_gt 37 74 rfl rfl dX0_alone_34 (fun c34 => ?_) (fun c34 => absurd (by decide) c34)
        refine wp_bipush (-2) 76 rfl dX0_alone_74 (by decide) ?_
        refine wp_iret dX0_alone_76 rfl ?_
        exact sm_ci hJ rfl
      · intro J hJ hRJ
        have hT := hT9.kept hJ.T
        obtain ⟨w1, w2⟩ := wok_liftN hw hz hk hj hc p
        refine wp_iload3 32 rfl dX0_alone_31 ?_
        refine wp_bipush (nI 60) 34 rfl dX0_alone_32 (by decide) ?_
        refine wp_icmp_gt 37 74 rfl rfl dX0_alone_34 (fun c34 => absurd c34 (nI_nlt (by omega) (by decide))) (fun c34 => ?_)
        refine wp_aload0 38 rfl dX0_alone_37 ?_
        refine wp_getr 41 rfl dX0_alone_38 fX0_66_1 (o1 hK) (p1_8 hK) ?_
        refine wp_aload0 42 rfl dX0_alone_41 ?_
        refine wp_getr 45 rfl dX0_alone_42 fX0_51_1 (o1 hK) (hP) ?_
        refine wp_iload1 46 rfl dX0_alone_45 ?_
        refine wp_Ve2 49 rfl dX0_alone_46 kX5_known lX0_204 (o6 (k_trial hK)) (nl rfl) (nl rfl) (s_known' ht2 hRJ w1 hT hk (by omega)) ?_
        refine wp_iload2 50 rfl dX0_alone_49 ?_
        refine wp_icmp_ne 53 55 rfl rfl dX0_alone_50 (fun c50 => ?_) (fun c50 => ?_)
        · rw [z_first_n (by omega) c50]
          refine wp_aload0 56 rfl dX0_alone_55 ?_
          refine wp_getr 59 rfl dX0_alone_56 fX0_66_1 (o1 hK) (p1_8 hK) ?_
          refine wp_aload0 60 rfl dX0_alone_59 ?_
          refine wp_getr 63 rfl dX0_alone_60 fX0_51_1 (o1 hK) (hP) ?_
          refine wp_iload1 64 rfl dX0_alone_63 ?_
          refine wp_iload2 65 rfl dX0_alone_64 ?_
          refine wp_Vv3 68 rfl dX0_alone_65 kX5_lift lX0_271 (o6 (k_trial hK)) (nl rfl) (nl rfl) (s_clift (d := d + 2) ht2 ⟨by decide, by decide⟩ hRJ w1 hT hk (by omega) hc) (fun J1 ρ1 hq9 => ?_)
          obtain ⟨e1, f1, hR1⟩ := hq9
          have e1 := e1.symm
          subst e1
          refine wp_iincN3 71 rfl dX0_alone_68 (by decide) rfl ?_
          refine wp_goto 31 rfl dX0_alone_71 ?_
          have := ih J1 (hJ.tr9 f1) hR1
          rw [show 61 - (p + 1) = 61 - p - 1 by omega] at this
          exact this
        · rw [z_first_y (by omega) c50]
          refine wp_iload3 54 rfl dX0_alone_53 ?_
          refine wp_iret dX0_alone_54 rfl ?_
          exact sm_ci hJ rfl
    · rw [z_ix_no (by omega) hX]
      refine wp_if_ne 16 18 rfl rfl dX0_alone_13 (fun c13 => absurd (z_b_eq.mpr hX) c13) (fun c13 => ?_)
      refine wp_iconst (-1) 17 rfl dX0_alone_16 (by decide) ?_
      refine wp_iret dX0_alone_17 rfl ?_
      exact sm_ci cq.rf rfl
  · rw [z_ix_no (by omega) hX]
    refine wp_if_eq 8 16 rfl rfl dX0_alone_5 (fun c5 => ?_) (fun c5 => absurd (z_b_eq.mpr hX) c5)
    refine wp_iconst (-1) 17 rfl dX0_alone_16 (by decide) ?_
    refine wp_iret dX0_alone_17 rfl ?_
    exact sm_ci cq.rf rfl
theorem c_changes (hA : cA I ρ tp q T w) (x : Int32) : sm_M G xX0_changes (d + 408) [.ref 64, .int x] I ρ (cPost I ρ (o_changes T w x)) := by
  obtain ⟨hK, hP, hT, hk, ⟨hw, hz⟩, hR⟩ := hA
  show sm_V G xX0_changes (d + 408) 0 [.ref 64, .int x, .retAddr 0, .retAddr 0] [] I ρ _
  obtain ⟨h6, h5, h10⟩ := hk.1
  have ht := k_town hK
  have ht2 := k_trial hK
  unfold o_changes
  refine wp_aload0 1 rfl dX0_changes_0 ?_
  refine wp_iload1 2 rfl dX0_changes_1 ?_
  refine wp_Ve1 5 rfl dX0_changes_2 kX0_isDoor lX0_185 (o1 hK) (nl rfl) (nl rfl) (s_cisDoor hK hP hT hk x) ?_
  by_cases hX : ∃ j, j < tx_D T ∧ x = nI j
  · obtain ⟨j, hj, e⟩ := hX
    subst e
    rw [z_ix_n hj (by omega)]
    refine wp_if_ne 8 10 rfl rfl dX0_changes_5 (fun c5 => ?_) (fun c5 => absurd c5 (z_b_ne.mpr ⟨j, hj, rfl⟩))
    refine wp_aload0 11 rfl dX0_changes_10 ?_
    refine wp_getr 14 rfl dX0_changes_11 fX0_62_1 (o1 hK) (p1_7 hK) ?_
    refine wp_aload0 15 rfl dX0_changes_14 ?_
    refine wp_getr 18 rfl dX0_changes_15 fX0_51_1 (o1 hK) (hP) ?_
    refine wp_iload1 19 rfl dX0_changes_18 ?_
    refine wp_Ve2 22 rfl dX0_changes_19 kX5_known lX0_204 (o6 (k_town hK)) (nl rfl) (nl rfl) (s_known' ht hR hw hT hk (by omega)) ?_
    refine wp_istore2 23 rfl dX0_changes_22 (by decide) rfl ?_
    refine wp_aload0 24 rfl dX0_changes_23 ?_
    refine wp_getr 27 rfl dX0_changes_24 fX0_66_1 (o1 hK) (p1_8 hK) ?_
    refine wp_aload0 28 rfl dX0_changes_27 ?_
    refine wp_getr 31 rfl dX0_changes_28 fX0_62_1 (o1 hK) (p1_7 hK) ?_
    refine wp_Vv1 34 rfl dX0_changes_31 kX5_takes lX0_261 (o6 (k_trial hK)) (nl rfl) (nl rfl) (s_takes ht2 ht (by omega) hR) (fun J0 ρ1 hq9 => ?_)
    obtain ⟨e1, f0, hR0⟩ := hq9
    have e1 := e1.symm
    subst e1
    have hq0 : cq I J0 := cq.of f0 (cs_town (Or.inl rfl))
    have hT0 := hT.kept hq0.T
    refine wp_iconst (nI 1) 35 rfl dX0_changes_34 (by decide) ?_
    refine wp_istore3 36 rfl dX0_changes_35 (by decide) rfl ?_
    have hT9 := hT
    refine sm_for (P := fun p => ∀ J : sm_I, cq I J → tR J 95 (r_still T w p) (tx_seed T) → sm_V G xX0_changes (d + 408) 36 [.ref 64, .int (nI j), .int (r_known T w j), .int (nI (p + 1))] [] J ρ (cPost I ρ (z_first (fun n => ¬ r_known T (r_still T w n) j = r_known T w j) (60 - p) (p + 1)))) 0 60 (nl rfl) ?_ (fun p _ hp ih => ?_) J0 hq0 hR0
    · intro J hJ hRJ
      refine wp_iload3 37 rfl dX0_changes_36 ?_
      refine wp_bipush (nI 60) 39 rfl dX0_changes_37 (by decide) ?_
      refine wp_icmp_gt 42 81 rfl rfl dX0_changes_39 (fun c39 => ?_) (fun c39 => absurd (by decide) c39)
      refine wp_bipush (-2) 83 rfl dX0_changes_81 (by decide) ?_
      refine wp_iret dX0_changes_83 rfl ?_
      exact sm_ci hJ rfl
    · intro J hJ hRJ
      have hT := hT9.kept hJ.T
      obtain ⟨w1, w2⟩ := wok_days (st := nI 1) (l := tx_seed T) hw hz hk p
      obtain ⟨w3, w4⟩ := wok_days (st := nI 1) (l := tx_seed T) hw hz hk (p + 1)
      refine wp_iload3 37 rfl dX0_changes_36 ?_
      refine wp_bipush (nI 60) 39 rfl dX0_changes_37 (by decide) ?_
      refine wp_icmp_gt 42 81 rfl rfl dX0_changes_39 (fun c39 => absurd c39 (nI_nlt (by omega) (by decide))) (fun c39 => ?_)
      refine wp_aload0 43 rfl dX0_changes_42 ?_
      refine wp_getr 46 rfl dX0_changes_43 fX0_66_1 (o1 hK) (p1_8 hK) ?_
      refine wp_aload0 47 rfl dX0_changes_46 ?_
      refine wp_getr 50 rfl dX0_changes_47 fX0_51_1 (o1 hK) (hP) ?_
      refine wp_aload0 51 rfl dX0_changes_50 ?_
      refine wp_getr 54 rfl dX0_changes_51 fX0_89_1 (o1 hK) (p1_13 hK) ?_
      refine wp_Vv2 57 rfl dX0_changes_54 kX5_goesBy lX0_282 (o6 (k_trial hK)) (nl rfl) (nl rfl) (s_goesBy (d := d + 1) hK ht2 ⟨by decide, by decide⟩ hRJ w1 w2 hT hk (Or.inr ⟨rfl, rfl⟩)) (fun J1 ρ1 hq9 => ?_)
      obtain ⟨e1, f1, hR1⟩ := hq9
      have e1 := e1.symm
      subst e1
      have hJ1 := hJ.tr9 f1
      have hT := hT9.kept hJ1.T
      have hR1 : tR J1 95 (r_still T w (p + 1)) (tx_seed T) := hR1
      refine wp_aload0 58 rfl dX0_changes_57 ?_
      refine wp_getr 61 rfl dX0_changes_58 fX0_66_1 (o1 hK) (p1_8 hK) ?_
      refine wp_aload0 62 rfl dX0_changes_61 ?_
      refine wp_getr 65 rfl dX0_changes_62 fX0_51_1 (o1 hK) (hP) ?_
      refine wp_iload1 66 rfl dX0_changes_65 ?_
      refine wp_Ve2 69 rfl dX0_changes_66 kX5_known lX0_204 (o6 (k_trial hK)) (nl rfl) (nl rfl) (s_known' ht2 hR1 w3 hT hk (by omega)) ?_
      refine wp_iload2 70 rfl dX0_changes_69 ?_
      refine wp_icmp_eq 73 75 rfl rfl dX0_changes_70 (fun c70 => ?_) (fun c70 => ?_)
      · rw [z_first_n (by omega) (fun z => z c70)]
        refine wp_iincN3 78 rfl dX0_changes_75 (by decide) rfl ?_
        refine wp_goto 36 rfl dX0_changes_78 ?_
        have := ih J1 hJ1 hR1
        rw [show 60 - (p + 1) = 60 - p - 1 by omega] at this
        exact this
      · rw [z_first_y (by omega) c70]
        refine wp_iload3 74 rfl dX0_changes_73 ?_
        refine wp_iret dX0_changes_74 rfl ?_
        exact sm_ci hJ1 rfl
  · rw [z_ix_no (by omega) hX]
    refine wp_if_ne 8 10 rfl rfl dX0_changes_5 (fun c5 => absurd (z_b_eq.mpr hX) c5) (fun c5 => ?_)
    refine wp_iconst (-1) 9 rfl dX0_changes_8 (by decide) ?_
    refine wp_iret dX0_changes_9 rfl ?_
    exact sm_ci cq.rf rfl
theorem c_rubs (hA : cA I ρ tp q T w) (x : Int32) : sm_M G xX0_rubs (d + 408) [.ref 64, .int x] I ρ (cPost I ρ (o_rubs T w x)) := by
  obtain ⟨hK, hP, hT, hk, ⟨hw, hz⟩, hR⟩ := hA
  show sm_V G xX0_rubs (d + 408) 0 [.ref 64, .int x, .retAddr 0, .retAddr 0] [] I ρ _
  obtain ⟨h6, h5, h10⟩ := hk.1
  have ht := k_town hK
  have ht2 := k_trial hK
  unfold o_rubs
  refine wp_aload0 1 rfl dX0_rubs_0 ?_
  refine wp_iload1 2 rfl dX0_rubs_1 ?_
  refine wp_Ve1 5 rfl dX0_rubs_2 kX0_isDoor lX0_185 (o1 hK) (nl rfl) (nl rfl) (s_cisDoor hK hP hT hk x) ?_
  by_cases hX : ∃ j, j < tx_D T ∧ x = nI j
  · obtain ⟨j, hj, e⟩ := hX
    subst e
    rw [z_ix_n hj (by omega)]
    refine wp_if_ne 8 10 rfl rfl dX0_rubs_5 (fun c5 => ?_) (fun c5 => absurd c5 (z_b_ne.mpr ⟨j, hj, rfl⟩))
    refine wp_aload0 11 rfl dX0_rubs_10 ?_
    refine wp_getr 14 rfl dX0_rubs_11 fX0_62_1 (o1 hK) (p1_7 hK) ?_
    refine wp_aload0 15 rfl dX0_rubs_14 ?_
    refine wp_getr 18 rfl dX0_rubs_15 fX0_51_1 (o1 hK) (hP) ?_
    refine wp_iload1 19 rfl dX0_rubs_18 ?_
    refine wp_Ve2 22 rfl dX0_rubs_19 kX5_known lX0_204 (o6 (k_town hK)) (nl rfl) (nl rfl) (s_known' ht hR hw hT hk (by omega)) ?_
    refine wp_istore2 23 rfl dX0_rubs_22 (by decide) rfl ?_
    refine wp_aload0 24 rfl dX0_rubs_23 ?_
    refine wp_getr 27 rfl dX0_rubs_24 fX0_66_1 (o1 hK) (p1_8 hK) ?_
    refine wp_aload0 28 rfl dX0_rubs_27 ?_
    refine wp_getr 31 rfl dX0_rubs_28 fX0_62_1 (o1 hK) (p1_7 hK) ?_
    refine wp_Vv1 34 rfl dX0_rubs_31 kX5_takes lX0_261 (o6 (k_trial hK)) (nl rfl) (nl rfl) (s_takes ht2 ht (by omega) hR) (fun J0 ρ1 hq9 => ?_)
    obtain ⟨e1, f0, hR0⟩ := hq9
    have e1 := e1.symm
    subst e1
    have hq0 : cq I J0 := cq.of f0 (cs_town (Or.inl rfl))
    have hT0 := hT.kept hq0.T
    have hT9 := hT
    show sm_V G xX0_rubs (d + 408) 34 _ [] J0 ρ (cPost I ρ (if r_known T w j < 0 then -2 else z_first (fun n => ¬ r_known T (r_polN T j w n) j = r_known T w j) 10 1))
    by_cases hneg : r_known T w j < 0
    · rw [if_pos hneg]
      refine wp_iconst (nI 1) 35 rfl dX0_rubs_34 (by decide) ?_
      refine wp_istore3 36 rfl dX0_rubs_35 (by decide) rfl ?_
      refine wp_iload3 37 rfl dX0_rubs_36 ?_
      refine wp_bipush (nI 10) 39 rfl dX0_rubs_37 (by decide) ?_
      refine wp_icmp_gt 42 82 rfl rfl dX0_rubs_39 (fun c39 => absurd c39 (nI_nlt (a := 10) (by decide) (by decide))) (fun c39 => ?_)
      refine wp_iload2 43 rfl dX0_rubs_42 ?_
      refine wp_if_lt 46 82 rfl rfl dX0_rubs_43 (fun c43 => ?_) (fun c43 => absurd (hneg) c43)
      refine wp_bipush (-2) 84 rfl dX0_rubs_82 (by decide) ?_
      refine wp_iret dX0_rubs_84 rfl ?_
      exact sm_ci hq0 rfl
    · rw [if_neg hneg]
      refine wp_iconst (nI 1) 35 rfl dX0_rubs_34 (by decide) ?_
      refine wp_istore3 36 rfl dX0_rubs_35 (by decide) rfl ?_
      refine sm_for (P := fun p => ∀ J : sm_I, cq I J → tR J 95 (r_polN T j w p) (tx_seed T) → sm_V G xX0_rubs (d + 408) 36 [.ref 64, .int (nI j), .int (r_known T w j), .int (nI (p + 1))] [] J ρ (cPost I ρ (z_first (fun n => ¬ r_known T (r_polN T j w n) j = r_known T w j) (10 - p) (p + 1)))) 0 10 (nl rfl) ?_ (fun p _ hp ih => ?_) J0 hq0 hR0
      · intro J hJ hRJ
        refine wp_iload3 37 rfl dX0_rubs_36 ?_
        refine wp_bipush (nI 10) 39 rfl dX0_rubs_37 (by decide) ?_
        refine wp_icmp_gt 42 82 rfl rfl dX0_rubs_39 (fun c39 => ?_) (fun c39 => absurd (by decide) c39)
        refine wp_bipush (-2) 84 rfl dX0_rubs_82 (by decide) ?_
        refine wp_iret dX0_rubs_84 rfl ?_
        exact sm_ci hJ rfl
      · intro J hJ hRJ
        have hT := hT9.kept hJ.T
        have w1 := wok_polN hw hk hj p
        have w3 := wok_polN hw hk hj (p + 1)
        refine wp_iload3 37 rfl dX0_rubs_36 ?_
        refine wp_bipush (nI 10) 39 rfl dX0_rubs_37 (by decide) ?_
        refine wp_icmp_gt 42 82 rfl rfl dX0_rubs_39 (fun c39 => absurd c39 (nI_nlt (by omega) (by decide))) (fun c39 => ?_)
        refine wp_iload2 43 rfl dX0_rubs_42 ?_
        refine wp_if_lt 46 82 rfl rfl dX0_rubs_43 (fun c43 => absurd c43 (hneg)) (fun c43 => ?_)
        refine wp_aload0 47 rfl dX0_rubs_46 ?_
        refine wp_getr 50 rfl dX0_rubs_47 fX0_66_1 (o1 hK) (p1_8 hK) ?_
        refine wp_aload0 51 rfl dX0_rubs_50 ?_
        refine wp_getr 54 rfl dX0_rubs_51 fX0_51_1 (o1 hK) (hP) ?_
        refine wp_iload1 55 rfl dX0_rubs_54 ?_
        refine wp_Vv2 58 rfl dX0_rubs_55 kX5_polish lX0_275 (o6 (k_trial hK)) (nl rfl) (nl rfl) (s_cpolish (d := d + 404) ht2 ⟨by decide, by decide⟩ hRJ w1 hT hk hj) (fun J1 ρ1 hq9 => ?_)
        obtain ⟨e1, f1, hR1⟩ := hq9
        have e1 := e1.symm
        subst e1
        have hJ1 := hJ.tr9 f1
        have hT := hT9.kept hJ1.T
        have hR1 : tR J1 95 (r_polN T j w (p + 1)) (tx_seed T) := hR1
        refine wp_aload0 59 rfl dX0_rubs_58 ?_
        refine wp_getr 62 rfl dX0_rubs_59 fX0_66_1 (o1 hK) (p1_8 hK) ?_
        refine wp_aload0 63 rfl dX0_rubs_62 ?_
        refine wp_getr 66 rfl dX0_rubs_63 fX0_51_1 (o1 hK) (hP) ?_
        refine wp_iload1 67 rfl dX0_rubs_66 ?_
        refine wp_Ve2 70 rfl dX0_rubs_67 kX5_known lX0_204 (o6 (k_trial hK)) (nl rfl) (nl rfl) (s_known' ht2 hR1 w3 hT hk (by omega)) ?_
        refine wp_iload2 71 rfl dX0_rubs_70 ?_
        refine wp_icmp_eq 74 76 rfl rfl dX0_rubs_71 (fun c71 => ?_) (fun c71 => ?_)
        · rw [z_first_n (by omega) (fun z => z c71)]
          refine wp_iincN3 79 rfl dX0_rubs_76 (by decide) rfl ?_
          refine wp_goto 36 rfl dX0_rubs_79 ?_
          have := ih J1 hJ1 hR1
          rw [show 10 - (p + 1) = 10 - p - 1 by omega] at this
          exact this
        · rw [z_first_y (by omega) c71]
          refine wp_iload3 75 rfl dX0_rubs_74 ?_
          refine wp_iret dX0_rubs_75 rfl ?_
          exact sm_ci hJ1 rfl
  · rw [z_ix_no (by omega) hX]
    refine wp_if_ne 8 10 rfl rfl dX0_rubs_5 (fun c5 => absurd (z_b_eq.mpr hX) c5) (fun c5 => ?_)
    refine wp_iconst (-1) 9 rfl dX0_rubs_8 (by decide) ?_
    refine wp_iret dX0_rubs_9 rfl ?_
    exact sm_ci cq.rf rfl
theorem c_year (hA : cA I ρ tp q T w) (x y n s : Int32) : sm_M G xX0_year (d + 408) [.ref 64, .int x, .int y, .int n, .int s] I ρ (cPost I ρ (o_year T w x y n s)) := by
  obtain ⟨hK, hP, hT, hk, ⟨hw, hz⟩, hR⟩ := hA
  show sm_V G xX0_year (d + 408) 0 [.ref 64, .int x, .int y, .int n, .int s, .retAddr 0, .retAddr 0] [] I ρ _
  obtain ⟨h6, h5, h10⟩ := hk.1
  have ht := k_town hK
  have ht2 := k_trial hK
  unfold o_year
  refine wp_aload0 1 rfl dX0_year_0 ?_
  refine wp_iload1 2 rfl dX0_year_1 ?_
  refine wp_Ve1 5 rfl dX0_year_2 kX0_isDoor lX0_185 (o1 hK) (nl rfl) (nl rfl) (s_cisDoor hK hP hT hk x) ?_
  by_cases hX : ∃ j, j < tx_D T ∧ x = nI j
  · obtain ⟨j, hj, e⟩ := hX
    subst e
    rw [z_ix_n hj (by omega)]
    refine wp_if_eq 8 34 rfl rfl dX0_year_5 (fun c5 => absurd c5 (z_b_ne.mpr ⟨j, hj, rfl⟩)) (fun c5 => ?_)
    refine wp_aload0 9 rfl dX0_year_8 ?_
    refine wp_iload2 10 rfl dX0_year_9 ?_
    refine wp_Ve1 13 rfl dX0_year_10 kX0_isCaller lX0_212 (o1 hK) (nl rfl) (nl rfl) (s_cisCaller hK hP hT hk y) ?_
    by_cases hX : ∃ j, j < tx_C T ∧ y = nI j
    · obtain ⟨c, hc, e⟩ := hX
      subst e
      rw [z_ix_n hc (by omega)]
      refine wp_if_eq 16 34 rfl rfl dX0_year_13 (fun c13 => absurd c13 (z_b_ne.mpr ⟨c, hc, rfl⟩)) (fun c13 => ?_)
      refine wp_iload3 17 rfl dX0_year_16 ?_
      refine wp_Se1 20 rfl dX0_year_17 kX0_isAhead lX0_286 (nl rfl) (nl rfl) (s_isAhead n) ?_
      by_cases hX : ∃ j, (0 ≤ j ∧ j ≤ 60) ∧ n = nI j
      · obtain ⟨m, hm, e⟩ := hX
        subst e
        rw [z_iv_n (l := 0) (m := 60) hm (by decide) (by decide)]
        refine wp_if_eq 23 34 rfl rfl dX0_year_20 (fun c20 => absurd c20 (z_b_ne.mpr ((z_iv_iff (l := 0) (m := 60) (by decide) (by decide)).mpr ⟨m, hm, rfl⟩))) (fun c20 => ?_)
        refine wp_iload4 25 rfl dX0_year_23 ?_
        refine wp_iconst (nI 1) 26 rfl dX0_year_25 (by decide) ?_
        refine wp_bipush (nI 20) 28 rfl dX0_year_26 (by decide) ?_
        refine wp_Se3 31 rfl dX0_year_28 kX0_isIn lX0_161 (nl rfl) (nl rfl) (s_isIn _ _ _) ?_
        by_cases hX : ∃ j, (1 ≤ j ∧ j ≤ 20) ∧ s = nI j
        · obtain ⟨sd, hsd, e⟩ := hX
          subst e
          rw [z_iv_n (l := 1) (m := 20) hsd (by decide) (by decide)]
          refine wp_if_ne 34 36 rfl rfl dX0_year_31 (fun c31 => ?_) (fun c31 => absurd c31 (z_b_ne.mpr ((z_iv_iff (l := 1) (m := 20) (by decide) (by decide)).mpr ⟨sd, hsd, rfl⟩)))
          refine wp_iconst (nI 0) 37 rfl dX0_year_36 (by decide) ?_
          refine wp_istore5 39 rfl dX0_year_37 (by decide) rfl ?_
          refine wp_iconst (nI 0) 40 rfl dX0_year_39 (by decide) ?_
          refine wp_istore6 42 rfl dX0_year_40 (by decide) rfl ?_
          have hT9 := hT
          have hR9 := hR
          refine sm_for (P := fun p => ∀ J : sm_I, cq I J → sm_V G xX0_year (d + 408) 42 [.ref 64, .int (nI j), .int (nI c), .int (nI m), .int (nI sd), .int (z_sum (fun k => if r_known T (r_days T (nI 0) (tx_seed T + nI k) w m) j = nI c then nI 1 else nI 0) p), .int (nI p)] [] J ρ (cPost I ρ (z_sum (fun k => if r_known T (r_days T (nI 0) (tx_seed T + nI k) w m) j = nI c then nI 1 else nI 0) sd))) 0 sd (Nat.zero_le _) ?_ (fun p _ hp ih => ?_) I cq.rf
          · intro J hJ
            refine wp_iload6 44 rfl dX0_year_42 ?_
            refine wp_iload4 46 rfl dX0_year_44 ?_
            refine wp_icmp_ge 49 122 rfl rfl dX0_year_46 (fun c46 => ?_) (fun c46 => absurd (nI_le (Nat.le_refl _) (by omega)) c46)
            refine wp_iload5 124 rfl dX0_year_122 ?_
            refine wp_iret dX0_year_124 rfl ?_
            exact sm_ci hJ rfl
          · intro J hJ
            obtain ⟨-, -, hT, -, -, hR⟩ := cA.q (I1 := J) ⟨hK, hP, hT9, hk, ⟨hw, hz⟩, hR9⟩ hJ
            refine wp_iload6 44 rfl dX0_year_42 ?_
            refine wp_iload4 46 rfl dX0_year_44 ?_
            refine wp_icmp_ge 49 122 rfl rfl dX0_year_46 (fun c46 => absurd c46 (nI_ge hp (by omega))) (fun c46 => ?_)
            refine wp_aload0 50 rfl dX0_year_49 ?_
            refine wp_getr 53 rfl dX0_year_50 fX0_66_1 (o1 hK) (p1_8 hK) ?_
            refine wp_aload0 54 rfl dX0_year_53 ?_
            refine wp_getr 57 rfl dX0_year_54 fX0_62_1 (o1 hK) (p1_7 hK) ?_
            refine wp_Vv1 60 rfl dX0_year_57 kX5_takes lX0_261 (o6 (k_trial hK)) (nl rfl) (nl rfl) (s_takes ht2 ht (by omega) hR) (fun J0 ρ1 hq9 => ?_)
            obtain ⟨e1, f0, hR0⟩ := hq9
            have e1 := e1.symm
            subst e1
            have hq0 := hJ.tr9 f0
            have hT := hT9.kept hq0.T
            refine wp_aload0 61 rfl dX0_year_60 ?_
            refine wp_getr 64 rfl dX0_year_61 fX0_66_1 (o1 hK) (p1_8 hK) ?_
            refine wp_aload0 65 rfl dX0_year_64 ?_
            refine wp_getr 68 rfl dX0_year_65 fX0_51_1 (o1 hK) (hP) ?_
            refine wp_geti 71 rfl dX0_year_68 fX0_308_5 (o5 hT) ?_
            rw [(cT_n hT).2.2]
            refine wp_iload6 73 rfl dX0_year_71 ?_
            refine wp_iadd 74 rfl dX0_year_73 ?_
            refine wp_puti 77 rfl dX0_year_74 pX0_311_6 (o6 (k_trial hK)) (⟨rfl, rfl⟩) ?_
            have hRs : tR (sm_u J0 95 9 (tx_seed T + nI p)) 95 w (tx_seed T + nI p) := by
              refine hR0.own (fun j hj => rfl) ?_ ?_ ?_ ?_
              · rw [pk_un (by decide)]
                exact hR0.2.2.2.1
              · rw [pk_un (by decide)]
                exact hR0.2.2.2.2.1
              · rw [pk_un (by decide)]
                exact hR0.2.2.2.2.2.1
              · rw [pk_us]
            have fk : cf (tWs 95) J0 (sm_u J0 95 9 (tx_seed T + nI p)) := cf.su (by omega)
            have hqk := hq0.tr9 fk
            have hT := hT9.kept hqk.T
            refine wp_aload0 78 rfl dX0_year_77 ?_
            refine wp_aload0 79 rfl dX0_year_78 ?_
            refine wp_getr 82 rfl dX0_year_79 fX0_66_1 (o1 hK) (p1_8 hK) ?_
            refine wp_iload3 83 rfl dX0_year_82 ?_
            refine wp_aload0 84 rfl dX0_year_83 ?_
            refine wp_getr 87 rfl dX0_year_84 fX0_82_1 (o1 hK) (p1_12 hK) ?_
            refine wp_Vv3 90 rfl dX0_year_87 kX0_runs lX0_289 (o1 hK) (nl rfl) (nl rfl) (s_runs (d := d) hK hP ht2 ⟨by decide, by decide⟩ hRs hw hz hT hk (Or.inl ⟨rfl, rfl⟩) m hm.2) (fun J1 ρ1 hq9 => ?_)
            obtain ⟨e1, f1, hR1⟩ := hq9
            have e1 := e1.symm
            subst e1
            have hq1 := hqk.tr9 f1
            have hT := hT9.kept hq1.T
            obtain ⟨w1, w2⟩ := wok_days (st := nI 0) (l := tx_seed T + nI p) hw hz hk m
            have e0 : z_sum (fun k => if r_known T (r_days T (nI 0) (tx_seed T + nI k) w m) j = nI c then nI 1 else nI 0) (p + 1) = z_sum (fun k => if r_known T (r_days T (nI 0) (tx_seed T + nI k) w m) j = nI c then nI 1 else nI 0) p + (if r_known T (r_days T (nI 0) (tx_seed T + nI p) w m) j = nI c then nI 1 else nI 0) := rfl
            have ih := ih J1 hq1
            rw [e0] at ih
            refine wp_iload5 92 rfl dX0_year_90 ?_
            refine wp_aload0 93 rfl dX0_year_92 ?_
            refine wp_getr 96 rfl dX0_year_93 fX0_66_1 (o1 hK) (p1_8 hK) ?_
            refine wp_aload0 97 rfl dX0_year_96 ?_
            refine wp_getr 100 rfl dX0_year_97 fX0_51_1 (o1 hK) (hP) ?_
            refine wp_iload1 101 rfl dX0_year_100 ?_
            refine wp_Ve2 104 rfl dX0_year_101 kX5_known lX0_204 (o6 (k_trial hK)) (nl rfl) (nl rfl) (s_known' ht2 hR1 w1 hT hk (by omega)) ?_
            refine wp_iload2 105 rfl dX0_year_104 ?_
            refine wp_icmp_ne 108 112 rfl rfl dX0_year_105 (fun c105 => ?_) (fun c105 => ?_)
            · rw [if_neg c105] at ih
              refine wp_iconst (nI 0) 113 rfl dX0_year_112 (by decide) ?_
              refine wp_iadd 114 rfl dX0_year_113 ?_
              refine wp_istore5 116 rfl dX0_year_114 (by decide) rfl ?_
              refine wp_iincN6 119 rfl dX0_year_116 (by decide) rfl ?_
              refine wp_goto 42 rfl dX0_year_119 ?_
              exact ih
            · rw [if_pos c105] at ih
              refine wp_iconst (nI 1) 109 rfl dX0_year_108 (by decide) ?_
              refine wp_goto 113 rfl dX0_year_109 ?_
              refine wp_iadd 114 rfl dX0_year_113 ?_
              refine wp_istore5 116 rfl dX0_year_114 (by decide) rfl ?_
              refine wp_iincN6 119 rfl dX0_year_116 (by decide) rfl ?_
              refine wp_goto 42 rfl dX0_year_119 ?_
              exact ih
        · rw [z_iv_o (l := 1) (m := 20) (fun z => hX ((z_iv_iff (by decide) (by decide)).mp z))]
          refine wp_if_ne 34 36 rfl rfl dX0_year_31 (fun c31 => absurd (z_b_eq.mpr (fun z => hX ((z_iv_iff (l := 1) (m := 20) (by decide) (by decide)).mp z))) c31) (fun c31 => ?_)
          refine wp_iconst (-1) 35 rfl dX0_year_34 (by decide) ?_
          refine wp_iret dX0_year_35 rfl ?_
          exact sm_ci cq.rf rfl
      · rw [z_iv_o (l := 0) (m := 60) (fun z => hX ((z_iv_iff (by decide) (by decide)).mp z))]
        refine wp_if_eq 23 34 rfl rfl dX0_year_20 (fun c20 => ?_) (fun c20 => absurd (z_b_eq.mpr (fun z => hX ((z_iv_iff (l := 0) (m := 60) (by decide) (by decide)).mp z))) c20)
        refine wp_iconst (-1) 35 rfl dX0_year_34 (by decide) ?_
        refine wp_iret dX0_year_35 rfl ?_
        exact sm_ci cq.rf rfl
    · rw [z_ix_no (by omega) hX]
      refine wp_if_eq 16 34 rfl rfl dX0_year_13 (fun c13 => ?_) (fun c13 => absurd (z_b_eq.mpr hX) c13)
      refine wp_iconst (-1) 35 rfl dX0_year_34 (by decide) ?_
      refine wp_iret dX0_year_35 rfl ?_
      exact sm_ci cq.rf rfl
  · rw [z_ix_no (by omega) hX]
    refine wp_if_eq 8 34 rfl rfl dX0_year_5 (fun c5 => ?_) (fun c5 => absurd (z_b_eq.mpr hX) c5)
    refine wp_iconst (-1) 35 rfl dX0_year_34 (by decide) ?_
    refine wp_iret dX0_year_35 rfl ?_
    exact sm_ci cq.rf rfl
end D3
