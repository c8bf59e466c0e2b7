/-! ===== a day, whole; days ===== -/
set_option maxRecDepth 100000
section M8
variable {G : sm_G} {d : Nat} {I : sm_I} {ρ : sm_R}
theorem s_dayGoes (hm : md ρ) (lv : Nat) (T : tx) (hT : mT I lv T) (ht : tok T) : sm_M G xX10_dayGoes (d + 4) [.ref mM] I ρ (sm_Qv (fun I1 ρ1 => ρ1 = ρ ∧ mf mScR [50] I I1 ∧ I1 m_row = r_day T (I mM 54) (I mM 53) (I m_row))) := by
  show sm_V G xX10_dayGoes (d + 4) 0 [.ref mM, .retAddr 0, .retAddr 0, .retAddr 0] [] I ρ _
  have hR10 := ht.1.2.2
  refine wp_iconst (nI 0) 1 rfl dX10_dayGoes_0 (by decide) ?_
  refine wp_istore1 2 rfl dX10_dayGoes_1 (by decide) rfl ?_
  refine sm_for (P := fun r => ∀ I1 : sm_I, mf mScR [50] I I1 → I1 m_row = r_rnd T (I m_row) r → sm_V G xX10_dayGoes (d + 4) 2 [.ref mM, .int (nI r), .retAddr 0, .retAddr 0] [] I1 ρ _) 0 (tx_R T) (Nat.zero_le _) ?_ (fun r _ hr ih => ?_) I mf.rf rfl
  · intro I1 hf1 hw1
    have hT1 := hT.kept hf1 (by decide) (by decide)
    have hlots : I1 mM 53 = I mM 53 := hf1.2 53 (by decide)
    have hstill : I1 mM 54 = I mM 54 := hf1.2 54 (by decide)
    have fin : ∀ (b : Nat → Int32), (if I mM 54 = nI 0 ∧ r_isW T (I mM 53) (r_rnd T (I m_row) (tx_R T)) then r_blow (I mM 53) (r_rnd T (I m_row) (tx_R T)) (tx_D T) else r_rnd T (I m_row) (tx_R T)) = b → ∀ I2 : sm_I, mf mScR [50] I I2 → I2 m_row = b → sm_V G xX10_dayGoes (d + 4) 169 [.ref mM, .retAddr 0, .retAddr 0, .retAddr 0] [] I2 ρ (sm_Qv (fun I1 ρ1 => ρ1 = ρ ∧ mf mScR [50] I I1 ∧ I1 m_row = r_day T (I mM 54) (I mM 53) (I m_row))) := by
      intro b hb I2 hf2 hw2
      refine dg_wear hm lv T hT ht I2 hf2 b hw2 _ (fun I3 hf3 hw3 => ?_)
      refine sm_V.mono (dg_idle hm lv T hT ht .null .null I3 hf3 _ hw3) ?_
      rintro o I4 ρ4 ⟨h1, h2, h3, h4⟩
      refine ⟨h1, h2, h3, ?_⟩
      rw [h4]
      unfold r_day
      simp only []
      rw [hb]
    refine wp_iload1 3 rfl dX10_dayGoes_2 ?_
    refine wp_aload0 4 rfl dX10_dayGoes_3 ?_
    refine wp_getr 7 rfl dX10_dayGoes_4 fX10_58_10 (md_M hm) (mp_rounds hm) ?_
    refine wp_aload0 8 rfl dX10_dayGoes_7 ?_
    refine wp_geti 11 rfl dX10_dayGoes_8 fX10_233_10 (md_M hm) ?_
    refine wp_iald 12 rfl dX10_dayGoes_11 (ms_rounds hm) (lv) (hT1.1.1) (⟨hT1.1.2, by decide⟩) ?_
    refine wp_icmp_ge 15 81 rfl rfl dX10_dayGoes_12 (fun c12 => ?_) (fun c12 => absurd (by rw [hT1.2.1.2.2]; exact nI_le (Nat.le_refl _) (by omega)) c12)
    refine wp_aload0 82 rfl dX10_dayGoes_81 ?_
    refine wp_geti 85 rfl dX10_dayGoes_82 fX10_320_10 (md_M hm) ?_
    rw [hstill]
    have noW : ¬ (I mM 54 = nI 0 ∧ r_isW T (I mM 53) (r_rnd T (I m_row) (tx_R T))) → sm_V G xX10_dayGoes (d + 4) 99 [.ref mM, .int (nI (tx_R T)), .retAddr 0, .retAddr 0] [] I1 ρ (sm_Qv (fun I1 ρ1 => ρ1 = ρ ∧ mf mScR [50] I I1 ∧ I1 m_row = r_day T (I mM 54) (I mM 53) (I m_row))) := by
      intro hno
      by_cases hz : 0 < tx_D T
      · refine wp_iconst (nI 0) 100 rfl dX10_dayGoes_99 (by decide) ?_
        refine wp_istore1 101 rfl dX10_dayGoes_100 (by decide) rfl ?_
        refine wp_iconst (nI 0) 102 rfl dX10_dayGoes_101 (by decide) ?_
        refine wp_istore2 103 rfl dX10_dayGoes_102 (by decide) rfl ?_
        refine wp_iload2 104 rfl dX10_dayGoes_103 ?_
        refine wp_aload0 105 rfl dX10_dayGoes_104 ?_
        refine wp_getr 108 rfl dX10_dayGoes_105 fX10_46_10 (md_M hm) (mp_doors hm) ?_
        refine wp_aload0 109 rfl dX10_dayGoes_108 ?_
        refine wp_geti 112 rfl dX10_dayGoes_109 fX10_233_10 (md_M hm) ?_
        refine wp_iald 113 rfl dX10_dayGoes_112 (ms_doors hm) (lv) (hT1.1.1) (⟨hT1.1.2, by decide⟩) ?_
        refine wp_icmp_ge 116 169 rfl rfl dX10_dayGoes_113 (fun c113 => absurd c113 (by rw [hT1.2.1.1]; exact nI_ge hz (by have := ht.1.1; omega))) (fun c113 => ?_)
        refine wp_iload1 117 rfl dX10_dayGoes_116 ?_
        refine wp_if_eq 120 169 rfl rfl dX10_dayGoes_117 (fun c117 => ?_) (fun c117 => absurd (rfl) c117)
        exact wp_weakK (fin _ (if_neg hno) I1 hf1 hw1) ⟨Or.inr rfl, Or.inl rfl, Or.inl rfl, Or.inr rfl, trivial⟩
      · refine wp_iconst (nI 0) 100 rfl dX10_dayGoes_99 (by decide) ?_
        refine wp_istore1 101 rfl dX10_dayGoes_100 (by decide) rfl ?_
        refine wp_iconst (nI 0) 102 rfl dX10_dayGoes_101 (by decide) ?_
        refine wp_istore2 103 rfl dX10_dayGoes_102 (by decide) rfl ?_
        refine wp_iload2 104 rfl dX10_dayGoes_103 ?_
        refine wp_aload0 105 rfl dX10_dayGoes_104 ?_
        refine wp_getr 108 rfl dX10_dayGoes_105 fX10_46_10 (md_M hm) (mp_doors hm) ?_
        refine wp_aload0 109 rfl dX10_dayGoes_108 ?_
        refine wp_geti 112 rfl dX10_dayGoes_109 fX10_233_10 (md_M hm) ?_
        refine wp_iald 113 rfl dX10_dayGoes_112 (ms_doors hm) (lv) (hT1.1.1) (⟨hT1.1.2, by decide⟩) ?_
        refine wp_icmp_ge 116 169 rfl rfl dX10_dayGoes_113 (fun c113 => ?_) (fun c113 => absurd (by rw [hT1.2.1.1]; exact nI_le (by omega) (by decide)) c113)
        exact wp_weakK (fin _ (if_neg hno) I1 hf1 hw1) ⟨Or.inr rfl, Or.inl rfl, Or.inl rfl, Or.inr rfl, trivial⟩
    refine wp_if_ne 88 99 rfl rfl dX10_dayGoes_85 (fun c85 => ?_) (fun c85 => ?_)
    · exact noW (fun h => c85 h.1)
    · refine wp_aload0 89 rfl dX10_dayGoes_88 ?_
      refine wp_Ve0 92 rfl dX10_dayGoes_89 kX10_isWind lX10_377 (md_M hm) (nl rfl) (nl rfl) (s_isWind hm lv hT1.1.1 hT1.1.2) ?_
      rw [hlots, hw1, hT1.2.2.2.2.2.1.1]
      refine wp_if_eq 95 99 rfl rfl dX10_dayGoes_92 (fun c92 => ?_) (fun c92 => ?_)
      · exact noW (fun h => (z_b_eq.mp c92) h.2)
      · refine wp_iconst (nI 1) 96 rfl dX10_dayGoes_95 (by decide) ?_
        refine wp_goto 100 rfl dX10_dayGoes_96 ?_
        refine wp_istore1 101 rfl dX10_dayGoes_100 (by decide) rfl ?_
        refine wp_iconst (nI 0) 102 rfl dX10_dayGoes_101 (by decide) ?_
        refine wp_istore2 103 rfl dX10_dayGoes_102 (by decide) rfl ?_
        have hW : r_isW T (I mM 53) (r_rnd T (I m_row) (tx_R T)) := z_b_ne.mp c92
        refine dg_blow hm lv T hT ht I1 hf1 _ hw1 _ (fun I2 hf2 hw2 => fin _ (if_pos ⟨c85, hW⟩) I2 hf2 hw2)
  · intro I1 hf1 hw1
    have hT1 := hT.kept hf1 (by decide) (by decide)
    obtain ⟨g1, g2, g3, g4⟩ := hT1.2.2.2.2.1 r hr
    obtain ⟨k1, k2, ⟨e, he1, he2, he3⟩, k4⟩ := ht.2.2.2.1 r hr
    have e9 : r_rnd T (I m_row) (r + 1) = if r_rnd T (I m_row) r (54 + r) = nI 1 then (if z_due (tx_fr T r) (tx_ev T r) (r_rnd T (I m_row) r 69) then r_lift T (r_rnd T (I m_row) r) (tx_door T r) (tx_who T r) else r_rnd T (I m_row) r) else r_rnd T (I m_row) r := rfl
    refine wp_iload1 3 rfl dX10_dayGoes_2 ?_
    refine wp_aload0 4 rfl dX10_dayGoes_3 ?_
    refine wp_getr 7 rfl dX10_dayGoes_4 fX10_58_10 (md_M hm) (mp_rounds hm) ?_
    refine wp_aload0 8 rfl dX10_dayGoes_7 ?_
    refine wp_geti 11 rfl dX10_dayGoes_8 fX10_233_10 (md_M hm) ?_
    refine wp_iald 12 rfl dX10_dayGoes_11 (ms_rounds hm) (lv) (hT1.1.1) (⟨hT1.1.2, by decide⟩) ?_
    refine wp_icmp_ge 15 81 rfl rfl dX10_dayGoes_12 (fun c12 => absurd c12 (by rw [hT1.2.1.2.2]; exact nI_ge hr (by omega))) (fun c12 => ?_)
    refine wp_aload0 16 rfl dX10_dayGoes_15 ?_
    refine wp_getr 19 rfl dX10_dayGoes_16 fX10_122_10 (md_M hm) (mp_row hm) ?_
    refine wp_bipush (nI 54) 21 rfl dX10_dayGoes_19 (by decide) ?_
    refine wp_iload1 22 rfl dX10_dayGoes_21 ?_
    refine wp_iadd 23 rfl dX10_dayGoes_22 ?_
    refine wp_iald 24 rfl dX10_dayGoes_23 (ms_row hm) (54 + r) (by first | rfl | simp only [pk_mul, nI_add]) (⟨by omega, by decide⟩) ?_
    refine wp_iconst (nI 1) 25 rfl dX10_dayGoes_24 (by decide) ?_
    rw [hw1]
    refine wp_icmp_ne 28 75 rfl rfl dX10_dayGoes_25 (fun c25 => ?_) (fun c25 => ?_)
    · rw [if_neg c25] at e9
      refine wp_iincN1 78 rfl dX10_dayGoes_75 (by decide) rfl ?_
      refine wp_goto 2 rfl dX10_dayGoes_78 ?_
      exact ih I1 hf1 (by rw [e9]; exact hw1)
    · rw [if_pos c25] at e9
      refine wp_aload0 29 rfl dX10_dayGoes_28 ?_
      refine wp_iload1 30 rfl dX10_dayGoes_29 ?_
      refine wp_aload0 31 rfl dX10_dayGoes_30 ?_
      refine wp_getr 34 rfl dX10_dayGoes_31 fX10_122_10 (md_M hm) (mp_row hm) ?_
      refine wp_bipush (nI 69) 36 rfl dX10_dayGoes_34 (by decide) ?_
      refine wp_iald 37 rfl dX10_dayGoes_36 (ms_row hm) (69) (by first | rfl | simp only [pk_mul, nI_add]) (⟨by omega, by decide⟩) ?_
      refine wp_Ve2 40 rfl dX10_dayGoes_37 kX10_isDue lX10_370 (md_M hm) (nl rfl) (nl rfl) (s_isDue hm lv r _ hT1.1.1 hT1.1.2 (by omega) (by rw [g3, he3]; exact nI_ne0 (by omega) (by omega))) ?_
      rw [g3, g4, hw1]
      refine wp_if_eq 43 75 rfl rfl dX10_dayGoes_40 (fun c40 => ?_) (fun c40 => ?_)
      · rw [if_neg (z_b_eq.mp c40)] at e9
        refine wp_iincN1 78 rfl dX10_dayGoes_75 (by decide) rfl ?_
        refine wp_goto 2 rfl dX10_dayGoes_78 ?_
        exact ih I1 hf1 (by rw [e9]; exact hw1)
      · rw [if_pos (z_b_ne.mp c40)] at e9
        refine wp_aload0 44 rfl dX10_dayGoes_43 ?_
        refine wp_aload0 45 rfl dX10_dayGoes_44 ?_
        refine wp_getr 48 rfl dX10_dayGoes_45 fX10_64_10 (md_M hm) (mp_doorOf hm) ?_
        refine wp_bipush (nI 10) 50 rfl dX10_dayGoes_48 (by decide) ?_
        refine wp_aload0 51 rfl dX10_dayGoes_50 ?_
        refine wp_geti 54 rfl dX10_dayGoes_51 fX10_233_10 (md_M hm) ?_
        refine wp_imul 55 rfl dX10_dayGoes_54 ?_
        refine wp_iload1 56 rfl dX10_dayGoes_55 ?_
        refine wp_iadd 57 rfl dX10_dayGoes_56 ?_
        refine wp_iald 58 rfl dX10_dayGoes_57 (ms_doorOf hm) (10 * lv + r) (by rw [hT1.1.1, pk_mul, nI_add]) (⟨by have := hT1.1.2; omega, by decide⟩) ?_
        refine wp_aload0 59 rfl dX10_dayGoes_58 ?_
        refine wp_getr 62 rfl dX10_dayGoes_59 fX10_61_10 (md_M hm) (mp_whoOf hm) ?_
        refine wp_bipush (nI 10) 64 rfl dX10_dayGoes_62 (by decide) ?_
        refine wp_aload0 65 rfl dX10_dayGoes_64 ?_
        refine wp_geti 68 rfl dX10_dayGoes_65 fX10_233_10 (md_M hm) ?_
        refine wp_imul 69 rfl dX10_dayGoes_68 ?_
        refine wp_iload1 70 rfl dX10_dayGoes_69 ?_
        refine wp_iadd 71 rfl dX10_dayGoes_70 ?_
        refine wp_iald 72 rfl dX10_dayGoes_71 (ms_whoOf hm) (10 * lv + r) (by rw [hT1.1.1, pk_mul, nI_add]) (⟨by have := hT1.1.2; omega, by decide⟩) ?_
        rw [g1, g2]
        refine wp_Vv2 75 rfl dX10_dayGoes_72 kX10_lifted lX10_374 (md_M hm) (nl rfl) (nl rfl) (s_lifted hm lv T hT1 ht (tx_door T r) (tx_who T r) k2 k1) (fun I2 ρ2 hq => ?_)
        obtain ⟨rfl, hf2, hw2⟩ := hq
        refine wp_iincN1 78 rfl dX10_dayGoes_75 (by decide) rfl ?_
        refine wp_goto 2 rfl dX10_dayGoes_78 ?_
        exact ih I2 (hf1.tr hf2) (by rw [hw2, hw1, e9])
theorem s_goes (hm : md ρ) (lv : Nat) (T : tx) (hT : mT I lv T) (ht : tok T) (n : Nat) (hn : n ≤ 60) : sm_M G xX10_goes (d + 5) [.ref mM, .int (nI n)] I ρ (sm_Qv (fun I1 ρ1 => ρ1 = ρ ∧ mf mScR [50] I I1 ∧ I1 m_row = r_days T (I mM 54) (I mM 53) (I m_row) n)) := by
  show sm_V G xX10_goes (d + 5) 0 [.ref mM, .int (nI n), .retAddr 0] [] I ρ _
  refine wp_iconst (nI 0) 1 rfl dX10_goes_0 (by decide) ?_
  refine wp_istore2 2 rfl dX10_goes_1 (by decide) rfl ?_
  refine sm_for (P := fun p => ∀ I1 : sm_I, mf mScR [50] I I1 → I1 m_row = r_days T (I mM 54) (I mM 53) (I m_row) p → sm_V G xX10_goes (d + 5) 2 [.ref mM, .int (nI n), .int (nI p)] [] I1 ρ _) 0 n (Nat.zero_le _) ?_ (fun p _ hp ih => ?_) I mf.rf rfl
  · intro I1 hf1 hw1
    refine wp_iload2 3 rfl dX10_goes_2 ?_
    refine wp_iload1 4 rfl dX10_goes_3 ?_
    refine wp_icmp_ge 7 17 rfl rfl dX10_goes_4 (fun c4 => ?_) (fun c4 => absurd (nI_le (Nat.le_refl n) (by omega)) c4)
    refine wp_vret dX10_goes_17 rfl ?_
    exact ⟨rfl, rfl, hf1, hw1⟩
  · intro I1 hf1 hw1
    have hT1 := hT.kept hf1 (by decide) (by decide)
    refine wp_iload2 3 rfl dX10_goes_2 ?_
    refine wp_iload1 4 rfl dX10_goes_3 ?_
    refine wp_icmp_ge 7 17 rfl rfl dX10_goes_4 (fun c4 => absurd c4 (nI_ge hp (by omega))) (fun c4 => ?_)
    refine wp_aload0 8 rfl dX10_goes_7 ?_
    refine wp_Vv0 11 rfl dX10_goes_8 kX10_dayGoes lX10_384 (md_M hm) (nl rfl) (nl rfl) (s_dayGoes hm lv T hT1 ht) (fun I2 ρ2 hq => ?_)
    obtain ⟨rfl, hf2, hw2⟩ := hq
    refine wp_iincN2 14 rfl dX10_goes_11 (by decide) rfl ?_
    refine wp_goto 2 rfl dX10_goes_14 ?_
    refine ih I2 (hf1.tr hf2) ?_
    rw [hw2, hf1.2 54 (by decide), hf1.2 53 (by decide), hw1]
    rfl
end M8
