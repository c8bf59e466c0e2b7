/-! ===== plain, begins ===== -/
set_option maxRecDepth 100000
def r_beg (T : tx) (k : Nat) : Int32 := if k < 4 * tx_D T then tx_ff T k else if 54 ≤ k ∧ k < 54 + tx_R T then nI 1 else nI 0
section M49
variable {G : sm_G} {d : Nat} {I : sm_I} {ρ : sm_R}
abbrev plA : List Nat := [m_doors, m_callers, m_rounds, m_wind, m_near, m_seed, m_lawFirst, m_lawLast]
theorem s_plain (hm : md ρ) (s : Nat) (hs : s < 2) : sm_M G xX10_plain d [.ref mM, .int (nI s)] I ρ (sm_Qv (fun I1 ρ1 => ρ1 = ρ ∧ mf plA [] I I1 ∧ (I1 m_doors s = nI 0 ∧ I1 m_callers s = nI 0 ∧ I1 m_rounds s = nI 0 ∧ I1 m_wind s = nI 0 ∧ I1 m_near s = nI 40 ∧ I1 m_seed s = nI 0) ∧ (∀ j, ¬ j = s → I1 m_doors j = I m_doors j ∧ I1 m_callers j = I m_callers j ∧ I1 m_rounds j = I m_rounds j ∧ I1 m_wind j = I m_wind j ∧ I1 m_near j = I m_near j ∧ I1 m_seed j = I m_seed j) ∧ (∀ k, k < 3 → I1 m_lawFirst (3 * s + k) = nI 0 ∧ I1 m_lawLast (3 * s + k) = nI 0) ∧ ∀ j, (j < 3 * s ∨ 3 * s + 3 ≤ j) → I1 m_lawFirst j = I m_lawFirst j ∧ I1 m_lawLast j = I m_lawLast j)) := by
  show sm_V G xX10_plain d 0 [.ref mM, .int (nI s), .retAddr 0] [] I ρ _
  refine wp_aload0 1 rfl dX10_plain_0 ?_
  refine wp_getr 4 rfl dX10_plain_1 fX10_46_10 (md_M hm) (mp_doors hm) ?_
  refine wp_iload1 5 rfl dX10_plain_4 ?_
  refine wp_iconst (nI 0) 6 rfl dX10_plain_5 (by decide) ?_
  refine wp_iast 7 rfl dX10_plain_6 (ms_doors hm) (s) (by first | rfl | simp only [pk_mul, nI_add]) (⟨by omega, by decide⟩) ?_
  refine wp_aload0 8 rfl dX10_plain_7 ?_
  refine wp_getr 11 rfl dX10_plain_8 fX10_52_10 (md_M hm) (mp_callers hm) ?_
  refine wp_iload1 12 rfl dX10_plain_11 ?_
  refine wp_iconst (nI 0) 13 rfl dX10_plain_12 (by decide) ?_
  refine wp_iast 14 rfl dX10_plain_13 (ms_callers hm) (s) (by first | rfl | simp only [pk_mul, nI_add]) (⟨by omega, by decide⟩) ?_
  refine wp_aload0 15 rfl dX10_plain_14 ?_
  refine wp_getr 18 rfl dX10_plain_15 fX10_58_10 (md_M hm) (mp_rounds hm) ?_
  refine wp_iload1 19 rfl dX10_plain_18 ?_
  refine wp_iconst (nI 0) 20 rfl dX10_plain_19 (by decide) ?_
  refine wp_iast 21 rfl dX10_plain_20 (ms_rounds hm) (s) (by first | rfl | simp only [pk_mul, nI_add]) (⟨by omega, by decide⟩) ?_
  refine wp_aload0 22 rfl dX10_plain_21 ?_
  refine wp_getr 25 rfl dX10_plain_22 fX10_73_10 (md_M hm) (mp_wind hm) ?_
  refine wp_iload1 26 rfl dX10_plain_25 ?_
  refine wp_iconst (nI 0) 27 rfl dX10_plain_26 (by decide) ?_
  refine wp_iast 28 rfl dX10_plain_27 (ms_wind hm) (s) (by first | rfl | simp only [pk_mul, nI_add]) (⟨by omega, by decide⟩) ?_
  refine wp_aload0 29 rfl dX10_plain_28 ?_
  refine wp_getr 32 rfl dX10_plain_29 fX10_76_10 (md_M hm) (mp_near hm) ?_
  refine wp_iload1 33 rfl dX10_plain_32 ?_
  refine wp_bipush (nI 40) 35 rfl dX10_plain_33 (by decide) ?_
  refine wp_iast 36 rfl dX10_plain_35 (ms_near hm) (s) (by first | rfl | simp only [pk_mul, nI_add]) (⟨by omega, by decide⟩) ?_
  refine wp_aload0 37 rfl dX10_plain_36 ?_
  refine wp_getr 40 rfl dX10_plain_37 fX10_79_10 (md_M hm) (mp_seed hm) ?_
  refine wp_iload1 41 rfl dX10_plain_40 ?_
  refine wp_iconst (nI 0) 42 rfl dX10_plain_41 (by decide) ?_
  refine wp_iast 43 rfl dX10_plain_42 (ms_seed hm) (s) (by first | rfl | simp only [pk_mul, nI_add]) (⟨by omega, by decide⟩) ?_
  refine wp_iconst (nI 0) 44 rfl dX10_plain_43 (by decide) ?_
  refine wp_istore2 45 rfl dX10_plain_44 (by decide) rfl ?_
  obtain ⟨K, hK⟩ : ∃ K, K = sm_u (sm_u (sm_u (sm_u (sm_u (sm_u I m_doors s (nI 0)) m_callers s (nI 0)) m_rounds s (nI 0)) m_wind s (nI 0)) m_near s (nI 40)) m_seed s (nI 0) := ⟨_, rfl⟩
  have hf : mf plA [] I K := by
    rw [hK]
    exact (((((mf.u (by decide) (by decide)).tr (mf.u (by decide) (by decide))).tr (mf.u (by decide) (by decide))).tr (mf.u (by decide) (by decide))).tr (mf.u (by decide) (by decide))).tr (mf.u (by decide) (by decide))
  have hz : ∀ a j, ¬ j = s → K a j = I a j := fun a j hj => by
    rw [hK, sm_u_off hj, sm_u_off hj, sm_u_off hj, sm_u_off hj, sm_u_off hj, sm_u_off hj]
  have hv : K m_doors s = nI 0 ∧ K m_callers s = nI 0 ∧ K m_rounds s = nI 0 ∧ K m_wind s = nI 0 ∧ K m_near s = nI 40 ∧ K m_seed s = nI 0 := by
    rw [hK]
    refine ⟨?_, ?_, ?_, ?_, ?_, ?_⟩
    · rw [sm_u_ne _ _ _ (by decide), sm_u_ne _ _ _ (by decide), sm_u_ne _ _ _ (by decide), sm_u_ne _ _ _ (by decide), sm_u_ne _ _ _ (by decide), sm_u_eq, pk_us]
    · rw [sm_u_ne _ _ _ (by decide), sm_u_ne _ _ _ (by decide), sm_u_ne _ _ _ (by decide), sm_u_ne _ _ _ (by decide), sm_u_eq, pk_us]
    · rw [sm_u_ne _ _ _ (by decide), sm_u_ne _ _ _ (by decide), sm_u_ne _ _ _ (by decide), sm_u_eq, pk_us]
    · rw [sm_u_ne _ _ _ (by decide), sm_u_ne _ _ _ (by decide), sm_u_eq, pk_us]
    · rw [sm_u_ne _ _ _ (by decide), sm_u_eq, pk_us]
    · rw [sm_u_eq, pk_us]
  have hlw : K m_lawFirst = I m_lawFirst ∧ K m_lawLast = I m_lawLast := by
    rw [hK]
    exact ⟨rfl, rfl⟩
  show sm_V G xX10_plain d 45 [.ref mM, .int (nI s), .int (nI 0)] [] (sm_u (sm_u (sm_u (sm_u (sm_u (sm_u I m_doors s (nI 0)) m_callers s (nI 0)) m_rounds s (nI 0)) m_wind s (nI 0)) m_near s (nI 40)) m_seed s (nI 0)) ρ _
  rw [← hK]
  clear hK
  refine sm_for (P := fun p => ∀ J : sm_I, mf [m_lawFirst, m_lawLast] [] K J → (∀ k, k < p → J m_lawFirst (3 * s + k) = nI 0 ∧ J m_lawLast (3 * s + k) = nI 0) → (∀ j, (j < 3 * s ∨ 3 * s + 3 ≤ j) → J m_lawFirst j = I m_lawFirst j ∧ J m_lawLast j = I m_lawLast j) → sm_V G xX10_plain d 45 [.ref mM, .int (nI s), .int (nI p)] [] J ρ _) 0 3 (by decide) ?_ (fun p _ hp ih => ?_) K mf.rf (fun k h => absurd h (Nat.not_lt_zero _)) (fun j _ => by rw [hlw.1, hlw.2]; exact ⟨rfl, rfl⟩)
  · intro J hf1 h1 h2
    refine wp_iload2 46 rfl dX10_plain_45 ?_
    refine wp_iconst (nI 3) 47 rfl dX10_plain_46 (by decide) ?_
    refine wp_icmp_ge 50 78 rfl rfl dX10_plain_47 (fun c47 => ?_) (fun c47 => absurd (by decide) c47)
    refine wp_vret dX10_plain_78 rfl ?_
    have ee : ∀ a, a ∈ [m_doors, m_callers, m_rounds, m_wind, m_near, m_seed] → J a = K a := fun a ha => by
      have n1 : ∀ a ∈ [m_doors, m_callers, m_rounds, m_wind, m_near, m_seed], a ∉ [m_lawFirst, m_lawLast] ∧ a ≠ mM := by decide
      exact hf1.1 a (n1 a ha).1 (n1 a ha).2
    refine ⟨rfl, rfl, hf.tr (hf1.wk (by decide) (by decide)), ?_, fun j hj => ?_, h1, h2⟩
    · rw [ee m_doors (by decide), ee m_callers (by decide), ee m_rounds (by decide), ee m_wind (by decide), ee m_near (by decide), ee m_seed (by decide)]
      exact hv
    · rw [ee m_doors (by decide), ee m_callers (by decide), ee m_rounds (by decide), ee m_wind (by decide), ee m_near (by decide), ee m_seed (by decide)]
      exact ⟨hz _ j hj, hz _ j hj, hz _ j hj, hz _ j hj, hz _ j hj, hz _ j hj⟩
  · intro J hf1 h1 h2
    refine wp_iload2 46 rfl dX10_plain_45 ?_
    refine wp_iconst (nI 3) 47 rfl dX10_plain_46 (by decide) ?_
    refine wp_icmp_ge 50 78 rfl rfl dX10_plain_47 (fun c47 => absurd c47 (nI_ge hp (by decide))) (fun c47 => ?_)
    refine wp_aload0 51 rfl dX10_plain_50 ?_
    refine wp_getr 54 rfl dX10_plain_51 fX10_82_10 (md_M hm) (mp_lawFirst hm) ?_
    refine wp_iconst (nI 3) 55 rfl dX10_plain_54 (by decide) ?_
    refine wp_iload1 56 rfl dX10_plain_55 ?_
    refine wp_imul 57 rfl dX10_plain_56 ?_
    refine wp_iload2 58 rfl dX10_plain_57 ?_
    refine wp_iadd 59 rfl dX10_plain_58 ?_
    refine wp_iconst (nI 0) 60 rfl dX10_plain_59 (by decide) ?_
    refine wp_iast 61 rfl dX10_plain_60 (ms_lawFirst hm) (3 * s + p) (by first | rfl | simp only [pk_mul, nI_add]) (⟨by omega, by decide⟩) ?_
    refine wp_aload0 62 rfl dX10_plain_61 ?_
    refine wp_getr 65 rfl dX10_plain_62 fX10_85_10 (md_M hm) (mp_lawLast hm) ?_
    refine wp_iconst (nI 3) 66 rfl dX10_plain_65 (by decide) ?_
    refine wp_iload1 67 rfl dX10_plain_66 ?_
    refine wp_imul 68 rfl dX10_plain_67 ?_
    refine wp_iload2 69 rfl dX10_plain_68 ?_
    refine wp_iadd 70 rfl dX10_plain_69 ?_
    refine wp_iconst (nI 0) 71 rfl dX10_plain_70 (by decide) ?_
    refine wp_iast 72 rfl dX10_plain_71 (ms_lawLast hm) (3 * s + p) (by first | rfl | simp only [pk_mul, nI_add]) (⟨by omega, by decide⟩) ?_
    refine wp_iincN2 75 rfl dX10_plain_72 (by decide) rfl ?_
    refine wp_goto 45 rfl dX10_plain_75 ?_
    refine ih _ ((hf1.tr (mf.u (by decide) (by decide))).tr (mf.u (by decide) (by decide))) (fun k hk => ?_) (fun j hj => ?_)
    · by_cases e : k = p
      · rw [e, sm_u_ne _ _ _ (by decide), sm_u_eq, pk_us, sm_u_eq, pk_us]
        exact ⟨rfl, rfl⟩
      · rw [sm_u_off (by omega), sm_u_off (by omega), sm_u_off (by omega), sm_u_off (by omega)]
        exact h1 k (by omega)
    · rw [sm_u_off (by omega), sm_u_off (by omega), sm_u_off (by omega), sm_u_off (by omega)]
      exact h2 j hj
theorem s_begins (hm : md ρ) (lv : Nat) (T : tx) (hT : mT I lv T) (ht : tok T) (h70 : w70 (I m_row)) : sm_M G xX10_begins d [.ref mM] I ρ (sm_Qv (fun I1 ρ1 => ρ1 = ρ ∧ mf [m_row] [53, 54] I I1 ∧ I1 m_row = r_beg T)) := by
  show sm_V G xX10_begins d 0 [.ref mM, .retAddr 0] [] I ρ _
  obtain ⟨⟨hl, hlv⟩, ⟨hD, hC, hR⟩, h1, h2, h3, ⟨h4, h5, h6⟩, h7⟩ := hT
  obtain ⟨⟨k1, k2, k3⟩, -⟩ := ht
  refine wp_iconst (nI 0) 1 rfl dX10_begins_0 (by decide) ?_
  refine wp_istore1 2 rfl dX10_begins_1 (by decide) rfl ?_
  refine sm_for (P := fun p => ∀ J : sm_I, mf [m_row] [] I J → (∀ j, j < p → J m_row j = nI 0) → (∀ j, 70 ≤ j → J m_row j = I m_row j) → sm_V G xX10_begins d 2 [.ref mM, .int (nI p)] [] J ρ _) 0 70 (by decide) ?_ (fun p _ hp ih => ?_) I mf.rf (fun j h => absurd h (Nat.not_lt_zero _)) (fun j _ => rfl)
  · intro J hf z1 z2
    refine wp_iload1 3 rfl dX10_begins_2 ?_
    refine wp_bipush (nI 70) 5 rfl dX10_begins_3 (by decide) ?_
    refine wp_icmp_ge 8 21 rfl rfl dX10_begins_5 (fun c5 => ?_) (fun c5 => absurd (by decide) c5)
    refine wp_iconst (nI 0) 22 rfl dX10_begins_21 (by decide) ?_
    refine wp_istore1 23 rfl dX10_begins_22 (by decide) rfl ?_
    refine sm_for (P := fun p => ∀ J1 : sm_I, mf [m_row] [] I J1 → (∀ j, J1 m_row j = if j < p then tx_ff T j else J m_row j) → sm_V G xX10_begins d 23 [.ref mM, .int (nI p)] [] J1 ρ _) 0 (4 * tx_D T) (Nat.zero_le _) ?_ (fun p _ hp ih => ?_) J hf (fun j => by rw [if_neg (Nat.not_lt_zero _)])
    · intro J1 hf1 y1
      have hl1 : J1 mM 18 = nI lv := (hf1.2 18 (by decide)).trans hl
      have hD1 : J1 m_doors lv = nI (tx_D T) := by rw [hf1.1 m_doors (by decide) (by decide)]; exact hD
      refine wp_iload1 24 rfl dX10_begins_23 ?_
      refine wp_iconst (nI 4) 25 rfl dX10_begins_24 (by decide) ?_
      refine wp_aload0 26 rfl dX10_begins_25 ?_
      refine wp_getr 29 rfl dX10_begins_26 fX10_46_10 (md_M hm) (mp_doors hm) ?_
      refine wp_aload0 30 rfl dX10_begins_29 ?_
      refine wp_geti 33 rfl dX10_begins_30 fX10_233_10 (md_M hm) ?_
      refine wp_iald 34 rfl dX10_begins_33 (ms_doors hm) (lv) (hl1) (⟨by omega, by decide⟩) ?_
      rw [hD1]
      refine wp_imul 35 rfl dX10_begins_34 ?_
      rw [pk_mul]
      refine wp_icmp_ge 38 64 rfl rfl dX10_begins_35 (fun c35 => ?_) (fun c35 => absurd (nI_le (Nat.le_refl _) (by omega)) c35)
      refine wp_iconst (nI 0) 65 rfl dX10_begins_64 (by decide) ?_
      refine wp_istore1 66 rfl dX10_begins_65 (by decide) rfl ?_
      refine sm_for (P := fun p => ∀ J2 : sm_I, mf [m_row] [] I J2 → (∀ j, J2 m_row j = if 54 ≤ j ∧ j < 54 + p then nI 1 else J1 m_row j) → sm_V G xX10_begins d 66 [.ref mM, .int (nI p)] [] J2 ρ _) 0 (tx_R T) (Nat.zero_le _) ?_ (fun p _ hp ih => ?_) J1 hf1 (fun j => by rw [if_neg (by omega)])
      · intro J2 hf2 x1
        have hl2 : J2 mM 18 = nI lv := (hf2.2 18 (by decide)).trans hl
        have hR2 : J2 m_rounds lv = nI (tx_R T) := by rw [hf2.1 m_rounds (by decide) (by decide)]; exact hR
        refine wp_iload1 67 rfl dX10_begins_66 ?_
        refine wp_aload0 68 rfl dX10_begins_67 ?_
        refine wp_getr 71 rfl dX10_begins_68 fX10_58_10 (md_M hm) (mp_rounds hm) ?_
        refine wp_aload0 72 rfl dX10_begins_71 ?_
        refine wp_geti 75 rfl dX10_begins_72 fX10_233_10 (md_M hm) ?_
        refine wp_iald 76 rfl dX10_begins_75 (ms_rounds hm) (lv) (hl2) (⟨by omega, by decide⟩) ?_
        rw [hR2]
        refine wp_icmp_ge 79 95 rfl rfl dX10_begins_76 (fun c76 => ?_) (fun c76 => absurd (nI_le (Nat.le_refl _) (by omega)) c76)
        refine wp_aload0 96 rfl dX10_begins_95 ?_
        refine wp_aload0 97 rfl dX10_begins_96 ?_
        refine wp_getr 100 rfl dX10_begins_97 fX10_79_10 (md_M hm) (mp_seed hm) ?_
        refine wp_aload0 101 rfl dX10_begins_100 ?_
        refine wp_geti 104 rfl dX10_begins_101 fX10_233_10 (md_M hm) ?_
        refine wp_iald 105 rfl dX10_begins_104 (ms_seed hm) (lv) (hl2) (⟨by omega, by decide⟩) ?_
        refine wp_puti 108 rfl dX10_begins_105 pX10_317_10 (md_M hm) ⟨rfl, rfl⟩ ?_
        refine wp_aload0 109 rfl dX10_begins_108 ?_
        refine wp_iconst (nI 0) 110 rfl dX10_begins_109 (by decide) ?_
        refine wp_puti 113 rfl dX10_begins_110 pX10_320_10 (md_M hm) (⟨rfl, rfl⟩) ?_
        refine wp_vret dX10_begins_113 rfl ?_
        refine ⟨rfl, rfl, ((hf2.wk (by decide) (by decide)).tr (mf.uM (by decide))).tr (mf.uM (by decide)), ?_⟩
        rw [sm_u_ne _ _ _ (by decide), sm_u_ne _ _ _ (by decide)]
        funext j
        rw [x1, y1]
        unfold r_beg
        by_cases c1 : j < 4 * tx_D T
        · rw [if_neg (by omega), if_pos c1, if_pos c1]
        · rw [if_neg c1, if_neg c1]
          by_cases c2 : 54 ≤ j ∧ j < 54 + tx_R T
          · rw [if_pos c2, if_pos c2]
          · rw [if_neg c2, if_neg c2]
            by_cases c3 : j < 70
            · exact z1 j c3
            · rw [z2 j (by omega)]
              exact h70 j (by omega)
      · intro J2 hf2 x1
        have hl2 : J2 mM 18 = nI lv := (hf2.2 18 (by decide)).trans hl
        have hR2 : J2 m_rounds lv = nI (tx_R T) := by rw [hf2.1 m_rounds (by decide) (by decide)]; exact hR
        refine wp_iload1 67 rfl dX10_begins_66 ?_
        refine wp_aload0 68 rfl dX10_begins_67 ?_
        refine wp_getr 71 rfl dX10_begins_68 fX10_58_10 (md_M hm) (mp_rounds hm) ?_
        refine wp_aload0 72 rfl dX10_begins_71 ?_
        refine wp_geti 75 rfl dX10_begins_72 fX10_233_10 (md_M hm) ?_
        refine wp_iald 76 rfl dX10_begins_75 (ms_rounds hm) (lv) (hl2) (⟨by omega, by decide⟩) ?_
        rw [hR2]
        refine wp_icmp_ge 79 95 rfl rfl dX10_begins_76 (fun c76 => absurd c76 (nI_ge hp (by omega))) (fun c76 => ?_)
        refine wp_aload0 80 rfl dX10_begins_79 ?_
        refine wp_getr 83 rfl dX10_begins_80 fX10_122_10 (md_M hm) (mp_row hm) ?_
        refine wp_bipush (nI 54) 85 rfl dX10_begins_83 (by decide) ?_
        refine wp_iload1 86 rfl dX10_begins_85 ?_
        refine wp_iadd 87 rfl dX10_begins_86 ?_
        refine wp_iconst (nI 1) 88 rfl dX10_begins_87 (by decide) ?_
        refine wp_iast 89 rfl dX10_begins_88 (ms_row hm) (54 + p) (by first | rfl | simp only [pk_mul, nI_add]) (⟨by omega, by decide⟩) ?_
        refine wp_iincN1 92 rfl dX10_begins_89 (by decide) rfl ?_
        refine wp_goto 66 rfl dX10_begins_92 ?_
        refine ih _ (hf2.tr (mf.u (by decide) (by decide))) (fun j => ?_)
        by_cases e : j = 54 + p
        · rw [e, sm_u_eq, pk_us, if_pos (by omega)]
        · rw [sm_u_off e, x1]
          by_cases c : 54 ≤ j ∧ j < 54 + p
          · rw [if_pos c, if_pos (by omega)]
          · rw [if_neg c, if_neg (by omega)]
    · intro J1 hf1 y1
      have hl1 : J1 mM 18 = nI lv := (hf1.2 18 (by decide)).trans hl
      have hD1 : J1 m_doors lv = nI (tx_D T) := by rw [hf1.1 m_doors (by decide) (by decide)]; exact hD
      have hF1 : J1 m_firstFace (24 * lv + p) = tx_ff T p := by rw [hf1.1 m_firstFace (by decide) (by decide)]; exact h2 p hp
      refine wp_iload1 24 rfl dX10_begins_23 ?_
      refine wp_iconst (nI 4) 25 rfl dX10_begins_24 (by decide) ?_
      refine wp_aload0 26 rfl dX10_begins_25 ?_
      refine wp_getr 29 rfl dX10_begins_26 fX10_46_10 (md_M hm) (mp_doors hm) ?_
      refine wp_aload0 30 rfl dX10_begins_29 ?_
      refine wp_geti 33 rfl dX10_begins_30 fX10_233_10 (md_M hm) ?_
      refine wp_iald 34 rfl dX10_begins_33 (ms_doors hm) (lv) (hl1) (⟨by omega, by decide⟩) ?_
      rw [hD1]
      refine wp_imul 35 rfl dX10_begins_34 ?_
      rw [pk_mul]
      refine wp_icmp_ge 38 64 rfl rfl dX10_begins_35 (fun c35 => absurd c35 (nI_ge hp (by omega))) (fun c35 => ?_)
      refine wp_aload0 39 rfl dX10_begins_38 ?_
      refine wp_getr 42 rfl dX10_begins_39 fX10_122_10 (md_M hm) (mp_row hm) ?_
      refine wp_iload1 43 rfl dX10_begins_42 ?_
      refine wp_aload0 44 rfl dX10_begins_43 ?_
      refine wp_getr 47 rfl dX10_begins_44 fX10_49_10 (md_M hm) (mp_firstFace hm) ?_
      refine wp_bipush (nI 24) 49 rfl dX10_begins_47 (by decide) ?_
      refine wp_aload0 50 rfl dX10_begins_49 ?_
      refine wp_geti 53 rfl dX10_begins_50 fX10_233_10 (md_M hm) ?_
      refine wp_imul 54 rfl dX10_begins_53 ?_
      refine wp_iload1 55 rfl dX10_begins_54 ?_
      refine wp_iadd 56 rfl dX10_begins_55 ?_
      refine wp_iald 57 rfl dX10_begins_56 (ms_firstFace hm) (24 * lv + p) (by rw [hl1]; simp only [pk_mul, nI_add]) (⟨by omega, by decide⟩) ?_
      rw [hF1]
      refine wp_iast 58 rfl dX10_begins_57 (ms_row hm) (p) (by first | rfl | simp only [pk_mul, nI_add]) (⟨by omega, by decide⟩) ?_
      refine wp_iincN1 61 rfl dX10_begins_58 (by decide) rfl ?_
      refine wp_goto 23 rfl dX10_begins_61 ?_
      refine ih _ (hf1.tr (mf.u (by decide) (by decide))) (fun j => ?_)
      by_cases e : j = p
      · rw [e, sm_u_eq, pk_us, if_pos (by omega)]
      · rw [sm_u_off e, y1]
        by_cases c : j < p
        · rw [if_pos c, if_pos (by omega)]
        · rw [if_neg c, if_neg (by omega)]
  · intro J hf z1 z2
    refine wp_iload1 3 rfl dX10_begins_2 ?_
    refine wp_bipush (nI 70) 5 rfl dX10_begins_3 (by decide) ?_
    refine wp_icmp_ge 8 21 rfl rfl dX10_begins_5 (fun c5 => absurd c5 (nI_ge hp (by decide))) (fun c5 => ?_)
    refine wp_aload0 9 rfl dX10_begins_8 ?_
    refine wp_getr 12 rfl dX10_begins_9 fX10_122_10 (md_M hm) (mp_row hm) ?_
    refine wp_iload1 13 rfl dX10_begins_12 ?_
    refine wp_iconst (nI 0) 14 rfl dX10_begins_13 (by decide) ?_
    refine wp_iast 15 rfl dX10_begins_14 (ms_row hm) (p) (by first | rfl | simp only [pk_mul, nI_add]) (⟨by omega, by decide⟩) ?_
    refine wp_iincN1 18 rfl dX10_begins_15 (by decide) rfl ?_
    refine wp_goto 2 rfl dX10_begins_18 ?_
    refine ih _ (hf.tr (mf.u (by decide) (by decide))) (fun j hj => ?_) (fun j hj => ?_)
    · by_cases e : j = p
      · rw [e, sm_u_eq, pk_us]
      · rw [sm_u_off e]
        exact z1 j (by omega)
    · rw [sm_u_off (by omega)]
      exact z2 j hj
end M49
