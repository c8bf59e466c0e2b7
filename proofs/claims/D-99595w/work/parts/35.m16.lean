/-! ===== round, busy ===== -/
section M16
variable {G : sm_G} {d : Nat} {I : sm_I} {ρ : sm_R}
theorem q_round (hm : md ρ) (lv : Nat) (T : tx) (w : Nat → Int32) (hS : mS I lv T w) (x what : Int32) : sm_M G xX10_round (d + 2) [.ref mM, .int x, .int what] I ρ (mPost I ρ (o_round T w x what)) := by
  show sm_V G xX10_round (d + 2) 0 [.ref mM, .int x, .int what, .retAddr 0] [] I ρ _
  have h1 := hS.2.1.1
  have hT := hS.1
  have hq : mq I I := mq.rf hS.2.2.2.2
  refine wp_aload0 1 rfl dX10_round_0 ?_
  refine wp_iload1 2 rfl dX10_round_1 ?_
  refine wp_Ve1 5 rfl dX10_round_2 kX10_isRound lX10_396 (md_M hm) (nl rfl) (nl rfl) (s_isRound hm lv x hS.1.1.1 hS.1.1.2) ?_
  rw [hS.1.2.1.2.2]
  refine wp_if_ne 8 10 rfl rfl dX10_round_5 (fun c5 => ?_) (fun c5 => ?_)
  · obtain ⟨r, hr, rfl⟩ := (z_in_iff (by omega)).mp (z_b_ne.mp c5)
    obtain ⟨g1, g2, g3, g4⟩ := hT.2.2.2.2.1 r hr
    obtain ⟨k1, k2, ⟨e, he1, he2, he3⟩, k4⟩ := hS.2.1.2.2.2.1 r hr
    have hi : I mM 18 = nI lv := hT.1.1
    unfold o_round
    rw [z_ix_n hr (by omega)]
    refine wp_bipush (nI 10) 12 rfl dX10_round_10 (by decide) ?_
    refine wp_aload0 13 rfl dX10_round_12 ?_
    refine wp_geti 16 rfl dX10_round_13 fX10_233_10 (md_M hm) ?_
    refine wp_imul 17 rfl dX10_round_16 ?_
    refine wp_iload1 18 rfl dX10_round_17 ?_
    refine wp_iadd 19 rfl dX10_round_18 ?_
    refine wp_istore3 20 rfl dX10_round_19 (by decide) rfl ?_
    rw [hi, pk_mul, nI_add]
    by_cases hk : nI 0 ≤ what ∧ what ≤ nI 6 - nI 1
    · obtain ⟨k, hk9, rfl⟩ := (z_in_iff (by omega)).mp hk
      rw [z_ix_n hk9 (by omega)]
      match k, hk9 with
      | 0, _ =>
        refine wp_iload2 21 rfl dX10_round_20 ?_
        refine wp_tableIn (off := 39) 60 dX10_round_21 (by decide) (by decide) (by decide) rfl ?_
        refine wp_aload0 61 rfl dX10_round_60 ?_
        refine wp_getr 64 rfl dX10_round_61 fX10_61_10 (md_M hm) (mp_whoOf hm) ?_
        refine wp_iload3 65 rfl dX10_round_64 ?_
        refine wp_iald 66 rfl dX10_round_65 (ms_whoOf hm) (10 * lv + r) (rfl) (⟨by have := hT.1.2; omega, by decide⟩) ?_
        refine wp_iret dX10_round_66 rfl ?_
        exact sm_qi hq g1
      | 1, _ =>
        refine wp_iload2 21 rfl dX10_round_20 ?_
        refine wp_tableIn (off := 46) 67 dX10_round_21 (by decide) (by decide) (by decide) rfl ?_
        refine wp_aload0 68 rfl dX10_round_67 ?_
        refine wp_getr 71 rfl dX10_round_68 fX10_64_10 (md_M hm) (mp_doorOf hm) ?_
        refine wp_iload3 72 rfl dX10_round_71 ?_
        refine wp_iald 73 rfl dX10_round_72 (ms_doorOf hm) (10 * lv + r) (rfl) (⟨by have := hT.1.2; omega, by decide⟩) ?_
        refine wp_iret dX10_round_73 rfl ?_
        exact sm_qi hq g2
      | 2, _ =>
        refine wp_iload2 21 rfl dX10_round_20 ?_
        refine wp_tableIn (off := 53) 74 dX10_round_21 (by decide) (by decide) (by decide) rfl ?_
        refine wp_aload0 75 rfl dX10_round_74 ?_
        refine wp_getr 78 rfl dX10_round_75 fX10_67_10 (md_M hm) (mp_everyOf hm) ?_
        refine wp_iload3 79 rfl dX10_round_78 ?_
        refine wp_iald 80 rfl dX10_round_79 (ms_everyOf hm) (10 * lv + r) (rfl) (⟨by have := hT.1.2; omega, by decide⟩) ?_
        refine wp_iret dX10_round_80 rfl ?_
        exact sm_qi hq g3
      | 3, _ =>
        refine wp_iload2 21 rfl dX10_round_20 ?_
        refine wp_tableIn (off := 60) 81 dX10_round_21 (by decide) (by decide) (by decide) rfl ?_
        refine wp_aload0 82 rfl dX10_round_81 ?_
        refine wp_getr 85 rfl dX10_round_82 fX10_70_10 (md_M hm) (mp_fromOf hm) ?_
        refine wp_iload3 86 rfl dX10_round_85 ?_
        refine wp_iald 87 rfl dX10_round_86 (ms_fromOf hm) (10 * lv + r) (rfl) (⟨by have := hT.1.2; omega, by decide⟩) ?_
        refine wp_iret dX10_round_87 rfl ?_
        exact sm_qi hq g4
      | 4, _ =>
        refine wp_iload2 21 rfl dX10_round_20 ?_
        refine wp_tableIn (off := 67) 88 dX10_round_21 (by decide) (by decide) (by decide) rfl ?_
        refine wp_aload0 89 rfl dX10_round_88 ?_
        refine wp_getr 92 rfl dX10_round_89 fX10_119_10 (md_M hm) (mp_now hm) ?_
        refine wp_bipush (nI 54) 94 rfl dX10_round_92 (by decide) ?_
        refine wp_iload1 95 rfl dX10_round_94 ?_
        refine wp_iadd 96 rfl dX10_round_95 ?_
        refine wp_iald 97 rfl dX10_round_96 (ms_now hm) (54 + r) (by first | rfl | simp only [pk_mul, nI_add]) (⟨by omega, by decide⟩) ?_
        refine wp_iret dX10_round_97 rfl ?_
        exact sm_qi hq (by rw [hS.2.2.1]; rfl)
      | 5, _ =>
        refine wp_iload2 21 rfl dX10_round_20 ?_
        refine wp_tableIn (off := 77) 98 dX10_round_21 (by decide) (by decide) (by decide) rfl ?_
        refine wp_aload0 99 rfl dX10_round_98 ?_
        refine wp_iload1 100 rfl dX10_round_99 ?_
        refine wp_aload0 101 rfl dX10_round_100 ?_
        refine wp_getr 104 rfl dX10_round_101 fX10_119_10 (md_M hm) (mp_now hm) ?_
        refine wp_bipush (nI 69) 106 rfl dX10_round_104 (by decide) ?_
        refine wp_iald 107 rfl dX10_round_106 (ms_now hm) (69) (by first | rfl | simp only [pk_mul, nI_add]) (⟨by omega, by decide⟩) ?_
        refine wp_Ve2 110 rfl dX10_round_107 kX10_isDue lX10_370 (md_M hm) (nl rfl) (nl rfl) (s_isDue hm lv r _ hT.1.1 hT.1.2 (by omega) (by rw [g3, he3]; exact nI_ne0 (by omega) (by omega))) ?_
        rw [g3, g4, hS.2.2.1]
        refine wp_if_eq 113 117 rfl rfl dX10_round_110 (fun c110 => ?_) (fun c110 => ?_)
        · refine wp_iconst (nI 0) 118 rfl dX10_round_117 (by decide) ?_
          refine wp_iret dX10_round_118 rfl ?_
          exact sm_qi hq (z_bf (z_b_eq.mp c110)).symm
        · refine wp_iconst (nI 1) 114 rfl dX10_round_113 (by decide) ?_
          refine wp_goto 118 rfl dX10_round_114 ?_
          refine wp_iret dX10_round_118 rfl ?_
          exact sm_qi hq (z_bt (z_b_ne.mp c110)).symm
    · have hk0 := hk
      have hout : what.toInt < 0 ∨ 5 < what.toInt := by
        rw [pk_sub (by decide), Int32.le_iff_toInt_le, Int32.le_iff_toInt_le, nI_toInt (by decide), nI_toInt (by decide)] at hk
        omega
      refine wp_iload2 21 rfl dX10_round_20 ?_
      refine wp_tableOut 119 dX10_round_21 (hout) rfl ?_
      refine wp_iconst (-1) 120 rfl dX10_round_119 (by decide) ?_
      refine wp_iret dX10_round_120 rfl ?_
      refine sm_qi hq ?_
      rw [z_ix_o hk0]
  · refine wp_iconst (-1) 9 rfl dX10_round_8 (by decide) ?_
    refine wp_iret dX10_round_9 rfl ?_
    refine sm_qi hq ?_
    unfold o_round
    rw [z_ix_no (by omega) (fun h => z_b_eq.mp c5 ((z_in_iff (by omega)).mpr h))]
theorem r_bz_lt (T : tx) (w : Nat → Int32) (n : Nat) (ht : tok T) : ∀ r, r ≤ tx_R T → ∀ c, 5 ≤ c → r_bz T w n r c = nI 0
  | 0, _, _, _ => rfl
  | r + 1, hr, c, hc => by
    have k1 := (ht.2.2.2.1 r (by omega)).1
    have h1 := ht.1
    show upd (r_bz T w n r) (tx_who T r) _ c = nI 0
    rw [pk_un (by omega)]
    exact r_bz_lt T w n ht r (by omega) c hc
theorem z_argM_some (f : Nat → Int32) : ∀ n, ∃ b, z_argM f (n + 1) = some b
  | 0 => ⟨0, rfl⟩
  | n + 1 => by
    obtain ⟨b, hb⟩ := z_argM_some f n
    have e : z_argM f (n + 1 + 1) = (match z_argM f (n + 1) with
      | none => some (n + 1)
      | some b => if f b < f (n + 1) then some (n + 1) else some b) := rfl
    rw [e, hb]
    show ∃ c, (if f b < f (n + 1) then some (n + 1) else some b) = some c
    by_cases h : f b < f (n + 1)
    · exact ⟨_, if_pos h⟩
    · exact ⟨_, if_neg h⟩
theorem z_z5 (f : Nat → Int32) (n : Nat) : upd (fun j => if j < n then nI 0 else f j) n (nI 0) = fun j => if j < n + 1 then nI 0 else f j := by
  funext j
  unfold upd
  by_cases h : j = n
  · rw [if_pos h, if_pos (by omega)]
  · rw [if_neg h]
    show (if j < n then nI 0 else f j) = _
    by_cases h2 : j < n
    · rw [if_pos h2, if_pos (by omega)]
    · rw [if_neg h2, if_neg (by omega)]
theorem q_busy (hm : md ρ) (lv : Nat) (T : tx) (w : Nat → Int32) (hS : mS I lv T w) (n what : Int32) : sm_M G xX10_busy (d + 3) [.ref mM, .int n, .int what] I ρ (mPost I ρ (o_busy T w n what)) := by
  show sm_V G xX10_busy (d + 3) 0 [.ref mM, .int n, .int what, .retAddr 0, .retAddr 0] [] I ρ _
  have h1 := hS.2.1.1
  have no : (¬ (nI 1 ≤ n ∧ n ≤ nI 60) ∨ ¬ (nI 0 ≤ what ∧ what ≤ nI 1)) → sm_V G xX10_busy (d + 3) 16 [.ref mM, .int n, .int what, .retAddr 0, .retAddr 0] [] I ρ (mPost I ρ (o_busy T w n what)) := by
    intro hno
    refine wp_iconst (-1) 17 rfl dX10_busy_16 (by decide) ?_
    refine wp_iret dX10_busy_17 rfl ?_
    refine sm_qi (mq.rf hS.2.2.2.2) ?_
    unfold o_busy
    by_cases hn : nI 1 ≤ n ∧ n ≤ nI 60
    · obtain ⟨j, hj, rfl⟩ := (z_iv_iff (by omega) (by omega)).mp hn
      rw [z_iv_n hj (by omega) (by omega)]
      rcases hno with h | h
      · exact absurd hn h
      · rw [z_ix_no (by omega) (fun q => h ((z_in_lo rfl (by omega)).mpr q))]
    · rw [z_iv_o hn]
  refine wp_iload1 1 rfl dX10_busy_0 ?_
  refine wp_Se1 4 rfl dX10_busy_1 kX10_isSome lX10_427 (nl rfl) (nl rfl) (s_isSome _) ?_
  refine wp_if_eq 7 16 rfl rfl dX10_busy_4 (fun c4 => ?_) (fun c4 => ?_)
  · exact no (Or.inl (z_b_eq.mp c4))
  · obtain ⟨m, hm60, rfl⟩ := (z_iv_iff (by omega) (by omega)).mp (z_b_ne.mp c4)
    refine wp_iload2 8 rfl dX10_busy_7 ?_
    refine wp_iconst (nI 0) 9 rfl dX10_busy_8 (by decide) ?_
    refine wp_iconst (nI 1) 10 rfl dX10_busy_9 (by decide) ?_
    refine wp_Se3 13 rfl dX10_busy_10 kX10_in lX10_313 (nl rfl) (nl rfl) (s_in _ _ _) ?_
    refine wp_if_ne 16 18 rfl rfl dX10_busy_13 (fun c13 => ?_) (fun c13 => ?_)
    · obtain ⟨k, hk, rfl⟩ := (z_in_lo rfl (by omega)).mp (z_b_ne.mp c13)
      have e9 : o_busy T w (nI m) (nI k) = match z_argM (r_bz T w m (tx_R T)) (tx_C T) with
        | none => -2
        | some b => if k = 0 then nI b else r_bz T w m (tx_R T) b := by
        unfold o_busy
        rw [z_iv_n hm60 (by omega) (by omega), z_ix_n hk (by omega)]
        rfl
      rw [e9]
      by_cases hC : tx_C T = 0
      · rw [hC]
        refine wp_aload0 19 rfl dX10_busy_18 ?_
        refine wp_getr 22 rfl dX10_busy_19 fX10_52_10 (md_M hm) (mp_callers hm) ?_
        refine wp_aload0 23 rfl dX10_busy_22 ?_
        refine wp_geti 26 rfl dX10_busy_23 fX10_233_10 (md_M hm) ?_
        refine wp_iald 27 rfl dX10_busy_26 (ms_callers hm) (lv) (hS.1.1.1) (⟨hS.1.1.2, by decide⟩) ?_
        refine wp_if_ne 30 33 rfl rfl dX10_busy_27 (fun c27 => absurd (by rw [hS.1.2.1.2.1, hC]; rfl) c27) (fun c27 => ?_)
        refine wp_bipush (-2) 32 rfl dX10_busy_30 (by decide) ?_
        refine wp_iret dX10_busy_32 rfl ?_
        exact sm_qi (mq.rf hS.2.2.2.2) rfl
      · refine wp_aload0 19 rfl dX10_busy_18 ?_
        refine wp_getr 22 rfl dX10_busy_19 fX10_52_10 (md_M hm) (mp_callers hm) ?_
        refine wp_aload0 23 rfl dX10_busy_22 ?_
        refine wp_geti 26 rfl dX10_busy_23 fX10_233_10 (md_M hm) ?_
        refine wp_iald 27 rfl dX10_busy_26 (ms_callers hm) (lv) (hS.1.1.1) (⟨hS.1.1.2, by decide⟩) ?_
        refine wp_if_ne 30 33 rfl rfl dX10_busy_27 (fun c27 => ?_) (fun c27 => absurd c27 (by rw [hS.1.2.1.2.1]; exact nI_ne0 (by omega) (by omega)))
        refine wp_iconst (nI 0) 34 rfl dX10_busy_33 (by decide) ?_
        refine wp_istore3 35 rfl dX10_busy_34 (by decide) rfl ?_
        have ez : sm_a I m_busyOf (fun j => if j < 0 then nI 0 else I m_busyOf j) = I := by
          funext a j
          unfold sm_a
          split
          · rename_i h; subst h; rfl
          · rfl
        suffices hh : sm_V G xX10_busy (d + 3) 35 [.ref mM, .int (nI m), .int (nI k), .int (nI 0), .retAddr 0] [] (sm_a I m_busyOf (fun j => if j < 0 then nI 0 else I m_busyOf j)) ρ (mPost I ρ (match z_argM (r_bz T w m (tx_R T)) (tx_C T) with
          | none => -2
          | some b => if k = 0 then nI b else r_bz T w m (tx_R T) b)) by
          rw [ez] at hh
          exact hh
        refine sm_for (P := fun c => sm_V G xX10_busy (d + 3) 35 [.ref mM, .int (nI m), .int (nI k), .int (nI c), .retAddr 0] [] (sm_a I m_busyOf (fun j => if j < c then nI 0 else I m_busyOf j)) ρ _) 0 5 (nl rfl) ?_ (fun c _ hc ih => ?_)
        · obtain ⟨J, hJ⟩ : ∃ J, J = sm_a I m_busyOf (fun j => if j < 5 then nI 0 else I m_busyOf j) := ⟨_, rfl⟩
          rw [← hJ]
          have hfJ : mf [m_busyOf] [] I J := by rw [hJ]; exact mf.a (by decide) (by decide)
          have hb0 : ∀ c, c < 5 → J m_busyOf c = r_bz T w m 0 c := fun c hc => by
            rw [hJ, sm_a_eq, if_pos hc]
            rfl
          clear hJ
          refine wp_iload3 36 rfl dX10_busy_35 ?_
          refine wp_iconst (nI 5) 37 rfl dX10_busy_36 (by decide) ?_
          refine wp_icmp_ge 40 53 rfl rfl dX10_busy_37 (fun c37 => ?_) (fun c37 => absurd (by decide) c37)
          refine wp_iconst (nI 0) 54 rfl dX10_busy_53 (by decide) ?_
          refine wp_istore3 55 rfl dX10_busy_54 (by decide) rfl ?_
          refine sm_for (P := fun r => ∀ J1 : sm_I, mf [m_busyOf] [] I J1 → (∀ c, c < 5 → J1 m_busyOf c = r_bz T w m r c) → sm_V G xX10_busy (d + 3) 55 [.ref mM, .int (nI m), .int (nI k), .int (nI r), .retAddr 0] [] J1 ρ _) 0 (tx_R T) (Nat.zero_le _) ?_ (fun r _ hr ih => ?_) J hfJ hb0
          · intro J1 hf1 hb1
            have hT := hS.1.kept hf1 (by decide) (by decide)
            have hqq : mq I J1 := ⟨hf1.wk (by decide) (by decide), by rw [hf1.1 m_row (by decide) (by decide)]; exact hS.2.2.2.2⟩
            obtain ⟨f, hf⟩ : ∃ f, f = r_bz T w m (tx_R T) := ⟨_, rfl⟩
            rw [← hf] at hb1 ⊢
            refine wp_iload3 56 rfl dX10_busy_55 ?_
            refine wp_aload0 57 rfl dX10_busy_56 ?_
            refine wp_getr 60 rfl dX10_busy_57 fX10_58_10 (md_M hm) (mp_rounds hm) ?_
            refine wp_aload0 61 rfl dX10_busy_60 ?_
            refine wp_geti 64 rfl dX10_busy_61 fX10_233_10 (md_M hm) ?_
            refine wp_iald 65 rfl dX10_busy_64 (ms_rounds hm) (lv) (hT.1.1) (⟨hT.1.2, by decide⟩) ?_
            refine wp_icmp_ge 68 102 rfl rfl dX10_busy_65 (fun c65 => ?_) (fun c65 => absurd (by rw [hT.2.1.2.2]; exact nI_le (Nat.le_refl _) (by omega)) c65)
            refine wp_iconst (nI 0) 103 rfl dX10_busy_102 (by decide) ?_
            refine wp_istore3 104 rfl dX10_busy_103 (by decide) rfl ?_
            refine wp_iconst (nI 1) 105 rfl dX10_busy_104 (by decide) ?_
            refine wp_istore4 107 rfl dX10_busy_105 (by decide) rfl ?_
            refine sm_for (P := fun c => sm_V G xX10_busy (d + 3) 107 [.ref mM, .int (nI m), .int (nI k), .int (z_on (z_argM f c)), .int (nI c)] [] J1 ρ _) 1 (tx_C T) (by omega) ?_ (fun c hc1 hc ih => ?_)
            · obtain ⟨b, hb⟩ := z_argM_some f (tx_C T - 1)
              rw [show tx_C T - 1 + 1 = tx_C T by omega] at hb
              have hbc := z_argM_lt hb
              rw [hb]
              show sm_V G xX10_busy (d + 3) 107 [.ref mM, .int (nI m), .int (nI k), .int (nI b), .int (nI (tx_C T))] [] J1 ρ (mPost I ρ (if k = 0 then nI b else f b))
              by_cases hk0 : k = 0
              · rw [if_pos hk0]
                refine wp_iload4 109 rfl dX10_busy_107 ?_
                refine wp_aload0 110 rfl dX10_busy_109 ?_
                refine wp_getr 113 rfl dX10_busy_110 fX10_52_10 (md_M hm) (mp_callers hm) ?_
                refine wp_aload0 114 rfl dX10_busy_113 ?_
                refine wp_geti 117 rfl dX10_busy_114 fX10_233_10 (md_M hm) ?_
                refine wp_iald 118 rfl dX10_busy_117 (ms_callers hm) (lv) (hT.1.1) (⟨hT.1.2, by decide⟩) ?_
                refine wp_icmp_ge 121 146 rfl rfl dX10_busy_118 (fun c118 => ?_) (fun c118 => absurd (by rw [hT.2.1.2.1]; exact nI_le (Nat.le_refl _) (by omega)) c118)
                refine wp_iload2 147 rfl dX10_busy_146 ?_
                refine wp_if_ne 150 154 rfl rfl dX10_busy_147 (fun c147 => absurd (by rw [hk0]; rfl) c147) (fun c147 => ?_)
                refine wp_iload3 151 rfl dX10_busy_150 ?_
                refine wp_goto 160 rfl dX10_busy_151 ?_
                refine wp_iret dX10_busy_160 rfl ?_
                exact sm_qi hqq rfl
              · rw [if_neg hk0]
                refine wp_iload4 109 rfl dX10_busy_107 ?_
                refine wp_aload0 110 rfl dX10_busy_109 ?_
                refine wp_getr 113 rfl dX10_busy_110 fX10_52_10 (md_M hm) (mp_callers hm) ?_
                refine wp_aload0 114 rfl dX10_busy_113 ?_
                refine wp_geti 117 rfl dX10_busy_114 fX10_233_10 (md_M hm) ?_
                refine wp_iald 118 rfl dX10_busy_117 (ms_callers hm) (lv) (hT.1.1) (⟨hT.1.2, by decide⟩) ?_
                refine wp_icmp_ge 121 146 rfl rfl dX10_busy_118 (fun c118 => ?_) (fun c118 => absurd (by rw [hT.2.1.2.1]; exact nI_le (Nat.le_refl _) (by omega)) c118)
                refine wp_iload2 147 rfl dX10_busy_146 ?_
                refine wp_if_ne 150 154 rfl rfl dX10_busy_147 (fun c147 => ?_) (fun c147 => absurd c147 (nI_ne0 (by omega) (by omega)))
                refine wp_aload0 155 rfl dX10_busy_154 ?_
                refine wp_getr 158 rfl dX10_busy_155 fX10_134_10 (md_M hm) (mp_busyOf hm) ?_
                refine wp_iload3 159 rfl dX10_busy_158 ?_
                refine wp_iald 160 rfl dX10_busy_159 (ms_busyOf hm) (b) (by first | rfl | simp only [pk_mul, nI_add]) (⟨by omega, by decide⟩) ?_
                refine wp_iret dX10_busy_160 rfl ?_
                exact sm_qi hqq (hb1 b (by omega))
            · obtain ⟨b, hb⟩ := z_argM_some f (c - 1)
              rw [show c - 1 + 1 = c by omega] at hb
              have hbc := z_argM_lt hb
              have es : z_argM f (c + 1) = (match z_argM f c with
                | none => some c
                | some b => if f b < f c then some c else some b) := rfl
              rw [es, hb] at ih
              rw [hb]
              show sm_V G xX10_busy (d + 3) 107 [.ref mM, .int (nI m), .int (nI k), .int (nI b), .int (nI c)] [] J1 ρ _
              refine wp_iload4 109 rfl dX10_busy_107 ?_
              refine wp_aload0 110 rfl dX10_busy_109 ?_
              refine wp_getr 113 rfl dX10_busy_110 fX10_52_10 (md_M hm) (mp_callers hm) ?_
              refine wp_aload0 114 rfl dX10_busy_113 ?_
              refine wp_geti 117 rfl dX10_busy_114 fX10_233_10 (md_M hm) ?_
              refine wp_iald 118 rfl dX10_busy_117 (ms_callers hm) (lv) (hT.1.1) (⟨hT.1.2, by decide⟩) ?_
              refine wp_icmp_ge 121 146 rfl rfl dX10_busy_118 (fun c118 => absurd c118 (by rw [hT.2.1.2.1]; exact nI_ge hc (by omega))) (fun c118 => ?_)
              refine wp_aload0 122 rfl dX10_busy_121 ?_
              refine wp_getr 125 rfl dX10_busy_122 fX10_134_10 (md_M hm) (mp_busyOf hm) ?_
              refine wp_iload4 127 rfl dX10_busy_125 ?_
              refine wp_iald 128 rfl dX10_busy_127 (ms_busyOf hm) (c) (by first | rfl | simp only [pk_mul, nI_add]) (⟨by omega, by decide⟩) ?_
              refine wp_aload0 129 rfl dX10_busy_128 ?_
              refine wp_getr 132 rfl dX10_busy_129 fX10_134_10 (md_M hm) (mp_busyOf hm) ?_
              refine wp_iload3 133 rfl dX10_busy_132 ?_
              refine wp_iald 134 rfl dX10_busy_133 (ms_busyOf hm) (b) (by first | rfl | simp only [pk_mul, nI_add]) (⟨by omega, by decide⟩) ?_
              rw [hb1 c (by omega), hb1 b (by omega)]
              refine wp_icmp_le 137 140 rfl rfl dX10_busy_134 (fun c134 => ?_) (fun c134 => ?_)
              · rw [show (match some b with
                  | none => some c
                  | some b => if f b < f c then some c else some b) = some b from if_neg (i_lt_le c134)] at ih
                refine wp_iincN4 143 rfl dX10_busy_140 (by decide) rfl ?_
                refine wp_goto 107 rfl dX10_busy_143 ?_
                exact ih
              · rw [show (match some b with
                  | none => some c
                  | some b => if f b < f c then some c else some b) = some c from if_pos (i_nle c134)] at ih
                refine wp_iload4 139 rfl dX10_busy_137 ?_
                refine wp_istore3 140 rfl dX10_busy_139 (by decide) rfl ?_
                refine wp_iincN4 143 rfl dX10_busy_140 (by decide) rfl ?_
                refine wp_goto 107 rfl dX10_busy_143 ?_
                exact ih
          · intro J1 hf1 hb1
            have hT := hS.1.kept hf1 (by decide) (by decide)
            have hS1 : mS J1 lv T w := ⟨hT, hS.2.1, by rw [hf1.1 m_now (by decide) (by decide)]; exact hS.2.2.1, hS.2.2.2.1, by rw [hf1.1 m_row (by decide) (by decide)]; exact hS.2.2.2.2⟩
            obtain ⟨g1, -⟩ := hT.2.2.2.2.1 r hr
            have k1 := (hS.2.1.2.2.2.1 r hr).1
            refine wp_iload3 56 rfl dX10_busy_55 ?_
            refine wp_aload0 57 rfl dX10_busy_56 ?_
            refine wp_getr 60 rfl dX10_busy_57 fX10_58_10 (md_M hm) (mp_rounds hm) ?_
            refine wp_aload0 61 rfl dX10_busy_60 ?_
            refine wp_geti 64 rfl dX10_busy_61 fX10_233_10 (md_M hm) ?_
            refine wp_iald 65 rfl dX10_busy_64 (ms_rounds hm) (lv) (hT.1.1) (⟨hT.1.2, by decide⟩) ?_
            refine wp_icmp_ge 68 102 rfl rfl dX10_busy_65 (fun c65 => absurd c65 (by rw [hT.2.1.2.2]; exact nI_ge hr (by omega))) (fun c65 => ?_)
            refine wp_aload0 69 rfl dX10_busy_68 ?_
            refine wp_getr 72 rfl dX10_busy_69 fX10_134_10 (md_M hm) (mp_busyOf hm) ?_
            refine wp_aload0 73 rfl dX10_busy_72 ?_
            refine wp_getr 76 rfl dX10_busy_73 fX10_61_10 (md_M hm) (mp_whoOf hm) ?_
            refine wp_bipush (nI 10) 78 rfl dX10_busy_76 (by decide) ?_
            refine wp_aload0 79 rfl dX10_busy_78 ?_
            refine wp_geti 82 rfl dX10_busy_79 fX10_233_10 (md_M hm) ?_
            refine wp_imul 83 rfl dX10_busy_82 ?_
            refine wp_iload3 84 rfl dX10_busy_83 ?_
            refine wp_iadd 85 rfl dX10_busy_84 ?_
            refine wp_iald 86 rfl dX10_busy_85 (ms_whoOf hm) (10 * lv + r) (by rw [hT.1.1, pk_mul, nI_add]) (⟨by have := hT.1.2; omega, by decide⟩) ?_
            rw [g1]
            refine wp_dup2 87 rfl dX10_busy_86 rfl rfl ?_
            refine wp_iald 88 rfl dX10_busy_87 (ms_busyOf hm) (tx_who T r) (by first | rfl | simp only [pk_mul, nI_add]) (⟨by omega, by decide⟩) ?_
            refine wp_aload0 89 rfl dX10_busy_88 ?_
            refine wp_iload3 90 rfl dX10_busy_89 ?_
            refine wp_iload1 91 rfl dX10_busy_90 ?_
            refine wp_Ve2 94 rfl dX10_busy_91 kX10_timesDue lX10_448 (md_M hm) (nl rfl) (nl rfl) (s_timesDue hm lv T w hS1 r m hr hm60.2) ?_
            refine wp_iadd 95 rfl dX10_busy_94 ?_
            refine wp_iast 96 rfl dX10_busy_95 (ms_busyOf hm) (tx_who T r) (by first | rfl | simp only [pk_mul, nI_add]) (⟨by omega, by decide⟩) ?_
            refine wp_iincN3 99 rfl dX10_busy_96 (by decide) rfl ?_
            refine wp_goto 55 rfl dX10_busy_99 ?_
            refine ih _ (hf1.tr (mf.u (by decide) (by decide))) (fun c hc => ?_)
            show sm_u J1 m_busyOf (tx_who T r) _ m_busyOf c = upd (r_bz T w m r) (tx_who T r) (r_bz T w m r (tx_who T r) + r_times T w r m) c
            rw [sm_u_eq, hb1 _ (by omega)]
            unfold upd
            by_cases e : c = tx_who T r
            · rw [if_pos e, if_pos e]
            · rw [if_neg e, if_neg e, hb1 c hc]
        · have ih := ih
          rw [← z_z5, ← sm_a_u] at ih
          refine wp_iload3 36 rfl dX10_busy_35 ?_
          refine wp_iconst (nI 5) 37 rfl dX10_busy_36 (by decide) ?_
          refine wp_icmp_ge 40 53 rfl rfl dX10_busy_37 (fun c37 => absurd c37 (nI_ge hc (by decide))) (fun c37 => ?_)
          refine wp_aload0 41 rfl dX10_busy_40 ?_
          refine wp_getr 44 rfl dX10_busy_41 fX10_134_10 (md_M hm) (mp_busyOf hm) ?_
          refine wp_iload3 45 rfl dX10_busy_44 ?_
          refine wp_iconst (nI 0) 46 rfl dX10_busy_45 (by decide) ?_
          refine wp_iast 47 rfl dX10_busy_46 (ms_busyOf hm) (c) (by first | rfl | simp only [pk_mul, nI_add]) (⟨by omega, by decide⟩) ?_
          refine wp_iincN3 50 rfl dX10_busy_47 (by decide) rfl ?_
          refine wp_goto 35 rfl dX10_busy_50 ?_
          exact ih
    · exact no (Or.inr (z_b_eq.mp c13))
end M16
