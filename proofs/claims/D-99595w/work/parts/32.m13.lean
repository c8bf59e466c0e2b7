/-! ===== year, towards, nearest, flat, richest, same, round ===== -/
set_option maxRecDepth 100000
section M13
variable {G : sm_G} {d : Nat} {I : sm_I} {ρ : sm_R}
theorem q_year (hm : md ρ) (lv : Nat) (T : tx) (w : Nat → Int32) (hS : mS I lv T w) (x y n s : Int32) : sm_M G xX10_year (d + 6) [.ref mM, .int x, .int y, .int n, .int s] I ρ (mPost I ρ (o_year T w x y n s)) := by
  show sm_V G xX10_year (d + 6) 0 [.ref mM, .int x, .int y, .int n, .int s, .retAddr 0, .retAddr 0] [] I ρ _
  have h1 := hS.2.1.1
  have no : (¬ ((∃ j, j < tx_D T ∧ x = nI j) ∧ ∃ j, j < tx_C T ∧ y = nI j) ∨ ¬ (nI 0 ≤ n ∧ n ≤ nI 60) ∨ ¬ (nI 1 ≤ s ∧ s ≤ nI 20)) → sm_V G xX10_year (d + 6) 27 [.ref mM, .int x, .int y, .int n, .int s, .retAddr 0, .retAddr 0] [] I ρ (mPost I ρ (o_year T w x y n s)) := by
    intro hno
    refine wp_iconst (-1) 28 rfl dX10_year_27 (by decide) ?_
    refine wp_iret dX10_year_28 rfl ?_
    refine sm_qi (mq.rf hS.2.2.2.2) ?_
    unfold o_year
    by_cases hb : (∃ j, j < tx_D T ∧ x = nI j) ∧ ∃ j, j < tx_C T ∧ y = nI j
    · obtain ⟨⟨dd, hd, rfl⟩, c, hc, rfl⟩ := hb
      rw [z_ix_n hd (by omega), z_ix_n hc (by omega)]
      by_cases hn : nI 0 ≤ n ∧ n ≤ nI 60
      · obtain ⟨j, hj, rfl⟩ := (z_iv_iff (by omega) (by omega)).mp hn
        rw [z_iv_n hj (by omega) (by omega)]
        rcases hno with h | h | h
        · exact absurd ⟨⟨dd, hd, rfl⟩, c, hc, rfl⟩ h
        · exact absurd hn h
        · rw [z_iv_o h]
      · rw [z_iv_o hn]
    · exact (o_none2 (by omega) (by omega) hb).symm
  refine wp_aload0 1 rfl dX10_year_0 ?_
  refine wp_iload1 2 rfl dX10_year_1 ?_
  refine wp_iload2 3 rfl dX10_year_2 ?_
  refine wp_Ve2 6 rfl dX10_year_3 kX10_areBoth lX10_399 (md_M hm) (nl rfl) (nl rfl) (s_areBoth hm lv T hS.1 hS.2.1 x y) ?_
  refine wp_if_eq 9 27 rfl rfl dX10_year_6 (fun c6 => ?_) (fun c6 => ?_)
  · exact no (Or.inl (z_b_eq.mp c6))
  · obtain ⟨⟨dd, hd, rfl⟩, c, hc, rfl⟩ := z_b_ne.mp c6
    refine wp_iload3 10 rfl dX10_year_9 ?_
    refine wp_Se1 13 rfl dX10_year_10 kX10_isLong lX10_411 (nl rfl) (nl rfl) (s_isLong _) ?_
    refine wp_if_eq 16 27 rfl rfl dX10_year_13 (fun c13 => ?_) (fun c13 => ?_)
    · exact no (Or.inr (Or.inl (z_b_eq.mp c13)))
    · obtain ⟨m, hm60, rfl⟩ := (z_iv_iff (by omega) (by omega)).mp (z_b_ne.mp c13)
      refine wp_iload4 18 rfl dX10_year_16 ?_
      refine wp_iconst (nI 1) 19 rfl dX10_year_18 (by decide) ?_
      refine wp_bipush (nI 20) 21 rfl dX10_year_19 (by decide) ?_
      refine wp_Se3 24 rfl dX10_year_21 kX10_in lX10_313 (nl rfl) (nl rfl) (s_in _ _ _) ?_
      refine wp_if_ne 27 29 rfl rfl dX10_year_24 (fun c24 => ?_) (fun c24 => ?_)
      · obtain ⟨q, hq20, rfl⟩ := (z_iv_iff (by omega) (by omega)).mp (z_b_ne.mp c24)
        have e9 : o_year T w (nI dd) (nI c) (nI m) (nI q) = z_sum (fun k => if r_known T (r_days T (nI 0) (tx_seed T + nI k) w m) dd = nI c then nI 1 else nI 0) q := by
          unfold o_year
          rw [z_ix_n hd (by omega), z_ix_n hc (by omega), z_iv_n hm60 (by omega) (by omega), z_iv_n hq20 (by omega) (by omega)]
        rw [e9]
        refine wp_iconst (nI 0) 30 rfl dX10_year_29 (by decide) ?_
        refine wp_istore5 32 rfl dX10_year_30 (by decide) rfl ?_
        refine wp_iconst (nI 0) 33 rfl dX10_year_32 (by decide) ?_
        refine wp_istore6 35 rfl dX10_year_33 (by decide) rfl ?_
        refine sm_for (P := fun p => ∀ J : sm_I, mq I J → sm_V G xX10_year (d + 6) 35 [.ref mM, .int (nI dd), .int (nI c), .int (nI m), .int (nI q), .int (z_sum (fun k => if r_known T (r_days T (nI 0) (tx_seed T + nI k) w m) dd = nI c then nI 1 else nI 0) p), .int (nI p)] [] J ρ _) 0 q (Nat.zero_le _) ?_ (fun p _ hp ih => ?_) I (mq.rf hS.2.2.2.2)
        · intro J hqJ
          refine wp_iload6 37 rfl dX10_year_35 ?_
          refine wp_iload4 39 rfl dX10_year_37 ?_
          refine wp_icmp_ge 42 80 rfl rfl dX10_year_39 (fun c39 => ?_) (fun c39 => absurd (nI_le (Nat.le_refl _) (by omega)) c39)
          refine wp_iload5 82 rfl dX10_year_80 ?_
          refine wp_iret dX10_year_82 rfl ?_
          exact sm_qi hqJ rfl
        · intro J hqJ
          have hSJ := hS.q hqJ
          have hq0 := cp_q hSJ
          have hr := cp_row hSJ
          have h53 := cp_53 hSJ
          have h54 := cp_54 (I := J) (lv := lv)
          refine wp_iload6 37 rfl dX10_year_35 ?_
          refine wp_iload4 39 rfl dX10_year_37 ?_
          refine wp_icmp_ge 42 80 rfl rfl dX10_year_39 (fun c39 => absurd c39 (nI_ge hp (by omega))) (fun c39 => ?_)
          refine wp_aload0 43 rfl dX10_year_42 ?_
          refine wp_Ve0 46 rfl dX10_year_43 kX10_copies lX10_323 (md_M hm) (nl rfl) (nl rfl) (s_copies hm lv hSJ.1.1.1 hSJ.1.1.2) ?_
          generalize M_cp J lv = J0 at hq0 hr h53 h54 ⊢
          refine wp_aload0 47 rfl dX10_year_46 ?_
          refine wp_dup 48 rfl dX10_year_47 rfl ?_
          refine wp_geti 51 rfl dX10_year_48 fX10_317_10 (md_M hm) ?_
          refine wp_iload6 53 rfl dX10_year_51 ?_
          refine wp_iadd 54 rfl dX10_year_53 ?_
          refine wp_puti 57 rfl dX10_year_54 pX10_317_10 (md_M hm) ⟨rfl, rfl⟩ ?_
          rw [h53]
          have hq1 : mq J (sm_u J0 mM 53 (tx_seed T + nI p)) := hq0.tr (mf.uM (by decide)) hq0.2
          have hr1 : sm_u J0 mM 53 (tx_seed T + nI p) m_row = w := hr
          have h53' : sm_u J0 mM 53 (tx_seed T + nI p) mM 53 = tx_seed T + nI p := rfl
          have h54' : sm_u J0 mM 53 (tx_seed T + nI p) mM 54 = nI 0 := h54
          generalize sm_u J0 mM 53 (tx_seed T + nI p) = J1 at hq1 hr1 h53' h54' ⊢
          have hT1 : mT J1 lv T := hSJ.1.kept hq1.1 (by decide) (by decide)
          refine wp_aload0 58 rfl dX10_year_57 ?_
          refine wp_iload3 59 rfl dX10_year_58 ?_
          refine wp_Vv1 62 rfl dX10_year_59 kX10_goes lX10_414 (md_M hm) (nl rfl) (nl rfl) (s_goes hm lv T hT1 hS.2.1 m hm60.2) (fun J2 ρ2 hq2 => ?_)
          obtain ⟨rfl, hf2, hw2⟩ := hq2
          rw [hr1, h53', h54'] at hw2
          have hT2 := hT1.kept hf2 (by decide) (by decide)
          have hqq := sc_q hq1 hf2 hw2 (w70_days hS.2.1 hS.2.2.2.1 _)
          have es : z_sum (fun k => if r_known T (r_days T (nI 0) (tx_seed T + nI k) w m) dd = nI c then nI 1 else nI 0) (p + 1) = z_sum (fun k => if r_known T (r_days T (nI 0) (tx_seed T + nI k) w m) dd = nI c then nI 1 else nI 0) p + (if r_known T (r_days T (nI 0) (tx_seed T + nI p) w m) dd = nI c then nI 1 else nI 0) := rfl
          rw [es] at ih
          refine wp_aload0 63 rfl dX10_year_62 ?_
          refine wp_iload1 64 rfl dX10_year_63 ?_
          refine wp_Ve1 67 rfl dX10_year_64 kX10_knownBy lX10_390 (md_M hm) (nl rfl) (nl rfl) (s_knownBy hm lv dd (tx_C T) hT2.1.1 hT2.1.2 (by omega) hT2.2.1.2.1 h1.2.1) ?_
          refine wp_iload2 68 rfl dX10_year_67 ?_
          rw [k_by_r hT2, hw2]
          have hfin := ih J2 ⟨hqJ.1.tr hqq.1, hqq.2⟩
          refine wp_icmp_ne 71 74 rfl rfl dX10_year_68 (fun c68 => ?_) (fun c68 => ?_)
          · rw [if_neg c68, show ∀ a : Int32, a + nI 0 = a from fun a => by rw [show nI 0 = (0 : Int32) from rfl]; simp] at hfin
            refine wp_iincN6 77 rfl dX10_year_74 (by decide) rfl ?_
            refine wp_goto 35 rfl dX10_year_77 ?_
            exact hfin
          · rw [if_pos c68] at hfin
            refine wp_iinc5 74 rfl (nI 1) (by decide) dX10_year_71 (by decide) rfl ?_
            refine wp_iincN6 77 rfl dX10_year_74 (by decide) rfl ?_
            refine wp_goto 35 rfl dX10_year_77 ?_
            exact hfin
      · exact no (Or.inr (Or.inr (z_b_eq.mp c24)))
/-- the best so far, as the code keeps it -/
theorem z_on_neg {b : Option Nat} (hb : ∀ k, b = some k → k < 1000) : z_on b < 0 ↔ b = none := by
  cases b with
  | none => exact ⟨fun _ => rfl, fun _ => by decide⟩
  | some k =>
    have := hb k rfl
    constructor
    · intro h
      exact absurd h (nI_pos (by omega))
    · intro h
      cases h
theorem q_nearest (hm : md ρ) (lv : Nat) (T : tx) (w : Nat → Int32) (hS : mS I lv T w) (x q : Int32) : sm_M G xX10_nearest (d + 2) [.ref mM, .int x, .int q] I ρ (mPost I ρ (o_nearest T w x q)) := by
  show sm_V G xX10_nearest (d + 2) 0 [.ref mM, .int x, .int q, .retAddr 0, .retAddr 0] [] I ρ _
  have h1 := hS.2.1.1
  have hT := hS.1
  have hnow := hS.2.2.1
  have no : (¬ (∃ j, j < tx_D T ∧ x = nI j) ∨ ¬ (nI 0 ≤ q ∧ q ≤ nI 3)) → sm_V G xX10_nearest (d + 2) 15 [.ref mM, .int x, .int q, .retAddr 0, .retAddr 0] [] I ρ (mPost I ρ (o_nearest T w x q)) := by
    intro hno
    refine wp_iconst (-1) 16 rfl dX10_nearest_15 (by decide) ?_
    refine wp_iret dX10_nearest_16 rfl ?_
    refine sm_qi (mq.rf hS.2.2.2.2) ?_
    unfold o_nearest
    by_cases hx : ∃ j, j < tx_D T ∧ x = nI j
    · obtain ⟨dd, hd, rfl⟩ := hx
      rw [z_ix_n hd (by omega)]
      rcases hno with h | h
      · exact absurd ⟨dd, hd, rfl⟩ h
      · rw [z_ix_no (by omega) (fun q => h ((z_in_lo rfl (by omega)).mpr q))]
    · rw [z_ix_no (by omega) hx]
  refine wp_aload0 1 rfl dX10_nearest_0 ?_
  refine wp_iload1 2 rfl dX10_nearest_1 ?_
  refine wp_Ve1 5 rfl dX10_nearest_2 kX10_isDoor lX10_387 (md_M hm) (nl rfl) (nl rfl) (s_isDoor hm lv x hS.1.1.1 hS.1.1.2) ?_
  rw [hS.1.2.1.1]
  refine wp_if_eq 8 15 rfl rfl dX10_nearest_5 (fun c5 => ?_) (fun c5 => ?_)
  · exact no (Or.inl (fun h => z_b_eq.mp c5 ((z_in_iff (by omega)).mpr h)))
  · obtain ⟨dd, hd, rfl⟩ := (z_in_iff (by omega)).mp (z_b_ne.mp c5)
    refine wp_iload2 9 rfl dX10_nearest_8 ?_
    refine wp_Se1 12 rfl dX10_nearest_9 kX10_isPart lX10_408 (nl rfl) (nl rfl) (s_isPart _) ?_
    refine wp_if_ne 15 17 rfl rfl dX10_nearest_12 (fun c12 => ?_) (fun c12 => ?_)
    · obtain ⟨p, hp, rfl⟩ := (z_in_lo rfl (by omega)).mp (z_b_ne.mp c12)
      have e9 : o_nearest T w (nI dd) (nI p) = z_on (z_arg (fun c => z_off (w (4 * dd + p)) (tx_cf T (4 * c + p))) (tx_C T)) := by
        unfold o_nearest
        rw [z_ix_n hd (by omega), z_ix_n hp (by omega)]
      rw [e9]
      have ecf : ∀ c, c < tx_C T → I m_faceOf (20 * lv + 4 * c + p) = tx_cf T (4 * c + p) := fun c hc => by rw [Nat.add_assoc]; exact hT.2.2.1 _ (by omega)
      refine wp_bipush (-2) 19 rfl dX10_nearest_17 (by decide) ?_
      refine wp_istore3 20 rfl dX10_nearest_19 (by decide) rfl ?_
      refine wp_iconst (nI 0) 21 rfl dX10_nearest_20 (by decide) ?_
      refine wp_istore4 23 rfl dX10_nearest_21 (by decide) rfl ?_
      refine sm_for (P := fun c => sm_V G xX10_nearest (d + 2) 23 [.ref mM, .int (nI dd), .int (nI p), .int (z_on (z_arg (fun c => z_off (w (4 * dd + p)) (tx_cf T (4 * c + p))) c)), .int (nI c)] [] I ρ _) 0 (tx_C T) (Nat.zero_le _) ?_ (fun c _ hc ih => ?_)
      · refine wp_iload4 25 rfl dX10_nearest_23 ?_
        refine wp_aload0 26 rfl dX10_nearest_25 ?_
        refine wp_getr 29 rfl dX10_nearest_26 fX10_52_10 (md_M hm) (mp_callers hm) ?_
        refine wp_aload0 30 rfl dX10_nearest_29 ?_
        refine wp_geti 33 rfl dX10_nearest_30 fX10_233_10 (md_M hm) ?_
        refine wp_iald 34 rfl dX10_nearest_33 (ms_callers hm) (lv) (hT.1.1) (⟨hT.1.2, by decide⟩) ?_
        refine wp_icmp_ge 37 92 rfl rfl dX10_nearest_34 (fun c34 => ?_) (fun c34 => absurd (by rw [hT.2.1.2.1]; exact nI_le (Nat.le_refl _) (by omega)) c34)
        refine wp_iload3 93 rfl dX10_nearest_92 ?_
        refine wp_iret dX10_nearest_93 rfl ?_
        exact sm_qi (mq.rf hS.2.2.2.2) rfl
      · have es : z_arg (fun c => z_off (w (4 * dd + p)) (tx_cf T (4 * c + p))) (c + 1) = (match z_arg (fun c => z_off (w (4 * dd + p)) (tx_cf T (4 * c + p))) c with
          | none => some c
          | some b => if z_off (w (4 * dd + p)) (tx_cf T (4 * c + p)) < z_off (w (4 * dd + p)) (tx_cf T (4 * b + p)) then some c else some b) := rfl
        rw [es] at ih
        refine wp_iload4 25 rfl dX10_nearest_23 ?_
        refine wp_aload0 26 rfl dX10_nearest_25 ?_
        refine wp_getr 29 rfl dX10_nearest_26 fX10_52_10 (md_M hm) (mp_callers hm) ?_
        refine wp_aload0 30 rfl dX10_nearest_29 ?_
        refine wp_geti 33 rfl dX10_nearest_30 fX10_233_10 (md_M hm) ?_
        refine wp_iald 34 rfl dX10_nearest_33 (ms_callers hm) (lv) (hT.1.1) (⟨hT.1.2, by decide⟩) ?_
        refine wp_icmp_ge 37 92 rfl rfl dX10_nearest_34 (fun c34 => absurd c34 (by rw [hT.2.1.2.1]; exact nI_ge hc (by omega))) (fun c34 => ?_)
        refine wp_iload3 38 rfl dX10_nearest_37 ?_
        cases hb : z_arg (fun c => z_off (w (4 * dd + p)) (tx_cf T (4 * c + p))) c with
        | none =>
          rw [hb] at ih
          refine wp_if_lt 41 83 rfl rfl dX10_nearest_38 (fun c38 => ?_) (fun c38 => absurd (by decide) c38)
          refine wp_iload4 85 rfl dX10_nearest_83 ?_
          refine wp_istore3 86 rfl dX10_nearest_85 (by decide) rfl ?_
          refine wp_iincN4 89 rfl dX10_nearest_86 (by decide) rfl ?_
          refine wp_goto 23 rfl dX10_nearest_89 ?_
          exact ih
        | some b =>
          have hbc := z_arg_lt hb
          rw [hb] at ih
          show sm_V G xX10_nearest (d + 2) 38 [.ref mM, .int (nI dd), .int (nI p), .int (nI b), .int (nI c)] [.int (nI b)] I ρ _
          refine wp_if_lt 41 83 rfl rfl dX10_nearest_38 (fun c38 => absurd c38 (nI_pos (by omega))) (fun c38 => ?_)
          refine wp_aload0 42 rfl dX10_nearest_41 ?_
          refine wp_getr 45 rfl dX10_nearest_42 fX10_119_10 (md_M hm) (mp_now hm) ?_
          refine wp_iconst (nI 4) 46 rfl dX10_nearest_45 (by decide) ?_
          refine wp_iload1 47 rfl dX10_nearest_46 ?_
          refine wp_imul 48 rfl dX10_nearest_47 ?_
          refine wp_iload2 49 rfl dX10_nearest_48 ?_
          refine wp_iadd 50 rfl dX10_nearest_49 ?_
          refine wp_iald 51 rfl dX10_nearest_50 (ms_now hm) (4 * dd + p) (by first | rfl | simp only [pk_mul, nI_add]) (⟨by omega, by decide⟩) ?_
          refine wp_aload0 52 rfl dX10_nearest_51 ?_
          refine wp_iload4 54 rfl dX10_nearest_52 ?_
          refine wp_iload2 55 rfl dX10_nearest_54 ?_
          refine wp_Ve2 58 rfl dX10_nearest_55 kX10_facePart lX10_333 (md_M hm) (nl rfl) (nl rfl) (s_facePart hm lv c p hT.1.1 hT.1.2 (by omega) hp) ?_
          refine wp_Se2 61 rfl dX10_nearest_58 kX10_off lX10_336 (nl rfl) (nl rfl) (s_off _ _) ?_
          refine wp_aload0 62 rfl dX10_nearest_61 ?_
          refine wp_getr 65 rfl dX10_nearest_62 fX10_119_10 (md_M hm) (mp_now hm) ?_
          refine wp_iconst (nI 4) 66 rfl dX10_nearest_65 (by decide) ?_
          refine wp_iload1 67 rfl dX10_nearest_66 ?_
          refine wp_imul 68 rfl dX10_nearest_67 ?_
          refine wp_iload2 69 rfl dX10_nearest_68 ?_
          refine wp_iadd 70 rfl dX10_nearest_69 ?_
          refine wp_iald 71 rfl dX10_nearest_70 (ms_now hm) (4 * dd + p) (by first | rfl | simp only [pk_mul, nI_add]) (⟨by omega, by decide⟩) ?_
          refine wp_aload0 72 rfl dX10_nearest_71 ?_
          refine wp_iload3 73 rfl dX10_nearest_72 ?_
          refine wp_iload2 74 rfl dX10_nearest_73 ?_
          refine wp_Ve2 77 rfl dX10_nearest_74 kX10_facePart lX10_333 (md_M hm) (nl rfl) (nl rfl) (s_facePart hm lv b p hT.1.1 hT.1.2 (by omega) hp) ?_
          refine wp_Se2 80 rfl dX10_nearest_77 kX10_off lX10_336 (nl rfl) (nl rfl) (s_off _ _) ?_
          rw [ecf c hc, ecf b (by omega), hnow]
          refine wp_icmp_ge 83 86 rfl rfl dX10_nearest_80 (fun c80 => ?_) (fun c80 => ?_)
          · rw [show (match some b with
              | none => some c
              | some b => if z_off (w (4 * dd + p)) (tx_cf T (4 * c + p)) < z_off (w (4 * dd + p)) (tx_cf T (4 * b + p)) then some c else some b) = some b from if_neg (i_lt_le c80)] at ih
            refine wp_iincN4 89 rfl dX10_nearest_86 (by decide) rfl ?_
            refine wp_goto 23 rfl dX10_nearest_89 ?_
            exact ih
          · rw [show (match some b with
              | none => some c
              | some b => if z_off (w (4 * dd + p)) (tx_cf T (4 * c + p)) < z_off (w (4 * dd + p)) (tx_cf T (4 * b + p)) then some c else some b) = some c from if_pos (i_nle c80)] at ih
            refine wp_iload4 85 rfl dX10_nearest_83 ?_
            refine wp_istore3 86 rfl dX10_nearest_85 (by decide) rfl ?_
            refine wp_iincN4 89 rfl dX10_nearest_86 (by decide) rfl ?_
            refine wp_goto 23 rfl dX10_nearest_89 ?_
            exact ih
    · exact no (Or.inr (z_b_eq.mp c12))
theorem q_same (hm : md ρ) (lv : Nat) (T : tx) (w : Nat → Int32) (hS : mS I lv T w) (x y : Int32) : sm_M G xX10_same (d + 3) [.ref mM, .int x, .int y] I ρ (mPost I ρ (o_same T w x y)) := by
  show sm_V G xX10_same (d + 3) 0 [.ref mM, .int x, .int y, .retAddr 0, .retAddr 0] [] I ρ _
  have h1 := hS.2.1.1
  have hT := hS.1
  refine wp_aload0 1 rfl dX10_same_0 ?_
  refine wp_iload1 2 rfl dX10_same_1 ?_
  refine wp_iload2 3 rfl dX10_same_2 ?_
  refine wp_Ve2 6 rfl dX10_same_3 kX10_areBoth lX10_399 (md_M hm) (nl rfl) (nl rfl) (s_areBoth hm lv T hS.1 hS.2.1 x y) ?_
  unfold o_same
  refine wp_if_ne 9 11 rfl rfl dX10_same_6 (fun c6 => ?_) (fun c6 => ?_)
  · obtain ⟨⟨dd, hd, rfl⟩, c, hc, rfl⟩ := z_b_ne.mp c6
    rw [z_ix_n hd (by omega), z_ix_n hc (by omega)]
    refine wp_iconst (nI 0) 12 rfl dX10_same_11 (by decide) ?_
    refine wp_istore3 13 rfl dX10_same_12 (by decide) rfl ?_
    refine wp_iconst (nI 0) 14 rfl dX10_same_13 (by decide) ?_
    refine wp_istore4 16 rfl dX10_same_14 (by decide) rfl ?_
    refine sm_for (P := fun p => sm_V G xX10_same (d + 3) 16 [.ref mM, .int (nI dd), .int (nI c), .int (z_set (fun p => w (4 * dd + p) = tx_cf T (4 * c + p)) p), .int (nI p)] [] I ρ _) 0 4 (nl rfl) ?_ (fun p _ hp ih => ?_)
    · refine wp_iload4 18 rfl dX10_same_16 ?_
      refine wp_iconst (nI 4) 19 rfl dX10_same_18 (by decide) ?_
      refine wp_icmp_ge 22 56 rfl rfl dX10_same_19 (fun c19 => ?_) (fun c19 => absurd (nI_le (Nat.le_refl 4) (by decide)) c19)
      refine wp_iload3 57 rfl dX10_same_56 ?_
      refine wp_iret dX10_same_57 rfl ?_
      exact sm_qi (mq.rf hS.2.2.2.2) rfl
    · have ecf : I m_faceOf (20 * lv + 4 * c + p) = tx_cf T (4 * c + p) := by rw [Nat.add_assoc]; exact hT.2.2.1 _ (by omega)
      have es : z_set (fun p => w (4 * dd + p) = tx_cf T (4 * c + p)) (p + 1) = if w (4 * dd + p) = tx_cf T (4 * c + p) then z_set (fun p => w (4 * dd + p) = tx_cf T (4 * c + p)) p ||| nI 1 <<< (nI p &&& 31) else z_set (fun p => w (4 * dd + p) = tx_cf T (4 * c + p)) p := rfl
      rw [es] at ih
      refine wp_iload4 18 rfl dX10_same_16 ?_
      refine wp_iconst (nI 4) 19 rfl dX10_same_18 (by decide) ?_
      refine wp_icmp_ge 22 56 rfl rfl dX10_same_19 (fun c19 => absurd c19 (nI_ge hp (by decide))) (fun c19 => ?_)
      refine wp_aload0 23 rfl dX10_same_22 ?_
      refine wp_getr 26 rfl dX10_same_23 fX10_119_10 (md_M hm) (mp_now hm) ?_
      refine wp_iconst (nI 4) 27 rfl dX10_same_26 (by decide) ?_
      refine wp_iload1 28 rfl dX10_same_27 ?_
      refine wp_imul 29 rfl dX10_same_28 ?_
      refine wp_iload4 31 rfl dX10_same_29 ?_
      refine wp_iadd 32 rfl dX10_same_31 ?_
      refine wp_iald 33 rfl dX10_same_32 (ms_now hm) (4 * dd + p) (by first | rfl | simp only [pk_mul, nI_add]) (⟨by omega, by decide⟩) ?_
      refine wp_aload0 34 rfl dX10_same_33 ?_
      refine wp_iload2 35 rfl dX10_same_34 ?_
      refine wp_iload4 37 rfl dX10_same_35 ?_
      refine wp_Ve2 40 rfl dX10_same_37 kX10_facePart lX10_333 (md_M hm) (nl rfl) (nl rfl) (s_facePart hm lv c p hT.1.1 hT.1.2 (by omega) hp) ?_
      rw [ecf, hS.2.2.1]
      refine wp_icmp_ne 43 50 rfl rfl dX10_same_40 (fun c40 => ?_) (fun c40 => ?_)
      · rw [if_neg c40] at ih
        refine wp_iincN4 53 rfl dX10_same_50 (by decide) rfl ?_
        refine wp_goto 16 rfl dX10_same_53 ?_
        exact ih
      · rw [if_pos c40] at ih
        refine wp_iload3 44 rfl dX10_same_43 ?_
        refine wp_iconst (nI 1) 45 rfl dX10_same_44 (by decide) ?_
        refine wp_iload4 47 rfl dX10_same_45 ?_
        refine wp_ishl 48 rfl dX10_same_47 ?_
        refine wp_ior 49 rfl dX10_same_48 ?_
        refine wp_istore3 50 rfl dX10_same_49 (by decide) rfl ?_
        refine wp_iincN4 53 rfl dX10_same_50 (by decide) rfl ?_
        refine wp_goto 16 rfl dX10_same_53 ?_
        exact ih
  · refine wp_iconst (-1) 10 rfl dX10_same_9 (by decide) ?_
    refine wp_iret dX10_same_10 rfl ?_
    exact sm_qi (mq.rf hS.2.2.2.2) (o_none2 (by omega) (by omega) (z_b_eq.mp c6)).symm
end M13
