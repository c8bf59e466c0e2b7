/-! ===== flat, richest, round, towards, busy ===== -/
set_option maxRecDepth 100000
/-- all rounds counted to their callers -/
def r_bz (T : tx) (w : Nat → Int32) (n : Nat) : Nat → Nat → Int32
  | 0 => fun _ => nI 0
  | r + 1 => upd (r_bz T w n r) (tx_who T r) (r_bz T w n r (tx_who T r) + r_times T w r n)
def o_busy (T : tx) (w : Nat → Int32) (n what : Int32) : Int32 := match z_iv n 1 60 with
  | none => -1
  | some n => match z_ix what 2 with
    | none => -1
    | some k => match z_argM (r_bz T w n (tx_R T)) (tx_C T) with
      | none => -2
      | some b => if k = 0 then nI b else r_bz T w n (tx_R T) b
section M15
variable {G : sm_G} {d : Nat} {I : sm_I} {ρ : sm_R}
theorem q_flat (hm : md ρ) (lv : Nat) (T : tx) (w : Nat → Int32) (hS : mS I lv T w) (what : Int32) : sm_M G xX10_flat (d + 2) [.ref mM, .int what] I ρ (mPost I ρ (o_flat T w what)) := by
  show sm_V G xX10_flat (d + 2) 0 [.ref mM, .int what, .retAddr 0, .retAddr 0] [] I ρ _
  have h1 := hS.2.1.1
  refine wp_iload1 1 rfl dX10_flat_0 ?_
  refine wp_iconst (nI 0) 2 rfl dX10_flat_1 (by decide) ?_
  refine wp_iconst (nI 1) 3 rfl dX10_flat_2 (by decide) ?_
  refine wp_Se3 6 rfl dX10_flat_3 kX10_in lX10_313 (nl rfl) (nl rfl) (s_in _ _ _) ?_
  refine wp_if_ne 9 11 rfl rfl dX10_flat_6 (fun c6 => ?_) (fun c6 => ?_)
  · obtain ⟨k, hk, rfl⟩ := (z_in_lo rfl (by omega)).mp (z_b_ne.mp c6)
    have e9 : o_flat T w (nI k) = match z_arg (fun d => r_unf T w d) (tx_D T) with
      | none => -2
      | some b => if k = 0 then nI b else r_unf T w b := by
      unfold o_flat
      rw [z_ix_n hk (by omega)]
      rfl
    rw [e9]
    have hq := cp_q hS
    have hr := cp_row hS
    have hT : mT (M_cp I lv) lv T := hS.1.kept hq.1 (by decide) (by decide)
    refine wp_aload0 12 rfl dX10_flat_11 ?_
    refine wp_Ve0 15 rfl dX10_flat_12 kX10_copies lX10_323 (md_M hm) (nl rfl) (nl rfl) (s_copies hm lv hS.1.1.1 hS.1.1.2) ?_
    generalize M_cp I lv = J at hq hr hT ⊢
    have eu : ∀ b, b < tx_D T → u_fi J lv b = r_unf T w b := fun b hb => by rw [u_fi_r hT hb, hr]
    refine wp_bipush (-2) 17 rfl dX10_flat_15 (by decide) ?_
    refine wp_istore2 18 rfl dX10_flat_17 (by decide) rfl ?_
    refine wp_iconst (nI 0) 19 rfl dX10_flat_18 (by decide) ?_
    refine wp_istore3 20 rfl dX10_flat_19 (by decide) rfl ?_
    refine sm_for (P := fun c => sm_V G xX10_flat (d + 2) 20 [.ref mM, .int (nI k), .int (z_on (z_arg (fun d => r_unf T w d) c)), .int (nI c)] [] J ρ _) 0 (tx_D T) (Nat.zero_le _) ?_ (fun c _ hc ih => ?_)
    · refine wp_iload3 21 rfl dX10_flat_20 ?_
      refine wp_aload0 22 rfl dX10_flat_21 ?_
      refine wp_getr 25 rfl dX10_flat_22 fX10_46_10 (md_M hm) (mp_doors hm) ?_
      refine wp_aload0 26 rfl dX10_flat_25 ?_
      refine wp_geti 29 rfl dX10_flat_26 fX10_233_10 (md_M hm) ?_
      refine wp_iald 30 rfl dX10_flat_29 (ms_doors hm) (lv) (hT.1.1) (⟨hT.1.2, by decide⟩) ?_
      refine wp_icmp_ge 33 58 rfl rfl dX10_flat_30 (fun c30 => ?_) (fun c30 => absurd (by rw [hT.2.1.1]; exact nI_le (Nat.le_refl _) (by omega)) c30)
      refine wp_iload2 59 rfl dX10_flat_58 ?_
      cases hb : z_arg (fun d => r_unf T w d) (tx_D T) with
      | none =>
        refine wp_if_lt 62 66 rfl rfl dX10_flat_59 (fun c59 => ?_) (fun c59 => absurd (by decide) c59)
        refine wp_iload2 67 rfl dX10_flat_66 ?_
        refine wp_goto 75 rfl dX10_flat_67 ?_
        refine wp_iret dX10_flat_75 rfl ?_
        exact sm_qi hq rfl
      | some b =>
        have hbc := z_arg_lt hb
        show sm_V G xX10_flat (d + 2) 59 [.ref mM, .int (nI k), .int (nI b), .int (nI (tx_D T))] [.int (nI b)] J ρ (mPost I ρ (if k = 0 then nI b else r_unf T w b))
        by_cases hk0 : k = 0
        · rw [if_pos hk0]
          refine wp_if_lt 62 66 rfl rfl dX10_flat_59 (fun c59 => absurd c59 (nI_pos (by omega))) (fun c59 => ?_)
          refine wp_iload1 63 rfl dX10_flat_62 ?_
          refine wp_if_ne 66 70 rfl rfl dX10_flat_63 (fun c63 => absurd (by rw [hk0]; rfl) c63) (fun c63 => ?_)
          refine wp_iload2 67 rfl dX10_flat_66 ?_
          refine wp_goto 75 rfl dX10_flat_67 ?_
          refine wp_iret dX10_flat_75 rfl ?_
          exact sm_qi hq rfl
        · rw [if_neg hk0]
          refine wp_if_lt 62 66 rfl rfl dX10_flat_59 (fun c59 => absurd c59 (nI_pos (by omega))) (fun c59 => ?_)
          refine wp_iload1 63 rfl dX10_flat_62 ?_
          refine wp_if_ne 66 70 rfl rfl dX10_flat_63 (fun c63 => ?_) (fun c63 => absurd c63 (nI_ne0 (by omega) (by omega)))
          refine wp_aload0 71 rfl dX10_flat_70 ?_
          refine wp_iload2 72 rfl dX10_flat_71 ?_
          refine wp_Ve1 75 rfl dX10_flat_72 kX10_unlikeFirst lX10_357 (md_M hm) (nl rfl) (nl rfl) (s_unlikeFirst hm lv b hT.1.1 hT.1.2 (by omega)) ?_
          refine wp_iret dX10_flat_75 rfl ?_
          exact sm_qi hq (eu b hbc)
    · have es : z_arg (fun d => r_unf T w d) (c + 1) = (match z_arg (fun d => r_unf T w d) c with
        | none => some c
        | some b => if r_unf T w c < r_unf T w b then some c else some b) := rfl
      rw [es] at ih
      refine wp_iload3 21 rfl dX10_flat_20 ?_
      refine wp_aload0 22 rfl dX10_flat_21 ?_
      refine wp_getr 25 rfl dX10_flat_22 fX10_46_10 (md_M hm) (mp_doors hm) ?_
      refine wp_aload0 26 rfl dX10_flat_25 ?_
      refine wp_geti 29 rfl dX10_flat_26 fX10_233_10 (md_M hm) ?_
      refine wp_iald 30 rfl dX10_flat_29 (ms_doors hm) (lv) (hT.1.1) (⟨hT.1.2, by decide⟩) ?_
      refine wp_icmp_ge 33 58 rfl rfl dX10_flat_30 (fun c30 => absurd c30 (by rw [hT.2.1.1]; exact nI_ge hc (by omega))) (fun c30 => ?_)
      refine wp_iload2 34 rfl dX10_flat_33 ?_
      cases hb : z_arg (fun d => r_unf T w d) c with
      | none =>
        rw [hb] at ih
        refine wp_if_lt 37 50 rfl rfl dX10_flat_34 (fun c34 => ?_) (fun c34 => absurd (by decide) c34)
        refine wp_iload3 51 rfl dX10_flat_50 ?_
        refine wp_istore2 52 rfl dX10_flat_51 (by decide) rfl ?_
        refine wp_iincN3 55 rfl dX10_flat_52 (by decide) rfl ?_
        refine wp_goto 20 rfl dX10_flat_55 ?_
        exact ih
      | some b =>
        have hbc := z_arg_lt hb
        rw [hb] at ih
        show sm_V G xX10_flat (d + 2) 34 [.ref mM, .int (nI k), .int (nI b), .int (nI c)] [.int (nI b)] J ρ _
        refine wp_if_lt 37 50 rfl rfl dX10_flat_34 (fun c34 => absurd c34 (nI_pos (by omega))) (fun c34 => ?_)
        refine wp_aload0 38 rfl dX10_flat_37 ?_
        refine wp_iload3 39 rfl dX10_flat_38 ?_
        refine wp_Ve1 42 rfl dX10_flat_39 kX10_unlikeFirst lX10_357 (md_M hm) (nl rfl) (nl rfl) (s_unlikeFirst hm lv c hT.1.1 hT.1.2 (by omega)) ?_
        refine wp_aload0 43 rfl dX10_flat_42 ?_
        refine wp_iload2 44 rfl dX10_flat_43 ?_
        refine wp_Ve1 47 rfl dX10_flat_44 kX10_unlikeFirst lX10_357 (md_M hm) (nl rfl) (nl rfl) (s_unlikeFirst hm lv b hT.1.1 hT.1.2 (by omega)) ?_
        rw [eu c hc, eu b (by omega)]
        refine wp_icmp_ge 50 52 rfl rfl dX10_flat_47 (fun c47 => ?_) (fun c47 => ?_)
        · rw [show (match some b with
            | none => some c
            | some b => if r_unf T w c < r_unf T w b then some c else some b) = some b from if_neg (i_lt_le c47)] at ih
          refine wp_iincN3 55 rfl dX10_flat_52 (by decide) rfl ?_
          refine wp_goto 20 rfl dX10_flat_55 ?_
          exact ih
        · rw [show (match some b with
            | none => some c
            | some b => if r_unf T w c < r_unf T w b then some c else some b) = some c from if_pos (i_nle c47)] at ih
          refine wp_iload3 51 rfl dX10_flat_50 ?_
          refine wp_istore2 52 rfl dX10_flat_51 (by decide) rfl ?_
          refine wp_iincN3 55 rfl dX10_flat_52 (by decide) rfl ?_
          refine wp_goto 20 rfl dX10_flat_55 ?_
          exact ih
  · refine wp_iconst (-1) 10 rfl dX10_flat_9 (by decide) ?_
    refine wp_iret dX10_flat_10 rfl ?_
    refine sm_qi (mq.rf hS.2.2.2.2) ?_
    unfold o_flat
    rw [z_ix_no (by omega) (fun h => z_b_eq.mp c6 ((z_in_lo rfl (by omega)).mpr h))]
theorem q_richest (hm : md ρ) (lv : Nat) (T : tx) (w : Nat → Int32) (hS : mS I lv T w) (n what : Int32) : sm_M G xX10_richest (d + 6) [.ref mM, .int n, .int what] I ρ (mPost I ρ (o_richest T w n what)) := by
  show sm_V G xX10_richest (d + 6) 0 [.ref mM, .int n, .int what, .retAddr 0, .retAddr 0] [] I ρ _
  have h1 := hS.2.1.1
  have no : (¬ (nI 0 ≤ n ∧ n ≤ nI 60) ∨ ¬ (nI 0 ≤ what ∧ what ≤ nI 1)) → sm_V G xX10_richest (d + 6) 16 [.ref mM, .int n, .int what, .retAddr 0, .retAddr 0] [] I ρ (mPost I ρ (o_richest T w n what)) := by
    intro hno
    refine wp_iconst (-1) 17 rfl dX10_richest_16 (by decide) ?_
    refine wp_iret dX10_richest_17 rfl ?_
    refine sm_qi (mq.rf hS.2.2.2.2) ?_
    unfold o_richest
    by_cases hn : nI 0 ≤ n ∧ n ≤ nI 60
    · obtain ⟨j, hj, rfl⟩ := (z_iv_iff (by omega) (by omega)).mp hn
      rw [z_iv_n hj (by omega) (by omega)]
      rcases hno with h | h
      · exact absurd hn h
      · rw [z_ix_no (by omega) (fun q => h ((z_in_lo rfl (by omega)).mpr q))]
    · rw [z_iv_o hn]
  refine wp_iload1 1 rfl dX10_richest_0 ?_
  refine wp_Se1 4 rfl dX10_richest_1 kX10_isLong lX10_411 (nl rfl) (nl rfl) (s_isLong _) ?_
  refine wp_if_eq 7 16 rfl rfl dX10_richest_4 (fun c4 => ?_) (fun c4 => ?_)
  · exact no (Or.inl (z_b_eq.mp c4))
  · obtain ⟨m, hm60, rfl⟩ := (z_iv_iff (by omega) (by omega)).mp (z_b_ne.mp c4)
    refine wp_iload2 8 rfl dX10_richest_7 ?_
    refine wp_iconst (nI 0) 9 rfl dX10_richest_8 (by decide) ?_
    refine wp_iconst (nI 1) 10 rfl dX10_richest_9 (by decide) ?_
    refine wp_Se3 13 rfl dX10_richest_10 kX10_in lX10_313 (nl rfl) (nl rfl) (s_in _ _ _) ?_
    refine wp_if_ne 16 18 rfl rfl dX10_richest_13 (fun c13 => ?_) (fun c13 => ?_)
    · obtain ⟨k, hk, rfl⟩ := (z_in_lo rfl (by omega)).mp (z_b_ne.mp c13)
      have e9 : o_richest T w (nI m) (nI k) = match z_argM (fun d => r_still T w m (42 + d)) (tx_D T) with
        | none => -2
        | some b => if k = 0 then nI b else r_still T w m (42 + b) := by
        unfold o_richest
        rw [z_iv_n hm60 (by omega) (by omega), z_ix_n hk (by omega)]
        rfl
      rw [e9]
      have hq := cs_q hS
      have hr := cs_row hS
      have h53 := cs_53 hS
      have h54 := cs_54 (I := I) (lv := lv)
      have hT0 : mT (M_cs I lv) lv T := hS.1.kept hq.1 (by decide) (by decide)
      refine wp_aload0 19 rfl dX10_richest_18 ?_
      refine wp_Ve0 22 rfl dX10_richest_19 kX10_copiesStill lX10_430 (md_M hm) (nl rfl) (nl rfl) (s_cs hm lv hS.1.1.1 hS.1.1.2) ?_
      generalize M_cs I lv = J0 at hq hr hT0 h53 h54 ⊢
      refine wp_aload0 23 rfl dX10_richest_22 ?_
      refine wp_iload1 24 rfl dX10_richest_23 ?_
      refine wp_Vv1 27 rfl dX10_richest_24 kX10_goes lX10_414 (md_M hm) (nl rfl) (nl rfl) (s_goes hm lv T hT0 hS.2.1 m hm60.2) (fun J ρ1 hq1 => ?_)
      obtain ⟨rfl, hf1, hw1⟩ := hq1
      rw [hr, h53, h54] at hw1
      have hT := hT0.kept hf1 (by decide) (by decide)
      have hqq := sc_q hq hf1 hw1 (w70_days hS.2.1 hS.2.2.2.1 _)
      refine wp_bipush (-2) 29 rfl dX10_richest_27 (by decide) ?_
      refine wp_istore3 30 rfl dX10_richest_29 (by decide) rfl ?_
      refine wp_iconst (nI 0) 31 rfl dX10_richest_30 (by decide) ?_
      refine wp_istore4 33 rfl dX10_richest_31 (by decide) rfl ?_
      refine sm_for (P := fun c => sm_V G xX10_richest (d + 6) 33 [.ref mM, .int (nI m), .int (nI k), .int (z_on (z_argM (fun d => r_still T w m (42 + d)) c)), .int (nI c)] [] J ρ1 _) 0 (tx_D T) (Nat.zero_le _) ?_ (fun c _ hc ih => ?_)
      · refine wp_iload4 35 rfl dX10_richest_33 ?_
        refine wp_aload0 36 rfl dX10_richest_35 ?_
        refine wp_getr 39 rfl dX10_richest_36 fX10_46_10 (md_M hm) (mp_doors hm) ?_
        refine wp_aload0 40 rfl dX10_richest_39 ?_
        refine wp_geti 43 rfl dX10_richest_40 fX10_233_10 (md_M hm) ?_
        refine wp_iald 44 rfl dX10_richest_43 (ms_doors hm) (lv) (hT.1.1) (⟨hT.1.2, by decide⟩) ?_
        refine wp_icmp_ge 47 82 rfl rfl dX10_richest_44 (fun c44 => ?_) (fun c44 => absurd (by rw [hT.2.1.1]; exact nI_le (Nat.le_refl _) (by omega)) c44)
        refine wp_iload3 83 rfl dX10_richest_82 ?_
        cases hb : z_argM (fun d => r_still T w m (42 + d)) (tx_D T) with
        | none =>
          refine wp_if_lt 86 90 rfl rfl dX10_richest_83 (fun c83 => ?_) (fun c83 => absurd (by decide) c83)
          refine wp_iload3 91 rfl dX10_richest_90 ?_
          refine wp_goto 103 rfl dX10_richest_91 ?_
          refine wp_iret dX10_richest_103 rfl ?_
          exact sm_qi hqq rfl
        | some b =>
          have hbc := z_argM_lt hb
          show sm_V G xX10_richest (d + 6) 83 [.ref mM, .int (nI m), .int (nI k), .int (nI b), .int (nI (tx_D T))] [.int (nI b)] J ρ1 (mPost I ρ1 (if k = 0 then nI b else r_still T w m (42 + b)))
          by_cases hk0 : k = 0
          · rw [if_pos hk0]
            refine wp_if_lt 86 90 rfl rfl dX10_richest_83 (fun c83 => absurd c83 (nI_pos (by omega))) (fun c83 => ?_)
            refine wp_iload2 87 rfl dX10_richest_86 ?_
            refine wp_if_ne 90 94 rfl rfl dX10_richest_87 (fun c87 => absurd (by rw [hk0]; rfl) c87) (fun c87 => ?_)
            refine wp_iload3 91 rfl dX10_richest_90 ?_
            refine wp_goto 103 rfl dX10_richest_91 ?_
            refine wp_iret dX10_richest_103 rfl ?_
            exact sm_qi hqq rfl
          · rw [if_neg hk0]
            refine wp_if_lt 86 90 rfl rfl dX10_richest_83 (fun c83 => absurd c83 (nI_pos (by omega))) (fun c83 => ?_)
            refine wp_iload2 87 rfl dX10_richest_86 ?_
            refine wp_if_ne 90 94 rfl rfl dX10_richest_87 (fun c87 => ?_) (fun c87 => absurd c87 (nI_ne0 (by omega) (by omega)))
            refine wp_aload0 95 rfl dX10_richest_94 ?_
            refine wp_getr 98 rfl dX10_richest_95 fX10_122_10 (md_M hm) (mp_row hm) ?_
            refine wp_bipush (nI 42) 100 rfl dX10_richest_98 (by decide) ?_
            refine wp_iload3 101 rfl dX10_richest_100 ?_
            refine wp_iadd 102 rfl dX10_richest_101 ?_
            refine wp_iald 103 rfl dX10_richest_102 (ms_row hm) (42 + b) (by first | rfl | simp only [pk_mul, nI_add]) (⟨by omega, by decide⟩) ?_
            refine wp_iret dX10_richest_103 rfl ?_
            exact sm_qi hqq (by rw [hw1])
      · have es : z_argM (fun d => r_still T w m (42 + d)) (c + 1) = (match z_argM (fun d => r_still T w m (42 + d)) c with
          | none => some c
          | some b => if r_still T w m (42 + b) < r_still T w m (42 + c) then some c else some b) := rfl
        rw [es] at ih
        refine wp_iload4 35 rfl dX10_richest_33 ?_
        refine wp_aload0 36 rfl dX10_richest_35 ?_
        refine wp_getr 39 rfl dX10_richest_36 fX10_46_10 (md_M hm) (mp_doors hm) ?_
        refine wp_aload0 40 rfl dX10_richest_39 ?_
        refine wp_geti 43 rfl dX10_richest_40 fX10_233_10 (md_M hm) ?_
        refine wp_iald 44 rfl dX10_richest_43 (ms_doors hm) (lv) (hT.1.1) (⟨hT.1.2, by decide⟩) ?_
        refine wp_icmp_ge 47 82 rfl rfl dX10_richest_44 (fun c44 => absurd c44 (by rw [hT.2.1.1]; exact nI_ge hc (by omega))) (fun c44 => ?_)
        refine wp_iload3 48 rfl dX10_richest_47 ?_
        cases hb : z_argM (fun d => r_still T w m (42 + d)) c with
        | none =>
          rw [hb] at ih
          refine wp_if_lt 51 73 rfl rfl dX10_richest_48 (fun c48 => ?_) (fun c48 => absurd (by decide) c48)
          refine wp_iload4 75 rfl dX10_richest_73 ?_
          refine wp_istore3 76 rfl dX10_richest_75 (by decide) rfl ?_
          refine wp_iincN4 79 rfl dX10_richest_76 (by decide) rfl ?_
          refine wp_goto 33 rfl dX10_richest_79 ?_
          exact ih
        | some b =>
          have hbc := z_argM_lt hb
          rw [hb] at ih
          show sm_V G xX10_richest (d + 6) 48 [.ref mM, .int (nI m), .int (nI k), .int (nI b), .int (nI c)] [.int (nI b)] J ρ1 _
          refine wp_if_lt 51 73 rfl rfl dX10_richest_48 (fun c48 => absurd c48 (nI_pos (by omega))) (fun c48 => ?_)
          refine wp_aload0 52 rfl dX10_richest_51 ?_
          refine wp_getr 55 rfl dX10_richest_52 fX10_122_10 (md_M hm) (mp_row hm) ?_
          refine wp_bipush (nI 42) 57 rfl dX10_richest_55 (by decide) ?_
          refine wp_iload4 59 rfl dX10_richest_57 ?_
          refine wp_iadd 60 rfl dX10_richest_59 ?_
          refine wp_iald 61 rfl dX10_richest_60 (ms_row hm) (42 + c) (by first | rfl | simp only [pk_mul, nI_add]) (⟨by omega, by decide⟩) ?_
          refine wp_aload0 62 rfl dX10_richest_61 ?_
          refine wp_getr 65 rfl dX10_richest_62 fX10_122_10 (md_M hm) (mp_row hm) ?_
          refine wp_bipush (nI 42) 67 rfl dX10_richest_65 (by decide) ?_
          refine wp_iload3 68 rfl dX10_richest_67 ?_
          refine wp_iadd 69 rfl dX10_richest_68 ?_
          refine wp_iald 70 rfl dX10_richest_69 (ms_row hm) (42 + b) (by first | rfl | simp only [pk_mul, nI_add]) (⟨by omega, by decide⟩) ?_
          rw [hw1]
          refine wp_icmp_le 73 76 rfl rfl dX10_richest_70 (fun c70 => ?_) (fun c70 => ?_)
          · rw [show (match some b with
              | none => some c
              | some b => if r_still T w m (42 + b) < r_still T w m (42 + c) then some c else some b) = some b from if_neg (i_lt_le c70)] at ih
            refine wp_iincN4 79 rfl dX10_richest_76 (by decide) rfl ?_
            refine wp_goto 33 rfl dX10_richest_79 ?_
            exact ih
          · rw [show (match some b with
              | none => some c
              | some b => if r_still T w m (42 + b) < r_still T w m (42 + c) then some c else some b) = some c from if_pos (i_nle c70)] at ih
            refine wp_iload4 75 rfl dX10_richest_73 ?_
            refine wp_istore3 76 rfl dX10_richest_75 (by decide) rfl ?_
            refine wp_iincN4 79 rfl dX10_richest_76 (by decide) rfl ?_
            refine wp_goto 33 rfl dX10_richest_79 ?_
            exact ih
    · exact no (Or.inr (z_b_eq.mp c13))
theorem q_towards (hm : md ρ) (lv : Nat) (T : tx) (w : Nat → Int32) (hS : mS I lv T w) (x y what : Int32) : sm_M G xX10_towards (d + 4) [.ref mM, .int x, .int y, .int what] I ρ (mPost I ρ (o_towards T w x y what)) := by
  show sm_V G xX10_towards (d + 4) 0 [.ref mM, .int x, .int y, .int what, .retAddr 0, .retAddr 0, .retAddr 0, .retAddr 0] [] I ρ _
  have h1 := hS.2.1.1
  have no : (¬ ((∃ j, j < tx_D T ∧ x = nI j) ∧ ∃ j, j < tx_C T ∧ y = nI j) ∨ ¬ (nI 0 ≤ what ∧ what ≤ nI 1)) → sm_V G xX10_towards (d + 4) 18 [.ref mM, .int x, .int y, .int what, .retAddr 0, .retAddr 0, .retAddr 0, .retAddr 0] [] I ρ (mPost I ρ (o_towards T w x y what)) := by
    intro hno
    refine wp_iconst (-1) 19 rfl dX10_towards_18 (by decide) ?_
    refine wp_iret dX10_towards_19 rfl ?_
    refine sm_qi (mq.rf hS.2.2.2.2) ?_
    unfold o_towards
    by_cases hb : (∃ j, j < tx_D T ∧ x = nI j) ∧ ∃ j, j < tx_C T ∧ y = nI j
    · obtain ⟨⟨dd, hd, rfl⟩, c, hc, rfl⟩ := hb
      rw [z_ix_n hd (by omega), z_ix_n hc (by omega)]
      rcases hno with h | h
      · exact absurd ⟨⟨dd, hd, rfl⟩, c, hc, rfl⟩ h
      · rw [z_ix_no (by omega) (fun q => h ((z_in_lo rfl (by omega)).mpr q))]
    · exact (o_none2 (by omega) (by omega) hb).symm
  refine wp_aload0 1 rfl dX10_towards_0 ?_
  refine wp_iload1 2 rfl dX10_towards_1 ?_
  refine wp_iload2 3 rfl dX10_towards_2 ?_
  refine wp_Ve2 6 rfl dX10_towards_3 kX10_areBoth lX10_399 (md_M hm) (nl rfl) (nl rfl) (s_areBoth hm lv T hS.1 hS.2.1 x y) ?_
  refine wp_if_eq 9 18 rfl rfl dX10_towards_6 (fun c6 => ?_) (fun c6 => ?_)
  · exact no (Or.inl (z_b_eq.mp c6))
  · obtain ⟨⟨dd, hd, rfl⟩, c, hc, rfl⟩ := z_b_ne.mp c6
    refine wp_iload3 10 rfl dX10_towards_9 ?_
    refine wp_iconst (nI 0) 11 rfl dX10_towards_10 (by decide) ?_
    refine wp_iconst (nI 1) 12 rfl dX10_towards_11 (by decide) ?_
    refine wp_Se3 15 rfl dX10_towards_12 kX10_in lX10_313 (nl rfl) (nl rfl) (s_in _ _ _) ?_
    refine wp_if_ne 18 20 rfl rfl dX10_towards_15 (fun c15 => ?_) (fun c15 => ?_)
    · obtain ⟨k, hk, rfl⟩ := (z_in_lo rfl (by omega)).mp (z_b_ne.mp c15)
      obtain ⟨f, hf⟩ : ∃ f : Nat → Int32, f = fun o => r_unl T (r_lift T w dd o) dd c := ⟨_, rfl⟩
      have e9 : o_towards T w (nI dd) (nI c) (nI k) = match z_arg f (tx_C T) with
        | none => -2
        | some b => if k = 0 then nI b else f b := by
        unfold o_towards
        rw [z_ix_n hd (by omega), z_ix_n hc (by omega), z_ix_n hk (by omega), hf]
        rfl
      rw [e9]
      obtain ⟨vb, hvb⟩ : ∃ vb : Option Nat → Int32 × Int32, vb = fun b => match b with
        | none => (-1, nI 0)
        | some b => (nI b, f b) := ⟨_, rfl⟩
      have hv0 : vb none = (-1, nI 0) := by rw [hvb]
      have hv1 : ∀ b, vb (some b) = (nI b, f b) := fun b => by rw [hvb]
      refine wp_iconst (-1) 21 rfl dX10_towards_20 (by decide) ?_
      refine wp_istore4 23 rfl dX10_towards_21 (by decide) rfl ?_
      refine wp_iconst (nI 0) 24 rfl dX10_towards_23 (by decide) ?_
      refine wp_istore5 26 rfl dX10_towards_24 (by decide) rfl ?_
      refine wp_iconst (nI 0) 27 rfl dX10_towards_26 (by decide) ?_
      refine wp_istore6 29 rfl dX10_towards_27 (by decide) rfl ?_
      suffices hh : ∀ J : sm_I, mq I J → sm_V G xX10_towards (d + 4) 29 [.ref mM, .int (nI dd), .int (nI c), .int (nI k), .int (vb (z_arg f 0)).1, .int (vb (z_arg f 0)).2, .int (nI 0), .retAddr 0] [] J ρ (mPost I ρ (match z_arg f (tx_C T) with
        | none => -2
        | some b => if k = 0 then nI b else f b)) by
        have := hh I (mq.rf hS.2.2.2.2)
        rw [show z_arg f 0 = none from rfl, hv0] at this
        exact this
      refine sm_for (P := fun o => ∀ J : sm_I, mq I J → sm_V G xX10_towards (d + 4) 29 [.ref mM, .int (nI dd), .int (nI c), .int (nI k), .int (vb (z_arg f o)).1, .int (vb (z_arg f o)).2, .int (nI o), .retAddr 0] [] J ρ _) 0 (tx_C T) (Nat.zero_le _) ?_ (fun o _ ho ih => ?_)
      · intro J hqJ
        have hT := (hS.q hqJ).1
        refine wp_iload6 31 rfl dX10_towards_29 ?_
        refine wp_aload0 32 rfl dX10_towards_31 ?_
        refine wp_getr 35 rfl dX10_towards_32 fX10_52_10 (md_M hm) (mp_callers hm) ?_
        refine wp_aload0 36 rfl dX10_towards_35 ?_
        refine wp_geti 39 rfl dX10_towards_36 fX10_233_10 (md_M hm) ?_
        refine wp_iald 40 rfl dX10_towards_39 (ms_callers hm) (lv) (hT.1.1) (⟨hT.1.2, by decide⟩) ?_
        refine wp_icmp_ge 43 91 rfl rfl dX10_towards_40 (fun c40 => ?_) (fun c40 => absurd (by rw [hT.2.1.2.1]; exact nI_le (Nat.le_refl _) (by omega)) c40)
        refine wp_iload3 92 rfl dX10_towards_91 ?_
        obtain ⟨b, hb⟩ : ∃ b, z_arg f (tx_C T) = some b := by
          obtain ⟨q, hq⟩ : ∃ q, tx_C T = q + 1 := ⟨tx_C T - 1, by omega⟩
          rw [hq]
          unfold z_arg
          cases z_arg f q with
          | none => exact ⟨_, rfl⟩
          | some b =>
            simp only []
            split
            · exact ⟨_, rfl⟩
            · exact ⟨_, rfl⟩
        rw [hb, hv1]
        show sm_V G xX10_towards (d + 4) 92 _ _ J ρ (mPost I ρ (if k = 0 then nI b else f b))
        by_cases hk0 : k = 0
        · rw [if_pos hk0]
          refine wp_if_ne 95 100 rfl rfl dX10_towards_92 (fun c92 => absurd (by rw [hk0]; rfl) c92) (fun c92 => ?_)
          refine wp_iload4 97 rfl dX10_towards_95 ?_
          refine wp_goto 102 rfl dX10_towards_97 ?_
          refine wp_iret dX10_towards_102 rfl ?_
          exact sm_qi hqJ rfl
        · rw [if_neg hk0]
          refine wp_if_ne 95 100 rfl rfl dX10_towards_92 (fun c92 => ?_) (fun c92 => absurd c92 (nI_ne0 (by omega) (by omega)))
          refine wp_iload5 102 rfl dX10_towards_100 ?_
          refine wp_iret dX10_towards_102 rfl ?_
          exact sm_qi hqJ rfl
      · intro J hqJ
        have hSJ := hS.q hqJ
        have hq0 := cp_q hSJ
        have hr := cp_row hSJ
        have hT0 : mT (M_cp J lv) lv T := hSJ.1.kept hq0.1 (by decide) (by decide)
        have es : z_arg f (o + 1) = (match z_arg f o with
          | none => some o
          | some b => if f o < f b then some o else some b) := rfl
        rw [es] at ih
        refine wp_iload6 31 rfl dX10_towards_29 ?_
        refine wp_aload0 32 rfl dX10_towards_31 ?_
        refine wp_getr 35 rfl dX10_towards_32 fX10_52_10 (md_M hm) (mp_callers hm) ?_
        refine wp_aload0 36 rfl dX10_towards_35 ?_
        refine wp_geti 39 rfl dX10_towards_36 fX10_233_10 (md_M hm) ?_
        refine wp_iald 40 rfl dX10_towards_39 (ms_callers hm) (lv) (hSJ.1.1.1) (⟨hSJ.1.1.2, by decide⟩) ?_
        refine wp_icmp_ge 43 91 rfl rfl dX10_towards_40 (fun c40 => absurd c40 (by rw [hSJ.1.2.1.2.1]; exact nI_ge ho (by omega))) (fun c40 => ?_)
        refine wp_aload0 44 rfl dX10_towards_43 ?_
        refine wp_Ve0 47 rfl dX10_towards_44 kX10_copies lX10_323 (md_M hm) (nl rfl) (nl rfl) (s_copies hm lv hSJ.1.1.1 hSJ.1.1.2) ?_
        generalize M_cp J lv = J0 at hq0 hr hT0 ⊢
        refine wp_aload0 48 rfl dX10_towards_47 ?_
        refine wp_iload1 49 rfl dX10_towards_48 ?_
        refine wp_iload6 51 rfl dX10_towards_49 ?_
        refine wp_Vv2 54 rfl dX10_towards_51 kX10_lifted lX10_374 (md_M hm) (nl rfl) (nl rfl) (s_lifted hm lv T hT0 hS.2.1 dd o hd ho) (fun J1 ρ1 hq1 => ?_)
        obtain ⟨rfl, hf1, hw1⟩ := hq1
        rw [hr] at hw1
        have hT1 := hT0.kept hf1 (by decide) (by decide)
        have hqq := sc_q hq0 hf1 hw1 (w70_lift hS.2.2.2.1 (by omega) (by omega))
        have hqI : mq I J1 := ⟨hqJ.1.tr hqq.1, hqq.2⟩
        have ih := ih J1 hqI
        refine wp_aload0 55 rfl dX10_towards_54 ?_
        refine wp_iload1 56 rfl dX10_towards_55 ?_
        refine wp_iload2 57 rfl dX10_towards_56 ?_
        refine wp_Ve2 60 rfl dX10_towards_57 kX10_unlikeTo lX10_342 (md_M hm) (nl rfl) (nl rfl) (s_unlikeTo hm lv dd c hT1.1.1 hT1.1.2 (by omega) (by omega)) ?_
        rw [u_to_r hT1 hc, hw1, show r_unl T (r_lift T w dd o) dd c = f o by rw [hf]]
        cases hb : z_arg f o with
        | none =>
          rw [hb] at ih
          rw [hv0]
          have ih : sm_V G xX10_towards (d + 4) 29 [.ref mM, .int (nI dd), .int (nI c), .int (nI k), .int (vb (some o)).1, .int (vb (some o)).2, .int (nI (o + 1)), .retAddr 0] [] J1 ρ1 _ := ih
          rw [hv1] at ih
          refine wp_istore7 62 rfl dX10_towards_60 (by decide) rfl ?_
          refine wp_iload4 64 rfl dX10_towards_62 ?_
          refine wp_if_lt 67 77 rfl rfl dX10_towards_64 (fun c64 => ?_) (fun c64 => absurd (by decide) c64)
          refine wp_iload6 79 rfl dX10_towards_77 ?_
          refine wp_istore4 81 rfl dX10_towards_79 (by decide) rfl ?_
          refine wp_iload7 83 rfl dX10_towards_81 ?_
          refine wp_istore5 85 rfl dX10_towards_83 (by decide) rfl ?_
          refine wp_iincN6 88 rfl dX10_towards_85 (by decide) rfl ?_
          refine wp_goto 29 rfl dX10_towards_88 ?_
          exact wp_weakK ih ⟨Or.inr rfl, Or.inr rfl, Or.inr rfl, Or.inr rfl, Or.inr rfl, Or.inr rfl, Or.inr rfl, Or.inl rfl, trivial⟩
        | some b =>
          have hbc := z_arg_lt hb
          rw [hb] at ih
          rw [hv1]
          refine wp_istore7 62 rfl dX10_towards_60 (by decide) rfl ?_
          refine wp_iload4 64 rfl dX10_towards_62 ?_
          refine wp_if_lt 67 77 rfl rfl dX10_towards_64 (fun c64 => absurd c64 (nI_pos (by omega))) (fun c64 => ?_)
          refine wp_iload7 69 rfl dX10_towards_67 ?_
          refine wp_iload5 71 rfl dX10_towards_69 ?_
          refine wp_icmp_lt 74 77 rfl rfl dX10_towards_71 (fun c71 => ?_) (fun c71 => ?_)
          · rw [show (match some b with
              | none => some o
              | some b => if f o < f b then some o else some b) = some o from if_pos c71, hv1] at ih
            refine wp_iload6 79 rfl dX10_towards_77 ?_
            refine wp_istore4 81 rfl dX10_towards_79 (by decide) rfl ?_
            refine wp_iload7 83 rfl dX10_towards_81 ?_
            refine wp_istore5 85 rfl dX10_towards_83 (by decide) rfl ?_
            refine wp_iincN6 88 rfl dX10_towards_85 (by decide) rfl ?_
            refine wp_goto 29 rfl dX10_towards_88 ?_
            exact wp_weakK ih ⟨Or.inr rfl, Or.inr rfl, Or.inr rfl, Or.inr rfl, Or.inr rfl, Or.inr rfl, Or.inr rfl, Or.inl rfl, trivial⟩
          · rw [show (match some b with
              | none => some o
              | some b => if f o < f b then some o else some b) = some b from if_neg c71, hv1] at ih
            refine wp_goto 85 rfl dX10_towards_74 ?_
            refine wp_iincN6 88 rfl dX10_towards_85 (by decide) rfl ?_
            refine wp_goto 29 rfl dX10_towards_88 ?_
            exact wp_weakK ih ⟨Or.inr rfl, Or.inr rfl, Or.inr rfl, Or.inr rfl, Or.inr rfl, Or.inr rfl, Or.inr rfl, Or.inl rfl, trivial⟩
    · exact no (Or.inr (z_b_eq.mp c15))
end M15
