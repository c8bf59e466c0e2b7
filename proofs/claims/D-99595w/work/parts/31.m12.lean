/-! ===== more days ahead; least and most ===== -/
set_option maxRecDepth 100000
def o_year (T : tx) (w : Nat → Int32) (x y n s : Int32) : Int32 := match z_ix x (tx_D T) with
  | none => -1
  | some d => match z_ix y (tx_C T) with
    | none => -1
    | some c => match z_iv n 0 60 with
      | none => -1
      | some n => match z_iv s 1 20 with
        | none => -1
        | some s => z_sum (fun k => if r_known T (r_days T (nI 0) (tx_seed T + nI k) w n) d = nI c then nI 1 else nI 0) s
/-- the first place, below n, of the least -/
def z_arg (f : Nat → Int32) : Nat → Option Nat
  | 0 => none
  | n + 1 => match z_arg f n with
    | none => some n
    | some b => if f n < f b then some n else some b
theorem z_arg_lt {f : Nat → Int32} : ∀ {n b : Nat}, z_arg f n = some b → b < n
  | 0, b, h => by cases h
  | n + 1, b, h => by
    unfold z_arg at h
    cases hx : z_arg f n with
    | none => rw [hx] at h; cases h; omega
    | some c =>
      rw [hx] at h
      have := z_arg_lt hx
      simp only [] at h
      split at h
      · cases h; omega
      · cases h; omega
def z_on (b : Option Nat) : Int32 := match b with
  | none => -2
  | some b => nI b
def o_towards (T : tx) (w : Nat → Int32) (x y what : Int32) : Int32 := match z_ix x (tx_D T) with
  | none => -1
  | some d => match z_ix y (tx_C T) with
    | none => -1
    | some c => match z_ix what 2 with
      | none => -1
      | some k => match z_arg (fun o => r_unl T (r_lift T w d o) d c) (tx_C T) with
        | none => -2
        | some b => if k = 0 then nI b else r_unl T (r_lift T w d b) d c
def o_nearest (T : tx) (w : Nat → Int32) (x q : Int32) : Int32 := match z_ix x (tx_D T) with
  | none => -1
  | some d => match z_ix q 4 with
    | none => -1
    | some p => z_on (z_arg (fun c => z_off (w (4 * d + p)) (tx_cf T (4 * c + p))) (tx_C T))
def o_flat (T : tx) (w : Nat → Int32) (what : Int32) : Int32 := match z_ix what 2 with
  | none => -1
  | some k => match z_arg (fun d => r_unf T w d) (tx_D T) with
    | none => -2
    | some b => if k = 0 then nI b else r_unf T w b
/-- the first place of the most -/
def z_argM (f : Nat → Int32) : Nat → Option Nat
  | 0 => none
  | n + 1 => match z_argM f n with
    | none => some n
    | some b => if f b < f n then some n else some b
theorem z_argM_lt {f : Nat → Int32} : ∀ {n b : Nat}, z_argM f n = some b → b < n
  | 0, b, h => by cases h
  | n + 1, b, h => by
    unfold z_argM at h
    cases hx : z_argM f n with
    | none => rw [hx] at h; cases h; omega
    | some c =>
      rw [hx] at h
      have := z_argM_lt hx
      simp only [] at h
      split at h
      · cases h; omega
      · cases h; omega
def o_richest (T : tx) (w : Nat → Int32) (n what : Int32) : Int32 := match z_iv n 0 60 with
  | none => -1
  | some n => match z_ix what 2 with
    | none => -1
    | some k => match z_argM (fun d => r_still T w n (42 + d)) (tx_D T) with
      | none => -2
      | some b => if k = 0 then nI b else r_still T w n (42 + b)
def o_same (T : tx) (w : Nat → Int32) (x y : Int32) : Int32 := match z_ix x (tx_D T) with
  | none => -1
  | some d => match z_ix y (tx_C T) with
    | none => -1
    | some c => z_set (fun p => w (4 * d + p) = tx_cf T (4 * c + p)) 4
section M12
variable {G : sm_G} {d : Nat} {I : sm_I} {ρ : sm_R}
theorem q_then (hm : md ρ) (lv : Nat) (T : tx) (w : Nat → Int32) (hS : mS I lv T w) (x n what : Int32) : sm_M G xX10_then (d + 6) [.ref mM, .int x, .int n, .int what] I ρ (mPost I ρ (o_then T w x n what)) := by
  show sm_V G xX10_then (d + 6) 0 [.ref mM, .int x, .int n, .int what] [] I ρ _
  have h1 := hS.2.1.1
  have no : (¬ (∃ j, j < tx_D T ∧ x = nI j) ∨ ¬ (nI 0 ≤ n ∧ n ≤ nI 60) ∨ ¬ (nI 0 ≤ what ∧ what ≤ nI 5)) → sm_V G xX10_then (d + 6) 24 [.ref mM, .int x, .int n, .int what] [] I ρ (mPost I ρ (o_then T w x n what)) := by
    intro hno
    refine wp_iconst (-1) 25 rfl dX10_then_24 (by decide) ?_
    refine wp_iret dX10_then_25 rfl ?_
    refine sm_qi (mq.rf hS.2.2.2.2) ?_
    unfold o_then
    by_cases hx : ∃ j, j < tx_D T ∧ x = nI j
    · obtain ⟨dd, hd, rfl⟩ := hx
      rw [z_ix_n hd (by omega)]
      by_cases hn : nI 0 ≤ n ∧ n ≤ nI 60
      · obtain ⟨j, hj, rfl⟩ := (z_iv_iff (by omega) (by omega)).mp hn
        rw [z_iv_n hj (by omega) (by omega)]
        rcases hno with h | h | h
        · exact absurd ⟨dd, hd, rfl⟩ h
        · exact absurd hn h
        · rw [z_iv_o h]
      · rw [z_iv_o hn]
    · rw [z_ix_no (by omega) hx]
  refine wp_aload0 1 rfl dX10_then_0 ?_
  refine wp_iload1 2 rfl dX10_then_1 ?_
  refine wp_Ve1 5 rfl dX10_then_2 kX10_isDoor lX10_387 (md_M hm) (nl rfl) (nl rfl) (s_isDoor hm lv x hS.1.1.1 hS.1.1.2) ?_
  rw [hS.1.2.1.1]
  refine wp_if_eq 8 24 rfl rfl dX10_then_5 (fun c5 => ?_) (fun c5 => ?_)
  · exact no (Or.inl (fun h => z_b_eq.mp c5 ((z_in_iff (by omega)).mpr h)))
  · obtain ⟨dd, hd, rfl⟩ := (z_in_iff (by omega)).mp (z_b_ne.mp c5)
    refine wp_iload2 9 rfl dX10_then_8 ?_
    refine wp_Se1 12 rfl dX10_then_9 kX10_isLong lX10_411 (nl rfl) (nl rfl) (s_isLong _) ?_
    refine wp_if_eq 15 24 rfl rfl dX10_then_12 (fun c12 => ?_) (fun c12 => ?_)
    · exact no (Or.inr (Or.inl (z_b_eq.mp c12)))
    · have hn0 := z_b_ne.mp c12
      obtain ⟨m, hm60, rfl⟩ := (z_iv_iff (by omega) (by omega)).mp hn0
      refine wp_iload3 16 rfl dX10_then_15 ?_
      refine wp_iconst (nI 0) 17 rfl dX10_then_16 (by decide) ?_
      refine wp_iconst (nI 5) 18 rfl dX10_then_17 (by decide) ?_
      refine wp_Se3 21 rfl dX10_then_18 kX10_in lX10_313 (nl rfl) (nl rfl) (s_in _ _ _) ?_
      refine wp_if_ne 24 26 rfl rfl dX10_then_21 (fun c21 => ?_) (fun c21 => ?_)
      · obtain ⟨k, hk, rfl⟩ := (z_iv_iff (by omega) (by omega)).mp (z_b_ne.mp c21)
        have e9 : o_then T w (nI dd) (nI m) (nI k) = if k < 4 then r_drawn T w m (4 * dd + k) else if k = 4 then r_known T (r_drawn T w m) dd else r_drawn T w m (42 + dd) := by
          unfold o_then
          rw [z_ix_n hd (by omega), z_iv_n hm60 (by omega) (by omega), z_iv_n hk (by omega) (by omega)]
        have hq := cp_q hS
        have hr := cp_row hS
        have h53 := cp_53 hS
        have h54 := cp_54 (I := I) (lv := lv)
        have hT0 : mT (M_cp I lv) lv T := hS.1.kept hq.1 (by decide) (by decide)
        refine wp_aload0 27 rfl dX10_then_26 ?_
        refine wp_Ve0 30 rfl dX10_then_27 kX10_copies lX10_323 (md_M hm) (nl rfl) (nl rfl) (s_copies hm lv hS.1.1.1 hS.1.1.2) ?_
        generalize M_cp I lv = J at hq hr hT0 h53 h54 ⊢
        refine wp_aload0 31 rfl dX10_then_30 ?_
        refine wp_iload2 32 rfl dX10_then_31 ?_
        refine wp_Vv1 35 rfl dX10_then_32 kX10_goes lX10_414 (md_M hm) (nl rfl) (nl rfl) (s_goes hm lv T hT0 hS.2.1 m hm60.2) (fun J1 ρ1 hq1 => ?_)
        obtain ⟨rfl, hf1, hw1⟩ := hq1
        rw [hr, h53, h54] at hw1
        have hT1 := hT0.kept hf1 (by decide) (by decide)
        have hqq := sc_q hq hf1 hw1 (w70_days hS.2.1 hS.2.2.2.1 _)
        refine wp_iload3 36 rfl dX10_then_35 ?_
        refine wp_iconst (nI 4) 37 rfl dX10_then_36 (by decide) ?_
        refine wp_icmp_ge 40 53 rfl rfl dX10_then_37 (fun c37 => ?_) (fun c37 => ?_)
        · have hk4 : 4 ≤ k := by rw [nI_leI (by decide) (by omega)] at c37; exact c37
          rw [if_neg (by omega)] at e9
          refine wp_iload3 54 rfl dX10_then_53 ?_
          refine wp_iconst (nI 4) 55 rfl dX10_then_54 (by decide) ?_
          refine wp_icmp_ne 58 66 rfl rfl dX10_then_55 (fun c55 => ?_) (fun c55 => ?_)
          · have hk5 : k ≠ 4 := fun e => c55 (by rw [e])
            rw [if_neg hk5] at e9
            refine wp_aload0 67 rfl dX10_then_66 ?_
            refine wp_getr 70 rfl dX10_then_67 fX10_122_10 (md_M hm) (mp_row hm) ?_
            refine wp_bipush (nI 42) 72 rfl dX10_then_70 (by decide) ?_
            refine wp_iload1 73 rfl dX10_then_72 ?_
            refine wp_iadd 74 rfl dX10_then_73 ?_
            refine wp_iald 75 rfl dX10_then_74 (ms_row hm) (42 + dd) (by first | rfl | simp only [pk_mul, nI_add]) (⟨by omega, by decide⟩) ?_
            refine wp_iret dX10_then_75 rfl ?_
            exact sm_qi hqq (by rw [e9, hw1])
          · have hk4 : k = 4 := by rw [nI_eq (by omega) (by decide)] at c55; exact c55
            rw [if_pos hk4] at e9
            refine wp_aload0 59 rfl dX10_then_58 ?_
            refine wp_iload1 60 rfl dX10_then_59 ?_
            refine wp_Ve1 63 rfl dX10_then_60 kX10_knownBy lX10_390 (md_M hm) (nl rfl) (nl rfl) (s_knownBy hm lv dd (tx_C T) hT1.1.1 hT1.1.2 (by omega) hT1.2.1.2.1 h1.2.1) ?_
            refine wp_goto 75 rfl dX10_then_63 ?_
            refine wp_iret dX10_then_75 rfl ?_
            exact sm_qi hqq (by rw [e9, k_by_r hT1, hw1])
        · have hk4 : k < 4 := by rw [nI_leI (by decide) (by omega)] at c37; omega
          rw [if_pos hk4] at e9
          refine wp_aload0 41 rfl dX10_then_40 ?_
          refine wp_getr 44 rfl dX10_then_41 fX10_122_10 (md_M hm) (mp_row hm) ?_
          refine wp_iconst (nI 4) 45 rfl dX10_then_44 (by decide) ?_
          refine wp_iload1 46 rfl dX10_then_45 ?_
          refine wp_imul 47 rfl dX10_then_46 ?_
          refine wp_iload3 48 rfl dX10_then_47 ?_
          refine wp_iadd 49 rfl dX10_then_48 ?_
          refine wp_iald 50 rfl dX10_then_49 (ms_row hm) (4 * dd + k) (by first | rfl | simp only [pk_mul, nI_add]) (⟨by omega, by decide⟩) ?_
          refine wp_goto 75 rfl dX10_then_50 ?_
          refine wp_iret dX10_then_75 rfl ?_
          exact sm_qi hqq (by rw [e9, hw1])
      · exact no (Or.inr (Or.inr (z_b_eq.mp c21)))
theorem q_shift (hm : md ρ) (lv : Nat) (T : tx) (w : Nat → Int32) (hS : mS I lv T w) (x n : Int32) : sm_M G xX10_shift (d + 6) [.ref mM, .int x, .int n] I ρ (mPost I ρ (o_shift T w x n)) := by
  show sm_V G xX10_shift (d + 6) 0 [.ref mM, .int x, .int n, .retAddr 0, .retAddr 0] [] I ρ _
  have h1 := hS.2.1.1
  have no : (¬ (∃ j, j < tx_D T ∧ x = nI j) ∨ ¬ (nI 0 ≤ n ∧ n ≤ nI 60)) → sm_V G xX10_shift (d + 6) 15 [.ref mM, .int x, .int n, .retAddr 0, .retAddr 0] [] I ρ (mPost I ρ (o_shift T w x n)) := by
    intro hno
    refine wp_iconst (-1) 16 rfl dX10_shift_15 (by decide) ?_
    refine wp_iret dX10_shift_16 rfl ?_
    refine sm_qi (mq.rf hS.2.2.2.2) ?_
    unfold o_shift
    by_cases hx : ∃ j, j < tx_D T ∧ x = nI j
    · obtain ⟨dd, hd, rfl⟩ := hx
      rw [z_ix_n hd (by omega)]
      rcases hno with h | h
      · exact absurd ⟨dd, hd, rfl⟩ h
      · rw [z_iv_o h]
    · rw [z_ix_no (by omega) hx]
  refine wp_aload0 1 rfl dX10_shift_0 ?_
  refine wp_iload1 2 rfl dX10_shift_1 ?_
  refine wp_Ve1 5 rfl dX10_shift_2 kX10_isDoor lX10_387 (md_M hm) (nl rfl) (nl rfl) (s_isDoor hm lv x hS.1.1.1 hS.1.1.2) ?_
  rw [hS.1.2.1.1]
  refine wp_if_eq 8 15 rfl rfl dX10_shift_5 (fun c5 => ?_) (fun c5 => ?_)
  · exact no (Or.inl (fun h => z_b_eq.mp c5 ((z_in_iff (by omega)).mpr h)))
  · obtain ⟨dd, hd, rfl⟩ := (z_in_iff (by omega)).mp (z_b_ne.mp c5)
    refine wp_iload2 9 rfl dX10_shift_8 ?_
    refine wp_Se1 12 rfl dX10_shift_9 kX10_isLong lX10_411 (nl rfl) (nl rfl) (s_isLong _) ?_
    refine wp_if_ne 15 17 rfl rfl dX10_shift_12 (fun c12 => ?_) (fun c12 => ?_)
    · have hn0 := z_b_ne.mp c12
      obtain ⟨m, hm60, rfl⟩ := (z_iv_iff (by omega) (by omega)).mp hn0
      have e9 : o_shift T w (nI dd) (nI m) = z_sum (fun p => z_off (r_still T w m (4 * dd + p)) (w (4 * dd + p))) 4 := by
        unfold o_shift
        rw [z_ix_n hd (by omega), z_iv_n hm60 (by omega) (by omega)]
      rw [e9]
      have hq := cs_q hS
      have hr := cs_row hS
      have h53 := cs_53 hS
      have h54 := cs_54 (I := I) (lv := lv)
      have hT0 : mT (M_cs I lv) lv T := hS.1.kept hq.1 (by decide) (by decide)
      have hS0 := hS.q hq
      refine wp_aload0 18 rfl dX10_shift_17 ?_
      refine wp_Ve0 21 rfl dX10_shift_18 kX10_copiesStill lX10_430 (md_M hm) (nl rfl) (nl rfl) (s_cs hm lv hS.1.1.1 hS.1.1.2) ?_
      generalize M_cs I lv = J at hq hr hT0 h53 h54 hS0 ⊢
      refine wp_aload0 22 rfl dX10_shift_21 ?_
      refine wp_iload2 23 rfl dX10_shift_22 ?_
      refine wp_Vv1 26 rfl dX10_shift_23 kX10_goes lX10_414 (md_M hm) (nl rfl) (nl rfl) (s_goes hm lv T hT0 hS.2.1 m hm60.2) (fun J1 ρ1 hq1 => ?_)
      obtain ⟨rfl, hf1, hw1⟩ := hq1
      rw [hr, h53, h54] at hw1
      have hqq := sc_q hq hf1 hw1 (w70_days hS.2.1 hS.2.2.2.1 _)
      have hnow : J1 m_now = w := (hf1.1 _ (by decide) (by decide)).trans hS0.2.2.1
      refine wp_iconst (nI 0) 27 rfl dX10_shift_26 (by decide) ?_
      refine wp_istore3 28 rfl dX10_shift_27 (by decide) rfl ?_
      refine wp_iconst (nI 0) 29 rfl dX10_shift_28 (by decide) ?_
      refine wp_istore4 31 rfl dX10_shift_29 (by decide) rfl ?_
      refine sm_for (P := fun p => sm_V G xX10_shift (d + 6) 31 [.ref mM, .int (nI dd), .int (nI m), .int (z_sum (fun p => z_off (r_still T w m (4 * dd + p)) (w (4 * dd + p))) p), .int (nI p)] [] J1 ρ1 _) 0 4 (nl rfl) ?_ (fun p _ hp ih => ?_)
      · refine wp_iload4 33 rfl dX10_shift_31 ?_
        refine wp_iconst (nI 4) 34 rfl dX10_shift_33 (by decide) ?_
        refine wp_icmp_ge 37 71 rfl rfl dX10_shift_34 (fun c34 => ?_) (fun c34 => absurd (nI_le (Nat.le_refl 4) (by decide)) c34)
        refine wp_iload3 72 rfl dX10_shift_71 ?_
        refine wp_iret dX10_shift_72 rfl ?_
        exact sm_qi hqq rfl
      · refine wp_iload4 33 rfl dX10_shift_31 ?_
        refine wp_iconst (nI 4) 34 rfl dX10_shift_33 (by decide) ?_
        refine wp_icmp_ge 37 71 rfl rfl dX10_shift_34 (fun c34 => absurd c34 (nI_ge hp (by decide))) (fun c34 => ?_)
        refine wp_iload3 38 rfl dX10_shift_37 ?_
        refine wp_aload0 39 rfl dX10_shift_38 ?_
        refine wp_getr 42 rfl dX10_shift_39 fX10_122_10 (md_M hm) (mp_row hm) ?_
        refine wp_iconst (nI 4) 43 rfl dX10_shift_42 (by decide) ?_
        refine wp_iload1 44 rfl dX10_shift_43 ?_
        refine wp_imul 45 rfl dX10_shift_44 ?_
        refine wp_iload4 47 rfl dX10_shift_45 ?_
        refine wp_iadd 48 rfl dX10_shift_47 ?_
        refine wp_iald 49 rfl dX10_shift_48 (ms_row hm) (4 * dd + p) (by first | rfl | simp only [pk_mul, nI_add]) (⟨by omega, by decide⟩) ?_
        refine wp_aload0 50 rfl dX10_shift_49 ?_
        refine wp_getr 53 rfl dX10_shift_50 fX10_119_10 (md_M hm) (mp_now hm) ?_
        refine wp_iconst (nI 4) 54 rfl dX10_shift_53 (by decide) ?_
        refine wp_iload1 55 rfl dX10_shift_54 ?_
        refine wp_imul 56 rfl dX10_shift_55 ?_
        refine wp_iload4 58 rfl dX10_shift_56 ?_
        refine wp_iadd 59 rfl dX10_shift_58 ?_
        refine wp_iald 60 rfl dX10_shift_59 (ms_now hm) (4 * dd + p) (by first | rfl | simp only [pk_mul, nI_add]) (⟨by omega, by decide⟩) ?_
        refine wp_Se2 63 rfl dX10_shift_60 kX10_off lX10_336 (nl rfl) (nl rfl) (s_off _ _) ?_
        refine wp_iadd 64 rfl dX10_shift_63 ?_
        refine wp_istore3 65 rfl dX10_shift_64 (by decide) rfl ?_
        refine wp_iincN4 68 rfl dX10_shift_65 (by decide) rfl ?_
        refine wp_goto 31 rfl dX10_shift_68 ?_
        rw [hw1, hnow]
        exact ih
    · exact no (Or.inr (z_b_eq.mp c12))
theorem q_without (hm : md ρ) (lv : Nat) (T : tx) (w : Nat → Int32) (hS : mS I lv T w) (x n : Int32) : sm_M G xX10_without (d + 6) [.ref mM, .int x, .int n] I ρ (mPost I ρ (o_without T w x n)) := by
  show sm_V G xX10_without (d + 6) 0 [.ref mM, .int x, .int n] [] I ρ _
  have h1 := hS.2.1.1
  have no : (¬ (∃ j, j < tx_R T ∧ x = nI j) ∨ ¬ (nI 1 ≤ n ∧ n ≤ nI 60)) → sm_V G xX10_without (d + 6) 15 [.ref mM, .int x, .int n] [] I ρ (mPost I ρ (o_without T w x n)) := by
    intro hno
    refine wp_iconst (-1) 16 rfl dX10_without_15 (by decide) ?_
    refine wp_iret dX10_without_16 rfl ?_
    refine sm_qi (mq.rf hS.2.2.2.2) ?_
    unfold o_without
    by_cases hx : ∃ j, j < tx_R T ∧ x = nI j
    · obtain ⟨dd, hd, rfl⟩ := hx
      rw [z_ix_n hd (by omega)]
      rcases hno with h | h
      · exact absurd ⟨dd, hd, rfl⟩ h
      · rw [z_iv_o h]
    · rw [z_ix_no (by omega) hx]
  refine wp_aload0 1 rfl dX10_without_0 ?_
  refine wp_iload1 2 rfl dX10_without_1 ?_
  refine wp_Ve1 5 rfl dX10_without_2 kX10_isRound lX10_396 (md_M hm) (nl rfl) (nl rfl) (s_isRound hm lv x hS.1.1.1 hS.1.1.2) ?_
  rw [hS.1.2.1.2.2]
  refine wp_if_eq 8 15 rfl rfl dX10_without_5 (fun c5 => ?_) (fun c5 => ?_)
  · exact no (Or.inl (fun h => z_b_eq.mp c5 ((z_in_iff (by omega)).mpr h)))
  · obtain ⟨r, hd, rfl⟩ := (z_in_iff (by omega)).mp (z_b_ne.mp c5)
    refine wp_iload2 9 rfl dX10_without_8 ?_
    refine wp_Se1 12 rfl dX10_without_9 kX10_isSome lX10_427 (nl rfl) (nl rfl) (s_isSome _) ?_
    refine wp_if_ne 15 17 rfl rfl dX10_without_12 (fun c12 => ?_) (fun c12 => ?_)
    · have hn0 := z_b_ne.mp c12
      obtain ⟨m, hm60, rfl⟩ := (z_iv_iff (by omega) (by omega)).mp hn0
      have e9 : o_without T w (nI r) (nI m) = r_known T (r_still T (upd w (54 + r) (nI 0)) m) (tx_door T r) := by
        unfold o_without
        rw [z_ix_n hd (by omega), z_iv_n hm60 (by omega) (by omega)]
      rw [e9]
      have hq := cs_q hS
      have hr := cs_row hS
      have h53 := cs_53 hS
      have h54 := cs_54 (I := I) (lv := lv)
      refine wp_aload0 18 rfl dX10_without_17 ?_
      refine wp_Ve0 21 rfl dX10_without_18 kX10_copiesStill lX10_430 (md_M hm) (nl rfl) (nl rfl) (s_cs hm lv hS.1.1.1 hS.1.1.2) ?_
      generalize M_cs I lv = J at hq hr h53 h54 ⊢
      have hq1 : mq I (sm_u J m_row (54 + r) (nI 0)) := hq.tr (mf.u (by decide) (by decide)) (by rw [sm_u_eq, hr]; exact w70_upd hS.2.2.2.1 (by omega) _)
      have hr1 : sm_u J m_row (54 + r) (nI 0) m_row = upd w (54 + r) (nI 0) := by rw [sm_u_eq, hr]
      have h53' : sm_u J m_row (54 + r) (nI 0) mM 53 = tx_seed T := h53
      have h54' : sm_u J m_row (54 + r) (nI 0) mM 54 = nI 1 := h54
      refine wp_aload0 22 rfl dX10_without_21 ?_
      refine wp_getr 25 rfl dX10_without_22 fX10_122_10 (md_M hm) (mp_row hm) ?_
      refine wp_bipush (nI 54) 27 rfl dX10_without_25 (by decide) ?_
      refine wp_iload1 28 rfl dX10_without_27 ?_
      refine wp_iadd 29 rfl dX10_without_28 ?_
      refine wp_iconst (nI 0) 30 rfl dX10_without_29 (by decide) ?_
      refine wp_iast 31 rfl dX10_without_30 (ms_row hm) (54 + r) (by first | rfl | simp only [pk_mul, nI_add]) (⟨by omega, by decide⟩) ?_
      generalize sm_u J m_row (54 + r) (nI 0) = J0 at hq1 hr1 h53' h54' ⊢
      have hT0 : mT J0 lv T := hS.1.kept hq1.1 (by decide) (by decide)
      refine wp_aload0 32 rfl dX10_without_31 ?_
      refine wp_iload2 33 rfl dX10_without_32 ?_
      refine wp_Vv1 36 rfl dX10_without_33 kX10_goes lX10_414 (md_M hm) (nl rfl) (nl rfl) (s_goes hm lv T hT0 hS.2.1 m hm60.2) (fun J1 ρ1 hq2 => ?_)
      obtain ⟨rfl, hf1, hw1⟩ := hq2
      rw [hr1, h53', h54'] at hw1
      have hT1 := hT0.kept hf1 (by decide) (by decide)
      have hqq := sc_q hq1 hf1 hw1 (w70_days hS.2.1 (w70_upd hS.2.2.2.1 (by omega) _) _)
      obtain ⟨g1, g2, -⟩ := hT1.2.2.2.2.1 r hd
      obtain ⟨k1, k2, -⟩ := hS.2.1.2.2.2.1 r hd
      refine wp_aload0 37 rfl dX10_without_36 ?_
      refine wp_aload0 38 rfl dX10_without_37 ?_
      refine wp_getr 41 rfl dX10_without_38 fX10_64_10 (md_M hm) (mp_doorOf hm) ?_
      refine wp_bipush (nI 10) 43 rfl dX10_without_41 (by decide) ?_
      refine wp_aload0 44 rfl dX10_without_43 ?_
      refine wp_geti 47 rfl dX10_without_44 fX10_233_10 (md_M hm) ?_
      refine wp_imul 48 rfl dX10_without_47 ?_
      refine wp_iload1 49 rfl dX10_without_48 ?_
      refine wp_iadd 50 rfl dX10_without_49 ?_
      refine wp_iald 51 rfl dX10_without_50 (ms_doorOf hm) (10 * lv + r) (by rw [hT1.1.1, pk_mul, nI_add]) (⟨by have := hT1.1.2; omega, by decide⟩) ?_
      rw [g2]
      refine wp_Ve1 54 rfl dX10_without_51 kX10_knownBy lX10_390 (md_M hm) (nl rfl) (nl rfl) (s_knownBy hm lv (tx_door T r) (tx_C T) hT1.1.1 hT1.1.2 (by omega) hT1.2.1.2.1 h1.2.1) ?_
      refine wp_iret dX10_without_54 rfl ?_
      exact sm_qi hqq (by rw [k_by_r hT1, hw1])
    · exact no (Or.inr (z_b_eq.mp c12))
end M12
