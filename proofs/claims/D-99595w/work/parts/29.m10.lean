/-! ===== more that is asked of the model ===== -/
set_option maxRecDepth 100000
theorem z_in_lo {x : Int32} {n m : Nat} (hm : m + 1 = n) (hn : n < 1000) : (nI 0 ≤ x ∧ x ≤ nI m) ↔ ∃ j, j < n ∧ x = nI j := by
  subst hm
  rw [← z_in_iff hn, pk_sub (by omega)]
  rfl
theorem z_ix_no {x : Int32} {n : Nat} (hn : n < 1000) (h : ¬ ∃ j, j < n ∧ x = nI j) : z_ix x n = none := z_ix_o (fun q => h ((z_in_iff hn).mp q))
/-- a set of bits -/
def z_set (P : Nat → Prop) [DecidablePred P] : Nat → Int32
  | 0 => nI 0
  | n + 1 => if P n then z_set P n ||| nI 1 <<< (nI n &&& 31) else z_set P n
def o_unlike (T : tx) (w : Nat → Int32) (x y : Int32) : Int32 := match z_ix x (tx_D T) with
  | none => -1
  | some d => match z_ix y (tx_C T) with
    | none => -1
    | some c => r_unl T w d c
def o_tells (T : tx) (w : Nat → Int32) (x y what : Int32) : Int32 := match z_ix x (tx_D T) with
  | none => -1
  | some d => match z_ix y (tx_C T) with
    | none => -1
    | some c => match z_ix what 5 with
      | none => -1
      | some k => if k = 4 then r_pays T w d c else r_gives T w d c k
def o_caller (T : tx) (w : Nat → Int32) (y what : Int32) : Int32 := match z_ix y (tx_C T) with
  | none => -1
  | some c => match z_ix what 6 with
    | none => -1
    | some k => if k < 4 then tx_cf T (4 * c + k) else if k = 4 then w (64 + c) else z_set (fun d => r_known T w d = nI c) (tx_D T)
def o_round (T : tx) (w : Nat → Int32) (x what : Int32) : Int32 := match z_ix x (tx_R T) with
  | none => -1
  | some r => match z_ix what 6 with
    | none => -1
    | some k => if k = 0 then nI (tx_who T r) else if k = 1 then nI (tx_door T r) else if k = 2 then tx_ev T r else if k = 3 then tx_fr T r else if k = 4 then w (54 + r) else z_b (z_due (tx_fr T r) (tx_ev T r) (w 69))
section M10
variable {G : sm_G} {d : Nat} {I : sm_I} {ρ : sm_R}
theorem s_areBoth (hm : md ρ) (lv : Nat) (T : tx) (hT : mT I lv T) (ht : tok T) (x y : Int32) : sm_M G xX10_areBoth (d + 2) [.ref mM, .int x, .int y] I ρ (sm_Qe (some (.int (z_b ((∃ j, j < tx_D T ∧ x = nI j) ∧ ∃ j, j < tx_C T ∧ y = nI j)))) I ρ) := by
  show sm_V G xX10_areBoth (d + 2) 0 [.ref mM, .int x, .int y] [] I ρ _
  have h1 := ht.1
  refine wp_aload0 1 rfl dX10_areBoth_0 ?_
  refine wp_iload1 2 rfl dX10_areBoth_1 ?_
  refine wp_Ve1 5 rfl dX10_areBoth_2 kX10_isDoor lX10_387 (md_M hm) (nl rfl) (nl rfl) (s_isDoor hm lv x hT.1.1 hT.1.2) ?_
  rw [hT.2.1.1]
  refine wp_if_eq 8 20 rfl rfl dX10_areBoth_5 (fun c5 => ?_) (fun c5 => ?_)
  · refine wp_iconst (nI 0) 21 rfl dX10_areBoth_20 (by decide) ?_
    refine wp_zret dX10_areBoth_21 rfl (rfl) ?_
    exact sm_ei (z_bf (fun h => z_b_eq.mp c5 ((z_in_iff (by omega)).mpr h.1))).symm
  · refine wp_aload0 9 rfl dX10_areBoth_8 ?_
    refine wp_iload2 10 rfl dX10_areBoth_9 ?_
    refine wp_Ve1 13 rfl dX10_areBoth_10 kX10_isCaller lX10_393 (md_M hm) (nl rfl) (nl rfl) (s_isCaller hm lv y hT.1.1 hT.1.2) ?_
    rw [hT.2.1.2.1]
    refine wp_if_eq 16 20 rfl rfl dX10_areBoth_13 (fun c13 => ?_) (fun c13 => ?_)
    · refine wp_iconst (nI 0) 21 rfl dX10_areBoth_20 (by decide) ?_
      refine wp_zret dX10_areBoth_21 rfl (rfl) ?_
      exact sm_ei (z_bf (fun h => z_b_eq.mp c13 ((z_in_iff (by omega)).mpr h.2))).symm
    · refine wp_iconst (nI 1) 17 rfl dX10_areBoth_16 (by decide) ?_
      refine wp_goto 21 rfl dX10_areBoth_17 ?_
      refine wp_zret dX10_areBoth_21 rfl (rfl) ?_
      exact sm_ei (z_bt ⟨(z_in_iff (by omega)).mp (z_b_ne.mp c5), (z_in_iff (by omega)).mp (z_b_ne.mp c13)⟩).symm
theorem s_isLong (x : Int32) : sm_M G xX10_isLong (d + 1) [.int x] I ρ (sm_Qe (some (.int (z_b (nI 0 ≤ x ∧ x ≤ nI 60)))) I ρ) := by
  show sm_V G xX10_isLong (d + 1) 0 [.int x] [] I ρ _
  refine wp_iload0 1 rfl dX10_isLong_0 ?_
  refine wp_iconst (nI 0) 2 rfl dX10_isLong_1 (by decide) ?_
  refine wp_bipush (nI 60) 4 rfl dX10_isLong_2 (by decide) ?_
  refine wp_Se3 7 rfl dX10_isLong_4 kX10_in lX10_313 (nl rfl) (nl rfl) (s_in _ _ _) ?_
  refine wp_zret dX10_isLong_7 rfl (z_bn) ?_
  exact sm_ei rfl
theorem s_isSome (x : Int32) : sm_M G xX10_isSome (d + 1) [.int x] I ρ (sm_Qe (some (.int (z_b (nI 1 ≤ x ∧ x ≤ nI 60)))) I ρ) := by
  show sm_V G xX10_isSome (d + 1) 0 [.int x] [] I ρ _
  refine wp_iload0 1 rfl dX10_isSome_0 ?_
  refine wp_iconst (nI 1) 2 rfl dX10_isSome_1 (by decide) ?_
  refine wp_bipush (nI 60) 4 rfl dX10_isSome_2 (by decide) ?_
  refine wp_Se3 7 rfl dX10_isSome_4 kX10_in lX10_313 (nl rfl) (nl rfl) (s_in _ _ _) ?_
  refine wp_zret dX10_isSome_7 rfl (z_bn) ?_
  exact sm_ei rfl
theorem s_isPart (x : Int32) : sm_M G xX10_isPart (d + 1) [.int x] I ρ (sm_Qe (some (.int (z_b (nI 0 ≤ x ∧ x ≤ nI 3)))) I ρ) := by
  show sm_V G xX10_isPart (d + 1) 0 [.int x] [] I ρ _
  refine wp_iload0 1 rfl dX10_isPart_0 ?_
  refine wp_iconst (nI 0) 2 rfl dX10_isPart_1 (by decide) ?_
  refine wp_iconst (nI 3) 3 rfl dX10_isPart_2 (by decide) ?_
  refine wp_Se3 6 rfl dX10_isPart_3 kX10_in lX10_313 (nl rfl) (nl rfl) (s_in _ _ _) ?_
  refine wp_zret dX10_isPart_6 rfl (z_bn) ?_
  exact sm_ei rfl
theorem q_unlike (hm : md ρ) (lv : Nat) (T : tx) (w : Nat → Int32) (hS : mS I lv T w) (x y : Int32) : sm_M G xX10_unlike (d + 3) [.ref mM, .int x, .int y] I ρ (mPost I ρ (o_unlike T w x y)) := by
  show sm_V G xX10_unlike (d + 3) 0 [.ref mM, .int x, .int y] [] I ρ _
  have h1 := hS.2.1.1
  refine wp_aload0 1 rfl dX10_unlike_0 ?_
  refine wp_iload1 2 rfl dX10_unlike_1 ?_
  refine wp_iload2 3 rfl dX10_unlike_2 ?_
  refine wp_Ve2 6 rfl dX10_unlike_3 kX10_areBoth lX10_399 (md_M hm) (nl rfl) (nl rfl) (s_areBoth hm lv T hS.1 hS.2.1 x y) ?_
  unfold o_unlike
  refine wp_if_ne 9 11 rfl rfl dX10_unlike_6 (fun c6 => ?_) (fun c6 => ?_)
  · obtain ⟨⟨dd, hd, rfl⟩, c, hc, rfl⟩ := z_b_ne.mp c6
    rw [z_ix_n hd (by omega), z_ix_n hc (by omega)]
    have hq := cp_q hS
    have hr := cp_row hS
    have hT1 : mT (M_cp I lv) lv T := hS.1.kept hq.1 (by decide) (by decide)
    refine wp_aload0 12 rfl dX10_unlike_11 ?_
    refine wp_Ve0 15 rfl dX10_unlike_12 kX10_copies lX10_323 (md_M hm) (nl rfl) (nl rfl) (s_copies hm lv hS.1.1.1 hS.1.1.2) ?_
    refine wp_aload0 16 rfl dX10_unlike_15 ?_
    refine wp_iload1 17 rfl dX10_unlike_16 ?_
    refine wp_iload2 18 rfl dX10_unlike_17 ?_
    refine wp_Ve2 21 rfl dX10_unlike_18 kX10_unlikeTo lX10_342 (md_M hm) (nl rfl) (nl rfl) (s_unlikeTo hm lv dd c hT1.1.1 hT1.1.2 (by omega) (by omega)) ?_
    refine wp_iret dX10_unlike_21 rfl ?_
    exact sm_qi hq (by rw [u_to_r hT1 hc, hr])
  · refine wp_iconst (-1) 10 rfl dX10_unlike_9 (by decide) ?_
    refine wp_iret dX10_unlike_10 rfl ?_
    refine sm_qi (mq.rf hS.2.2.2.2) ?_
    have hno := z_b_eq.mp c6
    by_cases hx : ∃ j, j < tx_D T ∧ x = nI j
    · obtain ⟨dd, hd, rfl⟩ := hx
      rw [z_ix_n hd (by omega), z_ix_no (by omega) (fun h => hno ⟨⟨dd, hd, rfl⟩, h⟩)]
    · rw [z_ix_no (by omega) hx]
theorem q_tells (hm : md ρ) (lv : Nat) (T : tx) (w : Nat → Int32) (hS : mS I lv T w) (x y what : Int32) : sm_M G xX10_tells (d + 3) [.ref mM, .int x, .int y, .int what] I ρ (mPost I ρ (o_tells T w x y what)) := by
  show sm_V G xX10_tells (d + 3) 0 [.ref mM, .int x, .int y, .int what] [] I ρ _
  have h1 := hS.2.1.1
  have no : (¬ ((∃ j, j < tx_D T ∧ x = nI j) ∧ ∃ j, j < tx_C T ∧ y = nI j) ∨ ¬ (nI 0 ≤ what ∧ what ≤ nI 4)) → sm_V G xX10_tells (d + 3) 18 [.ref mM, .int x, .int y, .int what] [] I ρ (mPost I ρ (o_tells T w x y what)) := by
    intro hno
    refine wp_iconst (-1) 19 rfl dX10_tells_18 (by decide) ?_
    refine wp_iret dX10_tells_19 rfl ?_
    refine sm_qi (mq.rf hS.2.2.2.2) ?_
    unfold o_tells
    by_cases hx : ∃ j, j < tx_D T ∧ x = nI j
    · obtain ⟨dd, hd, rfl⟩ := hx
      rw [z_ix_n hd (by omega)]
      by_cases hy : ∃ j, j < tx_C T ∧ y = nI j
      · obtain ⟨c, hc, rfl⟩ := hy
        rw [z_ix_n hc (by omega)]
        rcases hno with hno | hno
        · exact absurd ⟨⟨dd, hd, rfl⟩, c, hc, rfl⟩ hno
        · rw [z_ix_no (by omega) (fun h => hno ((z_in_lo rfl (by omega)).mpr h))]
      · rw [z_ix_no (by omega) hy]
    · rw [z_ix_no (by omega) hx]
  refine wp_aload0 1 rfl dX10_tells_0 ?_
  refine wp_iload1 2 rfl dX10_tells_1 ?_
  refine wp_iload2 3 rfl dX10_tells_2 ?_
  refine wp_Ve2 6 rfl dX10_tells_3 kX10_areBoth lX10_399 (md_M hm) (nl rfl) (nl rfl) (s_areBoth hm lv T hS.1 hS.2.1 x y) ?_
  refine wp_if_eq 9 18 rfl rfl dX10_tells_6 (fun c6 => ?_) (fun c6 => ?_)
  · exact no (Or.inl (z_b_eq.mp c6))
  · obtain ⟨⟨dd, hd, rfl⟩, c, hc, rfl⟩ := z_b_ne.mp c6
    refine wp_iload3 10 rfl dX10_tells_9 ?_
    refine wp_iconst (nI 0) 11 rfl dX10_tells_10 (by decide) ?_
    refine wp_iconst (nI 4) 12 rfl dX10_tells_11 (by decide) ?_
    refine wp_Se3 15 rfl dX10_tells_12 kX10_in lX10_313 (nl rfl) (nl rfl) (s_in _ _ _) ?_
    refine wp_if_ne 18 20 rfl rfl dX10_tells_15 (fun c15 => ?_) (fun c15 => ?_)
    · obtain ⟨k, hk, rfl⟩ := (z_in_lo rfl (by omega)).mp (z_b_ne.mp c15)
      have hq := cp_q hS
      have hr := cp_row hS
      have hT1 : mT (M_cp I lv) lv T := hS.1.kept hq.1 (by decide) (by decide)
      have e9 : o_tells T w (nI dd) (nI c) (nI k) = if k = 4 then r_pays T w dd c else r_gives T w dd c k := by
        unfold o_tells
        rw [z_ix_n hd (by omega), z_ix_n hc (by omega), z_ix_n hk (by omega)]
      refine wp_aload0 21 rfl dX10_tells_20 ?_
      refine wp_Ve0 24 rfl dX10_tells_21 kX10_copies lX10_323 (md_M hm) (nl rfl) (nl rfl) (s_copies hm lv hS.1.1.1 hS.1.1.2) ?_
      refine wp_iload3 25 rfl dX10_tells_24 ?_
      refine wp_iconst (nI 4) 26 rfl dX10_tells_25 (by decide) ?_
      generalize M_cp I lv = J at hq hr hT1 ⊢
      refine wp_icmp_ne 29 38 rfl rfl dX10_tells_26 (fun c26 => ?_) (fun c26 => ?_)
      · have hk4 : k ≠ 4 := fun e => c26 (by rw [e])
        refine wp_aload0 39 rfl dX10_tells_38 ?_
        refine wp_iload1 40 rfl dX10_tells_39 ?_
        refine wp_iload2 41 rfl dX10_tells_40 ?_
        refine wp_iload3 42 rfl dX10_tells_41 ?_
        refine wp_Vi3 45 rfl dX10_tells_42 kX10_givesOf lX10_363 (md_M hm) (nl rfl) (nl rfl) (s_givesOf hm lv T hT1 hS.2.1 dd c k hd hc (by omega)) (fun r I1 ρ1 hq1 => ?_)
        obtain ⟨rfl, hf1, rfl⟩ := hq1
        refine wp_iret dX10_tells_45 rfl ?_
        exact sm_qi (hq.tr (hf1.wk (by decide) (by decide)) (by rw [hf1.1 _ (by decide) (by decide), hr]; exact hS.2.2.2.1)) (by rw [e9, if_neg hk4, hr])
      · have hk4 : k = 4 := by rw [nI_eq (by omega) (by decide)] at c26; exact c26
        refine wp_aload0 30 rfl dX10_tells_29 ?_
        refine wp_iload1 31 rfl dX10_tells_30 ?_
        refine wp_iload2 32 rfl dX10_tells_31 ?_
        refine wp_Vi2 35 rfl dX10_tells_32 kX10_paysOf lX10_360 (md_M hm) (nl rfl) (nl rfl) (s_paysOf hm lv T hT1 hS.2.1 dd c hd hc) (fun r I1 ρ1 hq1 => ?_)
        refine wp_goto 45 rfl dX10_tells_35 ?_
        obtain ⟨rfl, hf1, rfl⟩ := hq1
        refine wp_iret dX10_tells_45 rfl ?_
        exact sm_qi (hq.tr (hf1.wk (by decide) (by decide)) (by rw [hf1.1 _ (by decide) (by decide), hr]; exact hS.2.2.2.1)) (by rw [e9, if_pos hk4, hr])
    · exact no (Or.inr (z_b_eq.mp c15))
theorem q_caller (hm : md ρ) (lv : Nat) (T : tx) (w : Nat → Int32) (hS : mS I lv T w) (y what : Int32) : sm_M G xX10_caller (d + 3) [.ref mM, .int y, .int what] I ρ (mPost I ρ (o_caller T w y what)) := by
  show sm_V G xX10_caller (d + 3) 0 [.ref mM, .int y, .int what, .retAddr 0, .retAddr 0] [] I ρ _
  have h1 := hS.2.1.1
  have no : (¬ (∃ j, j < tx_C T ∧ y = nI j) ∨ ¬ (nI 0 ≤ what ∧ what ≤ nI 5)) → sm_V G xX10_caller (d + 3) 17 [.ref mM, .int y, .int what, .retAddr 0, .retAddr 0] [] I ρ (mPost I ρ (o_caller T w y what)) := by
    intro hno
    refine wp_iconst (-1) 18 rfl dX10_caller_17 (by decide) ?_
    refine wp_iret dX10_caller_18 rfl ?_
    refine sm_qi (mq.rf hS.2.2.2.2) ?_
    unfold o_caller
    by_cases hy : ∃ j, j < tx_C T ∧ y = nI j
    · obtain ⟨c, hc, rfl⟩ := hy
      rw [z_ix_n hc (by omega)]
      rcases hno with hno | hno
      · exact absurd ⟨c, hc, rfl⟩ hno
      · rw [z_ix_no (by omega) (fun h => hno ((z_in_lo rfl (by omega)).mpr h))]
    · rw [z_ix_no (by omega) hy]
  refine wp_aload0 1 rfl dX10_caller_0 ?_
  refine wp_iload1 2 rfl dX10_caller_1 ?_
  refine wp_Ve1 5 rfl dX10_caller_2 kX10_isCaller lX10_393 (md_M hm) (nl rfl) (nl rfl) (s_isCaller hm lv y hS.1.1.1 hS.1.1.2) ?_
  rw [hS.1.2.1.2.1]
  refine wp_if_eq 8 17 rfl rfl dX10_caller_5 (fun c5 => ?_) (fun c5 => ?_)
  · exact no (Or.inl (fun h => z_b_eq.mp c5 ((z_in_iff (by omega)).mpr h)))
  · obtain ⟨c, hc, rfl⟩ := (z_in_iff (by omega)).mp (z_b_ne.mp c5)
    refine wp_iload2 9 rfl dX10_caller_8 ?_
    refine wp_iconst (nI 0) 10 rfl dX10_caller_9 (by decide) ?_
    refine wp_iconst (nI 5) 11 rfl dX10_caller_10 (by decide) ?_
    refine wp_Se3 14 rfl dX10_caller_11 kX10_in lX10_313 (nl rfl) (nl rfl) (s_in _ _ _) ?_
    refine wp_if_ne 17 19 rfl rfl dX10_caller_14 (fun c14 => ?_) (fun c14 => ?_)
    · obtain ⟨k, hk, rfl⟩ := (z_in_lo rfl (by omega)).mp (z_b_ne.mp c14)
      have hq := cp_q hS
      have hr := cp_row hS
      have hT1 : mT (M_cp I lv) lv T := hS.1.kept hq.1 (by decide) (by decide)
      have e9 : o_caller T w (nI c) (nI k) = if k < 4 then tx_cf T (4 * c + k) else if k = 4 then w (64 + c) else z_set (fun d => r_known T w d = nI c) (tx_D T) := by
        unfold o_caller
        rw [z_ix_n hc (by omega), z_ix_n hk (by omega)]
      refine wp_aload0 20 rfl dX10_caller_19 ?_
      refine wp_Ve0 23 rfl dX10_caller_20 kX10_copies lX10_323 (md_M hm) (nl rfl) (nl rfl) (s_copies hm lv hS.1.1.1 hS.1.1.2) ?_
      refine wp_iload2 24 rfl dX10_caller_23 ?_
      refine wp_iconst (nI 4) 25 rfl dX10_caller_24 (by decide) ?_
      generalize M_cp I lv = J at hq hr hT1 ⊢
      refine wp_icmp_ge 28 35 rfl rfl dX10_caller_25 (fun c25 => ?_) (fun c25 => ?_)
      · have hk4 : 4 ≤ k := by rw [nI_leI (by decide) (by omega)] at c25; exact c25
        rw [if_neg (by omega)] at e9
        refine wp_iload2 36 rfl dX10_caller_35 ?_
        refine wp_iconst (nI 4) 37 rfl dX10_caller_36 (by decide) ?_
        refine wp_icmp_ne 40 50 rfl rfl dX10_caller_37 (fun c37 => ?_) (fun c37 => ?_)
        · have hk5 : k ≠ 4 := fun e => c37 (by rw [e])
          rw [if_neg hk5] at e9
          refine wp_iconst (nI 0) 51 rfl dX10_caller_50 (by decide) ?_
          refine wp_istore3 52 rfl dX10_caller_51 (by decide) rfl ?_
          refine wp_iconst (nI 0) 53 rfl dX10_caller_52 (by decide) ?_
          refine wp_istore4 55 rfl dX10_caller_53 (by decide) rfl ?_
          refine sm_for (P := fun p => sm_V G xX10_caller (d + 3) 55 [.ref mM, .int (nI c), .int (nI k), .int (z_set (fun d => r_known T w d = nI c) p), .int (nI p)] [] J ρ _) 0 (tx_D T) (Nat.zero_le _) ?_ (fun p _ hp ih => ?_)
          · refine wp_iload4 57 rfl dX10_caller_55 ?_
            refine wp_aload0 58 rfl dX10_caller_57 ?_
            refine wp_getr 61 rfl dX10_caller_58 fX10_46_10 (md_M hm) (mp_doors hm) ?_
            refine wp_aload0 62 rfl dX10_caller_61 ?_
            refine wp_geti 65 rfl dX10_caller_62 fX10_233_10 (md_M hm) ?_
            refine wp_iald 66 rfl dX10_caller_65 (ms_doors hm) (lv) (hT1.1.1) (⟨hT1.1.2, by decide⟩) ?_
            refine wp_icmp_ge 69 92 rfl rfl dX10_caller_66 (fun c66 => ?_) (fun c66 => absurd (by rw [hT1.2.1.1]; exact nI_le (Nat.le_refl _) (by omega)) c66)
            refine wp_iload3 93 rfl dX10_caller_92 ?_
            refine wp_iret dX10_caller_93 rfl ?_
            exact sm_qi hq (by rw [e9])
          · have es : z_set (fun d => r_known T w d = nI c) (p + 1) = if r_known T w p = nI c then z_set (fun d => r_known T w d = nI c) p ||| nI 1 <<< (nI p &&& 31) else z_set (fun d => r_known T w d = nI c) p := rfl
            rw [es] at ih
            refine wp_iload4 57 rfl dX10_caller_55 ?_
            refine wp_aload0 58 rfl dX10_caller_57 ?_
            refine wp_getr 61 rfl dX10_caller_58 fX10_46_10 (md_M hm) (mp_doors hm) ?_
            refine wp_aload0 62 rfl dX10_caller_61 ?_
            refine wp_geti 65 rfl dX10_caller_62 fX10_233_10 (md_M hm) ?_
            refine wp_iald 66 rfl dX10_caller_65 (ms_doors hm) (lv) (hT1.1.1) (⟨hT1.1.2, by decide⟩) ?_
            refine wp_icmp_ge 69 92 rfl rfl dX10_caller_66 (fun c66 => absurd c66 (by rw [hT1.2.1.1]; exact nI_ge hp (by omega))) (fun c66 => ?_)
            refine wp_aload0 70 rfl dX10_caller_69 ?_
            refine wp_iload4 72 rfl dX10_caller_70 ?_
            refine wp_Ve1 75 rfl dX10_caller_72 kX10_knownBy lX10_390 (md_M hm) (nl rfl) (nl rfl) (s_knownBy hm lv p (tx_C T) hT1.1.1 hT1.1.2 (by omega) hT1.2.1.2.1 h1.2.1) ?_
            refine wp_iload1 76 rfl dX10_caller_75 ?_
            rw [k_by_r hT1, hr]
            refine wp_icmp_ne 79 86 rfl rfl dX10_caller_76 (fun c76 => ?_) (fun c76 => ?_)
            · rw [if_neg c76] at ih
              refine wp_iincN4 89 rfl dX10_caller_86 (by decide) rfl ?_
              refine wp_goto 55 rfl dX10_caller_89 ?_
              exact ih
            · rw [if_pos c76] at ih
              refine wp_iload3 80 rfl dX10_caller_79 ?_
              refine wp_iconst (nI 1) 81 rfl dX10_caller_80 (by decide) ?_
              refine wp_iload4 83 rfl dX10_caller_81 ?_
              refine wp_ishl 84 rfl dX10_caller_83 ?_
              refine wp_ior 85 rfl dX10_caller_84 ?_
              refine wp_istore3 86 rfl dX10_caller_85 (by decide) rfl ?_
              refine wp_iincN4 89 rfl dX10_caller_86 (by decide) rfl ?_
              refine wp_goto 55 rfl dX10_caller_89 ?_
              exact ih
        · have hk4 : k = 4 := by rw [nI_eq (by omega) (by decide)] at c37; exact c37
          rw [if_pos hk4] at e9
          refine wp_aload0 41 rfl dX10_caller_40 ?_
          refine wp_getr 44 rfl dX10_caller_41 fX10_122_10 (md_M hm) (mp_row hm) ?_
          refine wp_bipush (nI 64) 46 rfl dX10_caller_44 (by decide) ?_
          refine wp_iload1 47 rfl dX10_caller_46 ?_
          refine wp_iadd 48 rfl dX10_caller_47 ?_
          refine wp_iald 49 rfl dX10_caller_48 (ms_row hm) (64 + c) (by first | rfl | simp only [pk_mul, nI_add]) (⟨by omega, by decide⟩) ?_
          refine wp_iret dX10_caller_49 rfl ?_
          exact sm_qi hq (by rw [e9, hr])
      · have hk4 : k < 4 := by rw [nI_leI (by decide) (by omega)] at c25; omega
        rw [if_pos hk4] at e9
        refine wp_aload0 29 rfl dX10_caller_28 ?_
        refine wp_iload1 30 rfl dX10_caller_29 ?_
        refine wp_iload2 31 rfl dX10_caller_30 ?_
        refine wp_Ve2 34 rfl dX10_caller_31 kX10_facePart lX10_333 (md_M hm) (nl rfl) (nl rfl) (s_facePart hm lv c k hT1.1.1 hT1.1.2 (by omega) hk4) ?_
        refine wp_iret dX10_caller_34 rfl ?_
        exact sm_qi hq (by rw [e9, ← hT1.2.2.1 (4 * c + k) (by omega), Nat.add_assoc])
    · exact no (Or.inr (z_b_eq.mp c14))
end M10
