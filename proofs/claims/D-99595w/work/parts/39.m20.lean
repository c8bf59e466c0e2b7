/-! ===== lift, polish, file, keep, days, undo ===== -/
set_option maxRecDepth 100000
def y_lift (S : yS) (x y : Int32) : Int32 × yS := match z_ix x (tx_D (y_T S)) with
  | none => (nI 0, S)
  | some d => match z_ix y (tx_C (y_T S)) with
    | none => (nI 0, S)
    | some c => (nI 1, y_rec S (r_lift (y_T S) (y_w S) d c))
def y_polish (S : yS) (x : Int32) : Int32 × yS := match z_ix x (tx_D (y_T S)) with
  | none => (nI 0, S)
  | some d => (nI 1, y_rec S (r_polish (y_T S) (y_w S) d))
def y_file (S : yS) (x p : Int32) : Int32 × yS := match z_ix x (tx_D (y_T S)) with
  | none => (nI 0, S)
  | some d => match z_ix p 4 with
    | none => (nI 0, S)
    | some p => if y_w S (4 * d + p) = 0 then (nI 0, S) else (nI 1, y_rec S (upd (y_w S) (4 * d + p) (nI 0)))
def y_keep (S : yS) (x v : Int32) : Int32 × yS := match z_ix x (tx_R (y_T S)) with
  | none => (nI 0, S)
  | some r => if z_b (y_w S (54 + r) = nI 1) = v then (nI 0, S) else (nI 1, y_rec S (upd (y_w S) (54 + r) v))
def y_days (S : yS) (n : Int32) : Int32 × yS := match z_iv n 0 60 with
  | none => (-1, S)
  | some n => if n = 0 then (y_w S 69, S) else (r_days (y_T S) (nI 0) (tx_seed (y_T S)) (y_w S) n 69, y_rec S (r_days (y_T S) (nI 0) (tx_seed (y_T S)) (y_w S) n))
def y_undo (S : yS) : Int32 × yS := match y_H S with
  | [] => (nI 0, S)
  | r :: H => (nI 1, y_set S r H)
theorem mZ.rec {I J K : sm_I} {lv : Nat} {S : yS} {w : Nat → Int32} (h : mZ I lv S) (hq : mq I J) (hf : mf [m_history, m_now] [56] J K) (hn : K m_now = w) (hw : w70 w) (hH : mH K ((y_w S :: y_H S).take 40)) : mZ K lv (y_rec S w) :=
  ⟨⟨(h.1.q hq).1.kept hf (by decide) (by decide), h.1.2.1, hn, hw, by rw [hf.1 m_row (by decide) (by decide)]; exact hq.2⟩, hH, (h.q hq).2.2.kept hf (by decide) (by decide) rfl rfl⟩
theorem mZ.hJ {I J : sm_I} {lv : Nat} {S : yS} (h : mZ I lv S) (hq : mq I J) : J m_now = y_w S ∧ mH J (y_H S) := ⟨(h.1.q hq).2.2.1, (h.q hq).2.1⟩
section M20
variable {G : sm_G} {d : Nat} {I : sm_I} {ρ : sm_R}
theorem q_lift (hm : md ρ) (lv : Nat) (S : yS) (hZ : mZ I lv S) (x y : Int32) : sm_M G xX10_lift (d + 4) [.ref mM, .int x, .int y] I ρ (yPost I ρ lv (y_lift S x y).1 (y_lift S x y).2) := by
  show sm_V G xX10_lift (d + 4) 0 [.ref mM, .int x, .int y] [] I ρ _
  have hS := hZ.1
  have h1 := hS.2.1.1
  refine wp_aload0 1 rfl dX10_lift_0 ?_
  refine wp_iload1 2 rfl dX10_lift_1 ?_
  refine wp_iload2 3 rfl dX10_lift_2 ?_
  refine wp_Ve2 6 rfl dX10_lift_3 kX10_areBoth lX10_399 (md_M hm) (nl rfl) (nl rfl) (s_areBoth hm lv _ hS.1 hS.2.1 x y) ?_
  refine wp_if_ne 9 11 rfl rfl dX10_lift_6 (fun c6 => ?_) (fun c6 => ?_)
  · obtain ⟨⟨dd, hd, rfl⟩, c, hc, rfl⟩ := z_b_ne.mp c6
    have e9 : y_lift S (nI dd) (nI c) = (nI 1, y_rec S (r_lift (y_T S) (y_w S) dd c)) := by
      unfold y_lift
      rw [z_ix_n hd (by omega), z_ix_n hc (by omega)]
    rw [e9]
    have hq0 := cp_q hS
    have hr := cp_row hS
    have hT0 : mT (M_cp I lv) lv (y_T S) := hS.1.kept hq0.1 (by decide) (by decide)
    refine wp_aload0 12 rfl dX10_lift_11 ?_
    refine wp_Ve0 15 rfl dX10_lift_12 kX10_copies lX10_323 (md_M hm) (nl rfl) (nl rfl) (s_copies hm lv hS.1.1.1 hS.1.1.2) ?_
    generalize M_cp I lv = J0 at hq0 hr hT0 ⊢
    refine wp_aload0 16 rfl dX10_lift_15 ?_
    refine wp_iload1 17 rfl dX10_lift_16 ?_
    refine wp_iload2 18 rfl dX10_lift_17 ?_
    refine wp_Vv2 21 rfl dX10_lift_18 kX10_lifted lX10_374 (md_M hm) (nl rfl) (nl rfl) (s_lifted hm lv _ hT0 hS.2.1 dd c hd hc) (fun J1 ρ1 hq1 => ?_)
    obtain ⟨rfl, hf1, hw1⟩ := hq1
    rw [hr] at hw1
    have h70 := w70_lift (T := y_T S) hS.2.2.2.1 (show dd < 6 by omega) (show c < 5 by omega)
    have hqq := sc_q hq0 hf1 hw1 h70
    obtain ⟨hn, hH⟩ := hZ.hJ hqq
    refine wp_aload0 22 rfl dX10_lift_21 ?_
    refine wp_Vv0 25 rfl dX10_lift_22 kX10_records lX10_402 (md_M hm) (nl rfl) (nl rfl) (s_records hm _ _ _ hn hS.2.2.2.1 hw1 h70 hH) (fun J2 ρ2 hq2 => ?_)
    obtain ⟨rfl, hf2, hn2, hH2⟩ := hq2
    refine wp_iconst (nI 1) 26 rfl dX10_lift_25 (by decide) ?_
    refine wp_zret dX10_lift_26 rfl (rfl) ?_
    exact sm_yi ((mFr.q hqq).tr (mFr.of hf2 (by decide))) (hZ.rec hqq hf2 hn2 h70 hH2) rfl
  · have e9 : y_lift S x y = (nI 0, S) := by
      unfold y_lift
      by_cases hx : ∃ j, j < tx_D (y_T S) ∧ x = nI j
      · obtain ⟨dd, hd, rfl⟩ := hx
        rw [z_ix_n hd (by omega)]
        show (match z_ix y (tx_C (y_T S)) with
          | none => (nI 0, S)
          | some c => (nI 1, y_rec S (r_lift (y_T S) (y_w S) dd c))) = _
        rw [z_ix_no (by omega) (fun h => z_b_eq.mp c6 ⟨⟨dd, hd, rfl⟩, h⟩)]
      · rw [z_ix_no (by omega) hx]
    rw [e9]
    refine wp_iconst (nI 0) 10 rfl dX10_lift_9 (by decide) ?_
    refine wp_zret dX10_lift_10 rfl (rfl) ?_
    exact sm_yi mFr.rf hZ rfl
theorem q_polish (hm : md ρ) (lv : Nat) (S : yS) (hZ : mZ I lv S) (x : Int32) : sm_M G xX10_polish (d + 4) [.ref mM, .int x] I ρ (yPost I ρ lv (y_polish S x).1 (y_polish S x).2) := by
  show sm_V G xX10_polish (d + 4) 0 [.ref mM, .int x] [] I ρ _
  have hS := hZ.1
  have h1 := hS.2.1.1
  refine wp_aload0 1 rfl dX10_polish_0 ?_
  refine wp_iload1 2 rfl dX10_polish_1 ?_
  refine wp_Ve1 5 rfl dX10_polish_2 kX10_isDoor lX10_387 (md_M hm) (nl rfl) (nl rfl) (s_isDoor hm lv x hS.1.1.1 hS.1.1.2) ?_
  rw [hS.1.2.1.1]
  refine wp_if_ne 8 10 rfl rfl dX10_polish_5 (fun c5 => ?_) (fun c5 => ?_)
  · obtain ⟨dd, hd, rfl⟩ := (z_in_iff (by omega)).mp (z_b_ne.mp c5)
    have e9 : y_polish S (nI dd) = (nI 1, y_rec S (r_polish (y_T S) (y_w S) dd)) := by
      unfold y_polish
      rw [z_ix_n hd (by omega)]
    rw [e9]
    have hq0 := cp_q hS
    have hr := cp_row hS
    have hT0 : mT (M_cp I lv) lv (y_T S) := hS.1.kept hq0.1 (by decide) (by decide)
    refine wp_aload0 11 rfl dX10_polish_10 ?_
    refine wp_Ve0 14 rfl dX10_polish_11 kX10_copies lX10_323 (md_M hm) (nl rfl) (nl rfl) (s_copies hm lv hS.1.1.1 hS.1.1.2) ?_
    generalize M_cp I lv = J0 at hq0 hr hT0 ⊢
    refine wp_aload0 15 rfl dX10_polish_14 ?_
    refine wp_iload1 16 rfl dX10_polish_15 ?_
    refine wp_Ve1 19 rfl dX10_polish_16 kX10_polished lX10_405 (md_M hm) (nl rfl) (nl rfl) (s_polished hm lv _ hT0 hS.2.1 dd hd) ?_
    rw [hr]
    have h70 := w70_polish (T := y_T S) hS.2.2.2.1 (show dd < 6 by omega)
    have hqq : mq I (sm_a J0 m_row (r_polish (y_T S) (y_w S) dd)) := ⟨hq0.1.tr (mf.a (by decide) (by decide)), by rw [sm_a_eq]; exact h70⟩
    have hw1 : sm_a J0 m_row (r_polish (y_T S) (y_w S) dd) m_row = r_polish (y_T S) (y_w S) dd := sm_a_eq _ _ _
    generalize sm_a J0 m_row (r_polish (y_T S) (y_w S) dd) = J1 at hqq hw1 ⊢
    obtain ⟨hn, hH⟩ := hZ.hJ hqq
    refine wp_aload0 20 rfl dX10_polish_19 ?_
    refine wp_Vv0 23 rfl dX10_polish_20 kX10_records lX10_402 (md_M hm) (nl rfl) (nl rfl) (s_records hm _ _ _ hn hS.2.2.2.1 hw1 h70 hH) (fun J2 ρ2 hq2 => ?_)
    obtain ⟨rfl, hf2, hn2, hH2⟩ := hq2
    refine wp_iconst (nI 1) 24 rfl dX10_polish_23 (by decide) ?_
    refine wp_zret dX10_polish_24 rfl (rfl) ?_
    exact sm_yi ((mFr.q hqq).tr (mFr.of hf2 (by decide))) (hZ.rec hqq hf2 hn2 h70 hH2) rfl
  · have e9 : y_polish S x = (nI 0, S) := by
      unfold y_polish
      rw [z_ix_no (by omega) (fun h => z_b_eq.mp c5 ((z_in_iff (by omega)).mpr h))]
    rw [e9]
    refine wp_iconst (nI 0) 9 rfl dX10_polish_8 (by decide) ?_
    refine wp_zret dX10_polish_9 rfl (rfl) ?_
    exact sm_yi mFr.rf hZ rfl
theorem q_file (hm : md ρ) (lv : Nat) (S : yS) (hZ : mZ I lv S) (x p : Int32) : sm_M G xX10_file (d + 4) [.ref mM, .int x, .int p] I ρ (yPost I ρ lv (y_file S x p).1 (y_file S x p).2) := by
  show sm_V G xX10_file (d + 4) 0 [.ref mM, .int x, .int p] [] I ρ _
  have hS := hZ.1
  have h1 := hS.2.1.1
  have no : y_file S x p = (nI 0, S) → sm_V G xX10_file (d + 4) 28 [.ref mM, .int x, .int p] [] I ρ (yPost I ρ lv (y_file S x p).1 (y_file S x p).2) := by
    intro e9
    rw [e9]
    refine wp_iconst (nI 0) 29 rfl dX10_file_28 (by decide) ?_
    refine wp_zret dX10_file_29 rfl (rfl) ?_
    exact sm_yi mFr.rf hZ rfl
  refine wp_aload0 1 rfl dX10_file_0 ?_
  refine wp_iload1 2 rfl dX10_file_1 ?_
  refine wp_Ve1 5 rfl dX10_file_2 kX10_isDoor lX10_387 (md_M hm) (nl rfl) (nl rfl) (s_isDoor hm lv x hS.1.1.1 hS.1.1.2) ?_
  rw [hS.1.2.1.1]
  refine wp_if_eq 8 28 rfl rfl dX10_file_5 (fun c5 => ?_) (fun c5 => ?_)
  · refine no ?_
    unfold y_file
    rw [z_ix_no (by omega) (fun h => z_b_eq.mp c5 ((z_in_iff (by omega)).mpr h))]
  · obtain ⟨dd, hd, rfl⟩ := (z_in_iff (by omega)).mp (z_b_ne.mp c5)
    refine wp_iload2 9 rfl dX10_file_8 ?_
    refine wp_Se1 12 rfl dX10_file_9 kX10_isPart lX10_408 (nl rfl) (nl rfl) (s_isPart _) ?_
    refine wp_if_eq 15 28 rfl rfl dX10_file_12 (fun c12 => ?_) (fun c12 => ?_)
    · refine no ?_
      unfold y_file
      rw [z_ix_n hd (by omega), z_ix_no (by omega) (fun h => z_b_eq.mp c12 ((z_in_lo rfl (by omega)).mpr h))]
    · obtain ⟨k, hk, rfl⟩ := (z_in_lo rfl (by omega)).mp (z_b_ne.mp c12)
      have e9 : y_file S (nI dd) (nI k) = if y_w S (4 * dd + k) = 0 then (nI 0, S) else (nI 1, y_rec S (upd (y_w S) (4 * dd + k) (nI 0))) := by
        unfold y_file
        rw [z_ix_n hd (by omega), z_ix_n hk (by omega)]
      refine wp_aload0 16 rfl dX10_file_15 ?_
      refine wp_getr 19 rfl dX10_file_16 fX10_119_10 (md_M hm) (mp_now hm) ?_
      refine wp_iconst (nI 4) 20 rfl dX10_file_19 (by decide) ?_
      refine wp_iload1 21 rfl dX10_file_20 ?_
      refine wp_imul 22 rfl dX10_file_21 ?_
      refine wp_iload2 23 rfl dX10_file_22 ?_
      refine wp_iadd 24 rfl dX10_file_23 ?_
      refine wp_iald 25 rfl dX10_file_24 (ms_now hm) (4 * dd + k) (by first | rfl | simp only [pk_mul, nI_add]) (⟨by omega, by decide⟩) ?_
      rw [hS.2.2.1]
      refine wp_if_ne 28 30 rfl rfl dX10_file_25 (fun c25 => ?_) (fun c25 => ?_)
      · rw [e9, if_neg c25]
        have hq0 := cp_q hS
        have hr := cp_row hS
        refine wp_aload0 31 rfl dX10_file_30 ?_
        refine wp_Ve0 34 rfl dX10_file_31 kX10_copies lX10_323 (md_M hm) (nl rfl) (nl rfl) (s_copies hm lv hS.1.1.1 hS.1.1.2) ?_
        generalize M_cp I lv = J0 at hq0 hr ⊢
        refine wp_aload0 35 rfl dX10_file_34 ?_
        refine wp_getr 38 rfl dX10_file_35 fX10_122_10 (md_M hm) (mp_row hm) ?_
        refine wp_iconst (nI 4) 39 rfl dX10_file_38 (by decide) ?_
        refine wp_iload1 40 rfl dX10_file_39 ?_
        refine wp_imul 41 rfl dX10_file_40 ?_
        refine wp_iload2 42 rfl dX10_file_41 ?_
        refine wp_iadd 43 rfl dX10_file_42 ?_
        refine wp_iconst (nI 0) 44 rfl dX10_file_43 (by decide) ?_
        refine wp_iast 45 rfl dX10_file_44 (ms_row hm) (4 * dd + k) (by first | rfl | simp only [pk_mul, nI_add]) (⟨by omega, by decide⟩) ?_
        have h70 : w70 (upd (y_w S) (4 * dd + k) (nI 0)) := w70_upd hS.2.2.2.1 (by omega) _
        have hw1 : sm_u J0 m_row (4 * dd + k) (nI 0) m_row = upd (y_w S) (4 * dd + k) (nI 0) := by rw [sm_u_eq, hr]
        have hqq : mq I (sm_u J0 m_row (4 * dd + k) (nI 0)) := ⟨hq0.1.tr (mf.u (by decide) (by decide)), by rw [hw1]; exact h70⟩
        generalize sm_u J0 m_row (4 * dd + k) (nI 0) = J1 at hqq hw1 ⊢
        obtain ⟨hn, hH⟩ := hZ.hJ hqq
        refine wp_aload0 46 rfl dX10_file_45 ?_
        refine wp_Vv0 49 rfl dX10_file_46 kX10_records lX10_402 (md_M hm) (nl rfl) (nl rfl) (s_records hm _ _ _ hn hS.2.2.2.1 hw1 h70 hH) (fun J2 ρ2 hq2 => ?_)
        obtain ⟨rfl, hf2, hn2, hH2⟩ := hq2
        refine wp_iconst (nI 1) 50 rfl dX10_file_49 (by decide) ?_
        refine wp_zret dX10_file_50 rfl (rfl) ?_
        exact sm_yi ((mFr.q hqq).tr (mFr.of hf2 (by decide))) (hZ.rec hqq hf2 hn2 h70 hH2) rfl
      · exact no (by rw [e9, if_pos c25])
theorem q_keep (hm : md ρ) (lv : Nat) (S : yS) (hZ : mZ I lv S) (x v : Int32) (hv : v = nI 0 ∨ v = nI 1) : sm_M G xX10_keep (d + 4) [.ref mM, .int x, .int v] I ρ (yPost I ρ lv (y_keep S x v).1 (y_keep S x v).2) := by
  show sm_V G xX10_keep (d + 4) 0 [.ref mM, .int x, .int v] [] I ρ _
  have hS := hZ.1
  have h1 := hS.2.1.1
  have no : y_keep S x v = (nI 0, S) → sm_V G xX10_keep (d + 4) 30 [.ref mM, .int x, .int v] [] I ρ (yPost I ρ lv (y_keep S x v).1 (y_keep S x v).2) := by
    intro e9
    rw [e9]
    refine wp_iconst (nI 0) 31 rfl dX10_keep_30 (by decide) ?_
    refine wp_zret dX10_keep_31 rfl (rfl) ?_
    exact sm_yi mFr.rf hZ rfl
  refine wp_aload0 1 rfl dX10_keep_0 ?_
  refine wp_iload1 2 rfl dX10_keep_1 ?_
  refine wp_Ve1 5 rfl dX10_keep_2 kX10_isRound lX10_396 (md_M hm) (nl rfl) (nl rfl) (s_isRound hm lv x hS.1.1.1 hS.1.1.2) ?_
  rw [hS.1.2.1.2.2]
  refine wp_if_eq 8 30 rfl rfl dX10_keep_5 (fun c5 => ?_) (fun c5 => ?_)
  · refine no ?_
    unfold y_keep
    rw [z_ix_no (by omega) (fun h => z_b_eq.mp c5 ((z_in_iff (by omega)).mpr h))]
  · obtain ⟨r, hr, rfl⟩ := (z_in_iff (by omega)).mp (z_b_ne.mp c5)
    have e9 : y_keep S (nI r) v = if z_b (y_w S (54 + r) = nI 1) = v then (nI 0, S) else (nI 1, y_rec S (upd (y_w S) (54 + r) v)) := by
      unfold y_keep
      rw [z_ix_n hr (by omega)]
    have key : sm_V G xX10_keep (d + 4) 26 [.ref mM, .int (nI r), .int v] [.int (z_b (y_w S (54 + r) = nI 1))] I ρ (yPost I ρ lv (y_keep S (nI r) v).1 (y_keep S (nI r) v).2) := by
      refine wp_iload2 27 rfl dX10_keep_26 ?_
      refine wp_icmp_ne 30 32 rfl rfl dX10_keep_27 (fun c27 => ?_) (fun c27 => ?_)
      · rw [e9, if_neg c27]
        have hq0 := cp_q hS
        have hrow := cp_row hS
        refine wp_aload0 33 rfl dX10_keep_32 ?_
        refine wp_Ve0 36 rfl dX10_keep_33 kX10_copies lX10_323 (md_M hm) (nl rfl) (nl rfl) (s_copies hm lv hS.1.1.1 hS.1.1.2) ?_
        generalize M_cp I lv = J0 at hq0 hrow ⊢
        have key2 : sm_V G xX10_keep (d + 4) 53 [.ref mM, .int (nI r), .int v] [.int v, .int (nI 54 + nI r), .ref m_row] J0 ρ (yPost I ρ lv (nI 1) (y_rec S (upd (y_w S) (54 + r) v))) := by
          refine wp_iast 54 rfl dX10_keep_53 (ms_row hm) (54 + r) (by first | rfl | simp only [pk_mul, nI_add]) (⟨by omega, by decide⟩) ?_
          have h70 : w70 (upd (y_w S) (54 + r) v) := w70_upd hS.2.2.2.1 (by omega) _
          have hw1 : sm_u J0 m_row (54 + r) v m_row = upd (y_w S) (54 + r) v := by rw [sm_u_eq, hrow]
          have hqq : mq I (sm_u J0 m_row (54 + r) v) := ⟨hq0.1.tr (mf.u (by decide) (by decide)), by rw [hw1]; exact h70⟩
          generalize sm_u J0 m_row (54 + r) v = J1 at hqq hw1 ⊢
          obtain ⟨hn, hH⟩ := hZ.hJ hqq
          refine wp_aload0 55 rfl dX10_keep_54 ?_
          refine wp_Vv0 58 rfl dX10_keep_55 kX10_records lX10_402 (md_M hm) (nl rfl) (nl rfl) (s_records hm _ _ _ hn hS.2.2.2.1 hw1 h70 hH) (fun J2 ρ2 hq2 => ?_)
          obtain ⟨rfl, hf2, hn2, hH2⟩ := hq2
          refine wp_iconst (nI 1) 59 rfl dX10_keep_58 (by decide) ?_
          refine wp_zret dX10_keep_59 rfl (rfl) ?_
          exact sm_yi ((mFr.q hqq).tr (mFr.of hf2 (by decide))) (hZ.rec hqq hf2 hn2 h70 hH2) rfl
        rcases hv with rfl | rfl
        · refine wp_aload0 37 rfl dX10_keep_36 ?_
          refine wp_getr 40 rfl dX10_keep_37 fX10_122_10 (md_M hm) (mp_row hm) ?_
          refine wp_bipush (nI 54) 42 rfl dX10_keep_40 (by decide) ?_
          refine wp_iload1 43 rfl dX10_keep_42 ?_
          refine wp_iadd 44 rfl dX10_keep_43 ?_
          refine wp_iload2 45 rfl dX10_keep_44 ?_
          refine wp_if_eq 48 52 rfl rfl dX10_keep_45 (fun c45 => ?_) (fun c45 => absurd (rfl) c45)
          refine wp_iconst (nI 0) 53 rfl dX10_keep_52 (by decide) ?_
          exact key2
        · refine wp_aload0 37 rfl dX10_keep_36 ?_
          refine wp_getr 40 rfl dX10_keep_37 fX10_122_10 (md_M hm) (mp_row hm) ?_
          refine wp_bipush (nI 54) 42 rfl dX10_keep_40 (by decide) ?_
          refine wp_iload1 43 rfl dX10_keep_42 ?_
          refine wp_iadd 44 rfl dX10_keep_43 ?_
          refine wp_iload2 45 rfl dX10_keep_44 ?_
          refine wp_if_eq 48 52 rfl rfl dX10_keep_45 (fun c45 => absurd c45 (by decide)) (fun c45 => ?_)
          refine wp_iconst (nI 1) 49 rfl dX10_keep_48 (by decide) ?_
          refine wp_goto 53 rfl dX10_keep_49 ?_
          exact key2
      · exact no (by rw [e9, if_pos c27])
    refine wp_aload0 9 rfl dX10_keep_8 ?_
    refine wp_getr 12 rfl dX10_keep_9 fX10_119_10 (md_M hm) (mp_now hm) ?_
    refine wp_bipush (nI 54) 14 rfl dX10_keep_12 (by decide) ?_
    refine wp_iload1 15 rfl dX10_keep_14 ?_
    refine wp_iadd 16 rfl dX10_keep_15 ?_
    refine wp_iald 17 rfl dX10_keep_16 (ms_now hm) (54 + r) (by first | rfl | simp only [pk_mul, nI_add]) (⟨by omega, by decide⟩) ?_
    rw [hS.2.2.1]
    refine wp_iconst (nI 1) 18 rfl dX10_keep_17 (by decide) ?_
    refine wp_icmp_ne 21 25 rfl rfl dX10_keep_18 (fun c18 => ?_) (fun c18 => ?_)
    · rw [z_bf c18] at key
      refine wp_iconst (nI 0) 26 rfl dX10_keep_25 (by decide) ?_
      exact key
    · rw [z_bt c18] at key
      refine wp_iconst (nI 1) 22 rfl dX10_keep_21 (by decide) ?_
      refine wp_goto 26 rfl dX10_keep_22 ?_
      exact key
theorem q_days (hm : md ρ) (lv : Nat) (S : yS) (hZ : mZ I lv S) (n : Int32) : sm_M G xX10_days (d + 6) [.ref mM, .int n] I ρ (yPost I ρ lv (y_days S n).1 (y_days S n).2) := by
  show sm_V G xX10_days (d + 6) 0 [.ref mM, .int n] [] I ρ _
  have hS := hZ.1
  have h1 := hS.2.1.1
  refine wp_iload1 1 rfl dX10_days_0 ?_
  refine wp_Se1 4 rfl dX10_days_1 kX10_isLong lX10_411 (nl rfl) (nl rfl) (s_isLong _) ?_
  refine wp_if_ne 7 9 rfl rfl dX10_days_4 (fun c4 => ?_) (fun c4 => ?_)
  · obtain ⟨m, hm60, rfl⟩ := (z_iv_iff (by omega) (by omega)).mp (z_b_ne.mp c4)
    have e9 : y_days S (nI m) = if m = 0 then (y_w S 69, S) else (r_days (y_T S) (nI 0) (tx_seed (y_T S)) (y_w S) m 69, y_rec S (r_days (y_T S) (nI 0) (tx_seed (y_T S)) (y_w S) m)) := by
      unfold y_days
      rw [z_iv_n hm60 (by omega) (by omega)]
    rw [e9]
    by_cases h0 : m = 0
    · rw [if_pos h0, h0]
      refine wp_iload1 10 rfl dX10_days_9 ?_
      refine wp_if_ne 13 21 rfl rfl dX10_days_10 (fun c10 => absurd (rfl) c10) (fun c10 => ?_)
      refine wp_aload0 14 rfl dX10_days_13 ?_
      refine wp_getr 17 rfl dX10_days_14 fX10_119_10 (md_M hm) (mp_now hm) ?_
      refine wp_bipush (nI 69) 19 rfl dX10_days_17 (by decide) ?_
      refine wp_iald 20 rfl dX10_days_19 (ms_now hm) (69) (by first | rfl | simp only [pk_mul, nI_add]) (⟨by omega, by decide⟩) ?_
      refine wp_iret dX10_days_20 rfl ?_
      exact sm_yi mFr.rf hZ (by rw [hS.2.2.1])
    · rw [if_neg h0]
      have hq0 := cp_q hS
      have hr := cp_row hS
      have h53 := cp_53 hS
      have h54 := cp_54 (I := I) (lv := lv)
      have hT0 : mT (M_cp I lv) lv (y_T S) := hS.1.kept hq0.1 (by decide) (by decide)
      refine wp_iload1 10 rfl dX10_days_9 ?_
      refine wp_if_ne 13 21 rfl rfl dX10_days_10 (fun c10 => ?_) (fun c10 => absurd c10 (nI_ne0 (by omega) (by omega)))
      refine wp_aload0 22 rfl dX10_days_21 ?_
      refine wp_Ve0 25 rfl dX10_days_22 kX10_copies lX10_323 (md_M hm) (nl rfl) (nl rfl) (s_copies hm lv hS.1.1.1 hS.1.1.2) ?_
      generalize M_cp I lv = J0 at hq0 hr h53 h54 hT0 ⊢
      refine wp_aload0 26 rfl dX10_days_25 ?_
      refine wp_iload1 27 rfl dX10_days_26 ?_
      refine wp_Vv1 30 rfl dX10_days_27 kX10_goes lX10_414 (md_M hm) (nl rfl) (nl rfl) (s_goes hm lv _ hT0 hS.2.1 m hm60.2) (fun J1 ρ1 hq1 => ?_)
      obtain ⟨rfl, hf1, hw1⟩ := hq1
      rw [hr, h53, h54] at hw1
      have h70 : w70 (r_days (y_T S) (nI 0) (tx_seed (y_T S)) (y_w S) m) := w70_days hS.2.1 hS.2.2.2.1 _
      have hqq := sc_q hq0 hf1 hw1 h70
      obtain ⟨hn, hH⟩ := hZ.hJ hqq
      refine wp_aload0 31 rfl dX10_days_30 ?_
      refine wp_Vv0 34 rfl dX10_days_31 kX10_records lX10_402 (md_M hm) (nl rfl) (nl rfl) (s_records hm _ _ _ hn hS.2.2.2.1 hw1 h70 hH) (fun J2 ρ2 hq2 => ?_)
      obtain ⟨rfl, hf2, hn2, hH2⟩ := hq2
      refine wp_aload0 35 rfl dX10_days_34 ?_
      refine wp_getr 38 rfl dX10_days_35 fX10_119_10 (md_M hm) (mp_now hm) ?_
      refine wp_bipush (nI 69) 40 rfl dX10_days_38 (by decide) ?_
      refine wp_iald 41 rfl dX10_days_40 (ms_now hm) (69) (by first | rfl | simp only [pk_mul, nI_add]) (⟨by omega, by decide⟩) ?_
      refine wp_iret dX10_days_41 rfl ?_
      exact sm_yi ((mFr.q hqq).tr (mFr.of hf2 (by decide))) (hZ.rec hqq hf2 hn2 h70 hH2) (by rw [hn2])
  · have e9 : y_days S n = (-1, S) := by
      unfold y_days
      rw [z_iv_o (z_b_eq.mp c4)]
    rw [e9]
    refine wp_iconst (-1) 8 rfl dX10_days_7 (by decide) ?_
    refine wp_iret dX10_days_8 rfl ?_
    exact sm_yi mFr.rf hZ rfl
theorem q_undo (hm : md ρ) (lv : Nat) (S : yS) (hZ : mZ I lv S) : sm_M G xX10_undo d [.ref mM] I ρ (yPost I ρ lv (y_undo S).1 (y_undo S).2) := by
  show sm_V G xX10_undo d 0 [.ref mM, .retAddr 0] [] I ρ _
  have hS := hZ.1
  obtain ⟨a1, a2, a3⟩ := hZ.2.1
  unfold y_undo
  cases hH : y_H S with
  | nil =>
    rw [hH] at a1
    show sm_V G xX10_undo d 0 [.ref mM, .retAddr 0] [] I ρ (yPost I ρ lv (nI 0) S)
    refine wp_aload0 1 rfl dX10_undo_0 ?_
    refine wp_geti 4 rfl dX10_undo_1 fX10_251_10 (md_M hm) ?_
    rw [a1]
    refine wp_if_ne 7 9 rfl rfl dX10_undo_4 (fun c4 => absurd (rfl) c4) (fun c4 => ?_)
    refine wp_iconst (nI 0) 8 rfl dX10_undo_7 (by decide) ?_
    refine wp_zret dX10_undo_8 rfl (rfl) ?_
    exact sm_yi mFr.rf hZ rfl
  | cons r H =>
    rw [hH] at a1 a2 a3
    have hl : (r :: H).length = H.length + 1 := rfl
    rw [hl] at a1 a2 a3
    obtain ⟨b70, b1⟩ := a3 0 r rfl
    rw [show H.length + 1 - 1 - 0 = H.length by omega] at b1
    show sm_V G xX10_undo d 0 [.ref mM, .retAddr 0] [] I ρ (yPost I ρ lv (nI 1) (y_set S r H))
    refine wp_aload0 1 rfl dX10_undo_0 ?_
    refine wp_geti 4 rfl dX10_undo_1 fX10_251_10 (md_M hm) ?_
    rw [a1]
    refine wp_if_ne 7 9 rfl rfl dX10_undo_4 (fun c4 => ?_) (fun c4 => absurd c4 (nI_ne0 (by omega) (by omega)))
    refine wp_aload0 10 rfl dX10_undo_9 ?_
    refine wp_dup 11 rfl dX10_undo_10 rfl ?_
    refine wp_geti 14 rfl dX10_undo_11 fX10_251_10 (md_M hm) ?_
    refine wp_iconst (nI 1) 15 rfl dX10_undo_14 (by decide) ?_
    refine wp_isub 16 rfl dX10_undo_15 ?_
    refine wp_puti 19 rfl dX10_undo_16 pX10_251_10 (md_M hm) ⟨rfl, rfl⟩ ?_
    refine wp_iconst (nI 0) 20 rfl dX10_undo_19 (by decide) ?_
    refine wp_istore1 21 rfl dX10_undo_20 (by decide) rfl ?_
    rw [a1, pk_sub (by omega), show H.length + 1 - 1 = H.length by omega]
    refine sm_for (P := fun p => ∀ J : sm_I, mf [m_now] [56] I J → J mM 56 = nI H.length → (∀ j, j < p → J m_now j = r j) → (∀ j, 70 ≤ j → J m_now j = nI 0) → sm_V G xX10_undo d 21 [.ref mM, .int (nI p)] [] J ρ _) 0 70 (by decide) ?_ (fun p _ hp ih => ?_) _ (mf.uM (by decide)) (by rw [sm_u_eq, pk_us]) (fun j h => absurd h (Nat.not_lt_zero _)) (fun j hj => by rw [sm_u_ne _ _ _ (by decide), hS.2.2.1]; exact hS.2.2.2.1 j hj)
    · intro J hf h56 hz1 hz2
      refine wp_iload1 22 rfl dX10_undo_21 ?_
      refine wp_bipush (nI 70) 24 rfl dX10_undo_22 (by decide) ?_
      refine wp_icmp_ge 27 53 rfl rfl dX10_undo_24 (fun c24 => ?_) (fun c24 => absurd (by decide) c24)
      refine wp_iconst (nI 1) 54 rfl dX10_undo_53 (by decide) ?_
      refine wp_zret dX10_undo_54 rfl (rfl) ?_
      refine sm_yi (mFr.of hf (by decide)) ⟨⟨hS.1.kept hf (by decide) (by decide), hS.2.1, ?_, b70, by rw [hf.1 m_row (by decide) (by decide)]; exact hS.2.2.2.2⟩, ⟨h56, Nat.le_of_succ_le a2, fun i q hi => ?_⟩, hZ.2.2.kept hf (by decide) (by decide) rfl rfl⟩ rfl
      · funext j
        by_cases hj : j < 70
        · exact hz1 j hj
        · exact (hz2 j (by omega)).trans (b70 j (by omega)).symm
      · obtain ⟨c70, c1⟩ := a3 (i + 1) q hi
        refine ⟨c70, fun j hj => ?_⟩
        rw [hf.1 m_history (by decide) (by decide), ← c1 j hj]
        exact congrArg _ (by
          show 70 * (H.length - 1 - i) + j = _
          omega)
    · intro J hf h56 hz1 hz2
      refine wp_iload1 22 rfl dX10_undo_21 ?_
      refine wp_bipush (nI 70) 24 rfl dX10_undo_22 (by decide) ?_
      refine wp_icmp_ge 27 53 rfl rfl dX10_undo_24 (fun c24 => absurd c24 (nI_ge hp (by decide))) (fun c24 => ?_)
      refine wp_aload0 28 rfl dX10_undo_27 ?_
      refine wp_getr 31 rfl dX10_undo_28 fX10_119_10 (md_M hm) (mp_now hm) ?_
      refine wp_iload1 32 rfl dX10_undo_31 ?_
      refine wp_aload0 33 rfl dX10_undo_32 ?_
      refine wp_getr 36 rfl dX10_undo_33 fX10_128_10 (md_M hm) (mp_history hm) ?_
      refine wp_bipush (nI 70) 38 rfl dX10_undo_36 (by decide) ?_
      refine wp_aload0 39 rfl dX10_undo_38 ?_
      refine wp_geti 42 rfl dX10_undo_39 fX10_251_10 (md_M hm) ?_
      refine wp_imul 43 rfl dX10_undo_42 ?_
      rw [h56, pk_mul]
      refine wp_iload1 44 rfl dX10_undo_43 ?_
      refine wp_iadd 45 rfl dX10_undo_44 ?_
      refine wp_iald 46 rfl dX10_undo_45 (ms_history hm) (70 * H.length + p) (nI_add _ _) (⟨by omega, by decide⟩) ?_
      refine wp_iast 47 rfl dX10_undo_46 (ms_now hm) (p) (by first | rfl | simp only [pk_mul, nI_add]) (⟨by omega, by decide⟩) ?_
      refine wp_iincN1 50 rfl dX10_undo_47 (by decide) rfl ?_
      refine wp_goto 21 rfl dX10_undo_50 ?_
      refine ih _ (hf.tr (mf.u (by decide) (by decide))) (by rw [sm_u_ne _ _ _ (by decide)]; exact h56) (fun j hj => ?_) (fun j hj => ?_)
      · rw [sm_u_eq]
        by_cases e : j = p
        · rw [e, pk_us, hf.1 m_history (by decide) (by decide)]
          exact b1 p hp
        · rw [pk_un e]
          exact hz1 j (by omega)
      · rw [sm_u_eq, pk_un (by omega)]
        exact hz2 j hj
end M20
