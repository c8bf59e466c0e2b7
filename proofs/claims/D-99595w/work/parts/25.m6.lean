/-! ===== pays, wears, a lift ===== -/
set_option maxRecDepth 100000
/-- the first n parts of a door's face are f's -/
def r_fcs (f : Nat → Int32) (w : Nat → Int32) (d n : Nat) : Nat → Int32 := fun j => if 4 * d ≤ j ∧ j < 4 * d + n then f (j - 4 * d) else w j
theorem r_fcs_0 (f w : Nat → Int32) (d : Nat) : r_fcs f w d 0 = w := by
  funext j
  unfold r_fcs
  rw [if_neg (by omega)]
theorem r_fcs_s (f w : Nat → Int32) (d n : Nat) : upd (r_fcs f w d n) (4 * d + n) (f n) = r_fcs f w d (n + 1) := by
  funext j
  unfold upd
  by_cases h : j = 4 * d + n
  · subst h
    rw [if_pos rfl]
    unfold r_fcs
    rw [if_pos (by omega), show 4 * d + n - 4 * d = n by omega]
  · rw [if_neg h]
    unfold r_fcs
    by_cases h2 : 4 * d ≤ j ∧ j < 4 * d + n
    · rw [if_pos h2, if_pos (by omega)]
    · rw [if_neg h2, if_neg (by omega)]
theorem r_fcs_out (f w : Nat → Int32) {d n j : Nat} (h : j < 4 * d ∨ 4 * d + n ≤ j) : r_fcs f w d n j = w j := by
  unfold r_fcs
  rw [if_neg (by omega)]
theorem r_fcs_in (f w : Nat → Int32) {d n q : Nat} (h : q < n) : r_fcs f w d n (4 * d + q) = f q := by
  unfold r_fcs
  rw [if_pos (by omega), show 4 * d + q - 4 * d = q by omega]
def r_liftF (T : tx) (w : Nat → Int32) (d c q : Nat) : Int32 := z_tow (w (4 * d + q)) (tx_cf T (4 * c + q)) (r_gives T w d c q)
def r_lift (T : tx) (w : Nat → Int32) (d c : Nat) : Nat → Int32 := upd (upd (upd (upd (r_fcs (r_liftF T w d c) w d 4) (42 + d) (z_within (w (42 + d) + r_pays T w d c) (nI 0) 999999)) (24 + d) (w (24 + d) + nI 1)) (64 + c) (w (64 + c) + nI 1)) (48 + d) (nI 1)
def r_polF (T : tx) (w : Nat → Int32) (d q : Nat) : Int32 := z_tow (w (4 * d + q)) (tx_ff T (4 * d + q)) (z_off (w (4 * d + q)) (tx_ff T (4 * d + q)) / nI 2)
def r_polish (T : tx) (w : Nat → Int32) (d : Nat) : Nat → Int32 := upd (r_fcs (r_polF T w d) w d 4) (36 + d) (w (36 + d) + nI 1)
def r_wearF (T : tx) (w : Nat → Int32) (d q : Nat) : Int32 := z_tow (w (4 * d + q)) (tx_ff T (4 * d + q)) (r_wears T w d q)
section M6
variable {G : sm_G} {d : Nat} {I : sm_I} {ρ : sm_R}
theorem s_paysOf (hm : md ρ) (lv : Nat) (T : tx) (hT : mT I lv T) (ht : tok T) (dd c : Nat) (hd : dd < tx_D T) (hc : c < tx_C T) : sm_M G xX10_paysOf (d + 2) [.ref mM, .int (nI dd), .int (nI c)] I ρ (sm_Qi (fun r I1 ρ1 => ρ1 = ρ ∧ mf [m_variables, m_pile] [50] I I1 ∧ r = r_pays T (I m_row) dd c)) := by
  show sm_V G xX10_paysOf (d + 2) 0 [.ref mM, .int (nI dd), .int (nI c)] [] I ρ _
  have hD6 := ht.1.1
  have hC5 := ht.1.2.1
  have hl := hT.1.1
  have hlv := hT.1.2
  refine wp_aload0 1 rfl dX10_paysOf_0 ?_
  refine wp_iload1 2 rfl dX10_paysOf_1 ?_
  refine wp_iconst (nI 0) 3 rfl dX10_paysOf_2 (by decide) ?_
  refine wp_Vv2 6 rfl dX10_paysOf_3 kX10_looks lX10_348 (md_M hm) (nl rfl) (nl rfl) (s_looks hm dd 0 (by omega) (by decide)) (fun I1 ρ1 hq => ?_)
  obtain ⟨rfl, f, rfl, f1, f2, f3, f4, f5, f8⟩ := hq
  refine wp_aload0 7 rfl dX10_paysOf_6 ?_
  refine wp_getr 10 rfl dX10_paysOf_7 fX10_113_10 (md_M hm) (mp_variables hm) ?_
  refine wp_iconst (nI 0) 11 rfl dX10_paysOf_10 (by decide) ?_
  refine wp_iconst (nI 0) 12 rfl dX10_paysOf_11 (by decide) ?_
  refine wp_iast 13 rfl dX10_paysOf_12 (ms_variables hm) (0) (by first | rfl | simp only [pk_mul, nI_add]) (⟨by omega, by decide⟩) ?_
  rw [sm_a_u]
  refine wp_aload0 14 rfl dX10_paysOf_13 ?_
  refine wp_getr 17 rfl dX10_paysOf_14 fX10_113_10 (md_M hm) (mp_variables hm) ?_
  refine wp_iconst (nI 5) 18 rfl dX10_paysOf_17 (by decide) ?_
  refine wp_iconst (nI 0) 19 rfl dX10_paysOf_18 (by decide) ?_
  refine wp_iast 20 rfl dX10_paysOf_19 (ms_variables hm) (5) (by first | rfl | simp only [pk_mul, nI_add]) (⟨by omega, by decide⟩) ?_
  rw [sm_a_u]
  refine wp_aload0 21 rfl dX10_paysOf_20 ?_
  refine wp_getr 24 rfl dX10_paysOf_21 fX10_113_10 (md_M hm) (mp_variables hm) ?_
  refine wp_bipush (nI 6) 26 rfl dX10_paysOf_24 (by decide) ?_
  refine wp_aload0 27 rfl dX10_paysOf_26 ?_
  refine wp_iload1 28 rfl dX10_paysOf_27 ?_
  refine wp_iload2 29 rfl dX10_paysOf_28 ?_
  refine wp_Ve2 32 rfl dX10_paysOf_29 kX10_unlikeTo lX10_342 (md_M hm) (nl rfl) (nl rfl) (s_unlikeTo hm lv dd c hl hlv (by omega) (by omega)) ?_
  have e2 : u_to (sm_a I m_variables (upd (upd f 0 (nI 0)) 5 (nI 0))) lv dd c = r_unl T (I m_row) dd c := by
    rw [← u_to_r hT hc]; rfl
  rw [e2]
  refine wp_iast 33 rfl dX10_paysOf_32 (ms_variables hm) (6) (by first | rfl | simp only [pk_mul, nI_add]) (⟨by omega, by decide⟩) ?_
  rw [sm_a_u]
  refine wp_aload0 34 rfl dX10_paysOf_33 ?_
  refine wp_getr 37 rfl dX10_paysOf_34 fX10_113_10 (md_M hm) (mp_variables hm) ?_
  refine wp_bipush (nI 7) 39 rfl dX10_paysOf_37 (by decide) ?_
  refine wp_iload2 40 rfl dX10_paysOf_39 ?_
  refine wp_iast 41 rfl dX10_paysOf_40 (ms_variables hm) (7) (by first | rfl | simp only [pk_mul, nI_add]) (⟨by omega, by decide⟩) ?_
  rw [sm_a_u]
  have hf1 : mf [m_variables, m_pile] [50] I (sm_a I m_variables (upd (upd (upd (upd f 0 (nI 0)) 5 (nI 0)) 6 (r_unl T (I m_row) dd c)) 7 (nI c))) := mf.a (by decide) (by decide)
  have hT1 := hT.kept hf1 (by decide) (by decide)
  refine wp_aload0 42 rfl dX10_paysOf_41 ?_
  refine wp_iconst (nI 2) 43 rfl dX10_paysOf_42 (by decide) ?_
  refine wp_iconst (nI 1) 44 rfl dX10_paysOf_43 (by decide) ?_
  refine wp_Vi2 47 rfl dX10_paysOf_44 kX10_lawTells lX10_351 (md_M hm) (nl rfl) (nl rfl) (s_lawTells hm lv 2 _ (tx_law T 2) hl hlv (by decide) (hT1.2.2.2.2.2.2 2 (by decide))) (fun r I2 ρ2 hq => ?_)
  obtain ⟨rfl, hf2, rfl⟩ := hq
  refine wp_iconst (nI 0) 48 rfl dX10_paysOf_47 (by decide) ?_
  refine wp_bipush (nI 99) 50 rfl dX10_paysOf_48 (by decide) ?_
  refine wp_Se3 53 rfl dX10_paysOf_50 kX10_within lX10_354 (nl rfl) (nl rfl) (s_within _ _ _) ?_
  refine wp_iret dX10_paysOf_53 rfl ?_
  refine ⟨_, rfl, rfl, hf1.tr (hf2.wk (by decide) (by decide)), ?_⟩
  unfold r_pays
  rw [lw_val_congr (vs' := r_var (I m_row) dd (nI 0) (nI 0) (nI 0) (r_unl T (I m_row) dd c) (nI c)) _ (ht.2.2.2.2.2 2 (by decide))]
  intro j hj
  rw [sm_a_eq]
  match j, hj with
  | 0, _ => rfl
  | 1, _ => exact f1
  | 2, _ => exact f2
  | 3, _ => exact f3
  | 4, _ => exact f4
  | 5, _ => rfl
  | 6, _ => rfl
  | 7, _ => rfl
  | 8, _ => exact f8
  | n + 9, h => omega
theorem s_wearsOf (hm : md ρ) (lv : Nat) (T : tx) (hT : mT I lv T) (ht : tok T) (dd p : Nat) (hd : dd < tx_D T) (hp : p < 4) : sm_M G xX10_wearsOf (d + 2) [.ref mM, .int (nI dd), .int (nI p)] I ρ (sm_Qi (fun r I1 ρ1 => ρ1 = ρ ∧ mf [m_variables, m_pile] [50] I I1 ∧ r = r_wears T (I m_row) dd p)) := by
  show sm_V G xX10_wearsOf (d + 2) 0 [.ref mM, .int (nI dd), .int (nI p), .retAddr 0] [] I ρ _
  have hD6 := ht.1.1
  have hl := hT.1.1
  have hlv := hT.1.2
  refine wp_aload0 1 rfl dX10_wearsOf_0 ?_
  refine wp_iload1 2 rfl dX10_wearsOf_1 ?_
  refine wp_iload2 3 rfl dX10_wearsOf_2 ?_
  refine wp_Vv2 6 rfl dX10_wearsOf_3 kX10_looks lX10_348 (md_M hm) (nl rfl) (nl rfl) (s_looks hm dd p (by omega) hp) (fun I1 ρ1 hq => ?_)
  obtain ⟨rfl, f, rfl, f1, f2, f3, f4, f5, f8⟩ := hq
  refine wp_aload0 7 rfl dX10_wearsOf_6 ?_
  refine wp_getr 10 rfl dX10_wearsOf_7 fX10_122_10 (md_M hm) (mp_row hm) ?_
  refine wp_iconst (nI 4) 11 rfl dX10_wearsOf_10 (by decide) ?_
  refine wp_iload1 12 rfl dX10_wearsOf_11 ?_
  refine wp_imul 13 rfl dX10_wearsOf_12 ?_
  refine wp_iload2 14 rfl dX10_wearsOf_13 ?_
  refine wp_iadd 15 rfl dX10_wearsOf_14 ?_
  refine wp_iald 16 rfl dX10_wearsOf_15 (ms_row hm) (4 * dd + p) (by first | rfl | simp only [pk_mul, nI_add]) (⟨by omega, by decide⟩) ?_
  refine wp_aload0 17 rfl dX10_wearsOf_16 ?_
  refine wp_iload1 18 rfl dX10_wearsOf_17 ?_
  refine wp_iload2 19 rfl dX10_wearsOf_18 ?_
  refine wp_Ve2 22 rfl dX10_wearsOf_19 kX10_firstPart lX10_339 (md_M hm) (nl rfl) (nl rfl) (s_firstPart hm lv dd p hl hlv (by omega) hp) ?_
  refine wp_Se2 25 rfl dX10_wearsOf_22 kX10_off lX10_336 (nl rfl) (nl rfl) (s_off _ _) ?_
  refine wp_istore3 26 rfl dX10_wearsOf_25 (by decide) rfl ?_
  refine wp_aload0 27 rfl dX10_wearsOf_26 ?_
  refine wp_getr 30 rfl dX10_wearsOf_27 fX10_113_10 (md_M hm) (mp_variables hm) ?_
  refine wp_iconst (nI 0) 31 rfl dX10_wearsOf_30 (by decide) ?_
  refine wp_iload3 32 rfl dX10_wearsOf_31 ?_
  have ecf : I m_firstFace (24 * lv + 4 * dd + p) = tx_ff T (4 * dd + p) := by rw [Nat.add_assoc]; exact hT.2.2.2.1 _ (by omega)
  have e1 : z_off (sm_a I m_variables f m_row (4 * dd + p)) (sm_a I m_variables f m_firstFace (24 * lv + 4 * dd + p)) = z_off (I m_row (4 * dd + p)) (tx_ff T (4 * dd + p)) := by rw [← ecf]; rfl
  rw [e1]
  refine wp_iast 33 rfl dX10_wearsOf_32 (ms_variables hm) (0) (by first | rfl | simp only [pk_mul, nI_add]) (⟨by omega, by decide⟩) ?_
  refine wp_aload0 34 rfl dX10_wearsOf_33 ?_
  refine wp_getr 37 rfl dX10_wearsOf_34 fX10_113_10 (md_M hm) (mp_variables hm) ?_
  refine wp_bipush (nI 6) 39 rfl dX10_wearsOf_37 (by decide) ?_
  refine wp_aload0 40 rfl dX10_wearsOf_39 ?_
  refine wp_iload1 41 rfl dX10_wearsOf_40 ?_
  refine wp_Ve1 44 rfl dX10_wearsOf_41 kX10_unlikeFirst lX10_357 (md_M hm) (nl rfl) (nl rfl) (s_unlikeFirst hm lv dd hl hlv (by omega)) ?_
  rw [sm_a_u]
  have e2 : u_fi (sm_a I m_variables (upd f 0 (z_off (I m_row (4 * dd + p)) (tx_ff T (4 * dd + p))))) lv dd = r_unf T (I m_row) dd := by
    rw [← u_fi_r hT hd]; rfl
  rw [e2]
  refine wp_iast 45 rfl dX10_wearsOf_44 (ms_variables hm) (6) (by first | rfl | simp only [pk_mul, nI_add]) (⟨by omega, by decide⟩) ?_
  rw [sm_a_u]
  refine wp_aload0 46 rfl dX10_wearsOf_45 ?_
  refine wp_getr 49 rfl dX10_wearsOf_46 fX10_113_10 (md_M hm) (mp_variables hm) ?_
  refine wp_bipush (nI 7) 51 rfl dX10_wearsOf_49 (by decide) ?_
  refine wp_iload1 52 rfl dX10_wearsOf_51 ?_
  refine wp_iast 53 rfl dX10_wearsOf_52 (ms_variables hm) (7) (by first | rfl | simp only [pk_mul, nI_add]) (⟨by omega, by decide⟩) ?_
  rw [sm_a_u]
  have hf1 : mf [m_variables, m_pile] [50] I (sm_a I m_variables (upd (upd (upd f 0 (z_off (I m_row (4 * dd + p)) (tx_ff T (4 * dd + p)))) 6 (r_unf T (I m_row) dd)) 7 (nI dd))) := mf.a (by decide) (by decide)
  have hT1 := hT.kept hf1 (by decide) (by decide)
  refine wp_aload0 54 rfl dX10_wearsOf_53 ?_
  refine wp_iconst (nI 1) 55 rfl dX10_wearsOf_54 (by decide) ?_
  refine wp_iconst (nI 0) 56 rfl dX10_wearsOf_55 (by decide) ?_
  refine wp_Vi2 59 rfl dX10_wearsOf_56 kX10_lawTells lX10_351 (md_M hm) (nl rfl) (nl rfl) (s_lawTells hm lv 1 _ (tx_law T 1) hl hlv (by decide) (hT1.2.2.2.2.2.2 1 (by decide))) (fun r I2 ρ2 hq => ?_)
  obtain ⟨rfl, hf2, rfl⟩ := hq
  refine wp_iconst (nI 0) 60 rfl dX10_wearsOf_59 (by decide) ?_
  refine wp_iload3 61 rfl dX10_wearsOf_60 ?_
  refine wp_Se3 64 rfl dX10_wearsOf_61 kX10_within lX10_354 (nl rfl) (nl rfl) (s_within _ _ _) ?_
  refine wp_iret dX10_wearsOf_64 rfl ?_
  refine ⟨_, rfl, rfl, hf1.tr (hf2.wk (by decide) (by decide)), ?_⟩
  unfold r_wears
  rw [lw_val_congr (vs' := r_var (I m_row) dd (z_off (I m_row (4 * dd + p)) (tx_ff T (4 * dd + p))) (nI p) (I m_row (4 * dd + p)) (r_unf T (I m_row) dd) (nI dd)) _ (ht.2.2.2.2.2 1 (by decide))]
  intro j hj
  rw [sm_a_eq]
  match j, hj with
  | 0, _ => rfl
  | 1, _ => exact f1
  | 2, _ => exact f2
  | 3, _ => exact f3
  | 4, _ => exact f4
  | 5, _ => exact f5
  | 6, _ => rfl
  | 7, _ => rfl
  | 8, _ => exact f8
  | n + 9, h => omega
/-- what a lift, a day may write beside the row -/
abbrev mSc : List Nat := [m_variables, m_pile, m_goesBy]
abbrev mScR : List Nat := [m_variables, m_pile, m_goesBy, m_row]
theorem s_lifted (hm : md ρ) (lv : Nat) (T : tx) (hT : mT I lv T) (ht : tok T) (dd c : Nat) (hd : dd < tx_D T) (hc : c < tx_C T) : sm_M G xX10_lifted (d + 3) [.ref mM, .int (nI dd), .int (nI c)] I ρ (sm_Qv (fun I1 ρ1 => ρ1 = ρ ∧ mf mScR [50] I I1 ∧ I1 m_row = r_lift T (I m_row) dd c)) := by
  show sm_V G xX10_lifted (d + 3) 0 [.ref mM, .int (nI dd), .int (nI c), .retAddr 0, .retAddr 0] [] I ρ _
  have hD6 := ht.1.1
  have hC5 := ht.1.2.1
  refine wp_aload0 1 rfl dX10_lifted_0 ?_
  refine wp_iload1 2 rfl dX10_lifted_1 ?_
  refine wp_iload2 3 rfl dX10_lifted_2 ?_
  refine wp_Vi2 6 rfl dX10_lifted_3 kX10_paysOf lX10_360 (md_M hm) (nl rfl) (nl rfl) (s_paysOf hm lv T hT ht dd c hd hc) (fun r I1 ρ1 hq => ?_)
  obtain ⟨rfl, hf1, rfl⟩ := hq
  refine wp_istore3 7 rfl dX10_lifted_6 (by decide) rfl ?_
  refine wp_iconst (nI 0) 8 rfl dX10_lifted_7 (by decide) ?_
  refine wp_istore4 10 rfl dX10_lifted_8 (by decide) rfl ?_
  refine sm_for (P := fun p => ∀ I' : sm_I, mf mSc [50] I I' → (∀ q, q < p → I' m_goesBy q = r_gives T (I m_row) dd c q) → sm_V G xX10_lifted (d + 3) 10 [.ref mM, .int (nI dd), .int (nI c), .int (r_pays T (I m_row) dd c), .int (nI p)] [] I' ρ1 _) 0 4 (nl rfl) ?_ (fun p _ hp ih => ?_) I1 (hf1.wk (by decide) (by decide)) (fun q hq => absurd hq (by omega))
  · intro I' hf hg
    refine wp_iload4 12 rfl dX10_lifted_10 ?_
    refine wp_iconst (nI 4) 13 rfl dX10_lifted_12 (by decide) ?_
    refine wp_icmp_ge 16 37 rfl rfl dX10_lifted_13 (fun c13 => ?_) (fun c13 => absurd (nI_le (Nat.le_refl 4) (by decide)) c13)
    refine wp_iconst (nI 0) 38 rfl dX10_lifted_37 (by decide) ?_
    refine wp_istore4 40 rfl dX10_lifted_38 (by decide) rfl ?_
    have hrow : I' m_row = I m_row := hf.1 _ (by decide) (by decide)
    have h0 : I' = sm_a I' m_row (r_fcs (r_liftF T (I m_row) dd c) (I m_row) dd 0) := by rw [r_fcs_0, ← hrow, sm_a_self]
    rw [h0]
    refine sm_for (P := fun p => sm_V G xX10_lifted (d + 3) 40 [.ref mM, .int (nI dd), .int (nI c), .int (r_pays T (I m_row) dd c), .int (nI p)] [] (sm_a I' m_row (r_fcs (r_liftF T (I m_row) dd c) (I m_row) dd p)) ρ1 _) 0 4 (nl rfl) ?_ (fun p _ hp ih => ?_)
    · refine wp_iload4 42 rfl dX10_lifted_40 ?_
      refine wp_iconst (nI 4) 43 rfl dX10_lifted_42 (by decide) ?_
      refine wp_icmp_ge 46 91 rfl rfl dX10_lifted_43 (fun c43 => ?_) (fun c43 => absurd (nI_le (Nat.le_refl 4) (by decide)) c43)
      refine wp_aload0 92 rfl dX10_lifted_91 ?_
      refine wp_getr 95 rfl dX10_lifted_92 fX10_122_10 (md_M hm) (mp_row hm) ?_
      refine wp_bipush (nI 42) 97 rfl dX10_lifted_95 (by decide) ?_
      refine wp_iload1 98 rfl dX10_lifted_97 ?_
      refine wp_iadd 99 rfl dX10_lifted_98 ?_
      refine wp_aload0 100 rfl dX10_lifted_99 ?_
      refine wp_getr 103 rfl dX10_lifted_100 fX10_122_10 (md_M hm) (mp_row hm) ?_
      refine wp_bipush (nI 42) 105 rfl dX10_lifted_103 (by decide) ?_
      refine wp_iload1 106 rfl dX10_lifted_105 ?_
      refine wp_iadd 107 rfl dX10_lifted_106 ?_
      refine wp_iald 108 rfl dX10_lifted_107 (ms_row hm) (42 + dd) (by first | rfl | simp only [pk_mul, nI_add]) (⟨by omega, by decide⟩) ?_
      refine wp_iload3 109 rfl dX10_lifted_108 ?_
      refine wp_iadd 110 rfl dX10_lifted_109 ?_
      refine wp_iconst (nI 0) 111 rfl dX10_lifted_110 (by decide) ?_
      refine wp_ldcw 114 rfl dX10_lifted_111 q1937 ?_
      refine wp_Se3 117 rfl dX10_lifted_114 kX10_within lX10_354 (nl rfl) (nl rfl) (s_within _ _ _) ?_
      refine wp_iast 118 rfl dX10_lifted_117 (ms_row hm) (42 + dd) (by first | rfl | simp only [pk_mul, nI_add]) (⟨by omega, by decide⟩) ?_
      rw [sm_a_u, sm_a_eq, r_fcs_out _ _ (by omega)]
      refine wp_aload0 119 rfl dX10_lifted_118 ?_
      refine wp_getr 122 rfl dX10_lifted_119 fX10_122_10 (md_M hm) (mp_row hm) ?_
      refine wp_bipush (nI 24) 124 rfl dX10_lifted_122 (by decide) ?_
      refine wp_iload1 125 rfl dX10_lifted_124 ?_
      refine wp_iadd 126 rfl dX10_lifted_125 ?_
      refine wp_dup2 127 rfl dX10_lifted_126 rfl rfl ?_
      refine wp_iald 128 rfl dX10_lifted_127 (ms_row hm) (24 + dd) (by first | rfl | simp only [pk_mul, nI_add]) (⟨by omega, by decide⟩) ?_
      refine wp_iconst (nI 1) 129 rfl dX10_lifted_128 (by decide) ?_
      refine wp_iadd 130 rfl dX10_lifted_129 ?_
      refine wp_iast 131 rfl dX10_lifted_130 (ms_row hm) (24 + dd) (by first | rfl | simp only [pk_mul, nI_add]) (⟨by omega, by decide⟩) ?_
      rw [sm_a_u, sm_a_eq]
      refine wp_aload0 132 rfl dX10_lifted_131 ?_
      refine wp_getr 135 rfl dX10_lifted_132 fX10_122_10 (md_M hm) (mp_row hm) ?_
      refine wp_bipush (nI 64) 137 rfl dX10_lifted_135 (by decide) ?_
      refine wp_iload2 138 rfl dX10_lifted_137 ?_
      refine wp_iadd 139 rfl dX10_lifted_138 ?_
      refine wp_dup2 140 rfl dX10_lifted_139 rfl rfl ?_
      refine wp_iald 141 rfl dX10_lifted_140 (ms_row hm) (64 + c) (by first | rfl | simp only [pk_mul, nI_add]) (⟨by omega, by decide⟩) ?_
      refine wp_iconst (nI 1) 142 rfl dX10_lifted_141 (by decide) ?_
      refine wp_iadd 143 rfl dX10_lifted_142 ?_
      refine wp_iast 144 rfl dX10_lifted_143 (ms_row hm) (64 + c) (by first | rfl | simp only [pk_mul, nI_add]) (⟨by omega, by decide⟩) ?_
      rw [sm_a_u, sm_a_eq]
      refine wp_aload0 145 rfl dX10_lifted_144 ?_
      refine wp_getr 148 rfl dX10_lifted_145 fX10_122_10 (md_M hm) (mp_row hm) ?_
      refine wp_bipush (nI 48) 150 rfl dX10_lifted_148 (by decide) ?_
      refine wp_iload1 151 rfl dX10_lifted_150 ?_
      refine wp_iadd 152 rfl dX10_lifted_151 ?_
      refine wp_iconst (nI 1) 153 rfl dX10_lifted_152 (by decide) ?_
      refine wp_iast 154 rfl dX10_lifted_153 (ms_row hm) (48 + dd) (by first | rfl | simp only [pk_mul, nI_add]) (⟨by omega, by decide⟩) ?_
      refine wp_vret dX10_lifted_154 rfl ?_
      rw [sm_a_u]
      refine ⟨rfl, rfl, (hf.wk (by decide) (by decide)).tr (mf.a (by decide) (by decide)), ?_⟩
      rw [sm_a_eq]
      unfold r_lift
      rw [pk_un (by omega), r_fcs_out _ _ (by omega), pk_un (by omega), pk_un (by omega), r_fcs_out _ _ (by omega)]
    · have hT' := hT.kept hf (by decide) (by decide)
      have ecf : I' m_faceOf (20 * lv + 4 * c + p) = tx_cf T (4 * c + p) := by rw [Nat.add_assoc]; exact hT'.2.2.1 _ (by omega)
      refine wp_iload4 42 rfl dX10_lifted_40 ?_
      refine wp_iconst (nI 4) 43 rfl dX10_lifted_42 (by decide) ?_
      refine wp_icmp_ge 46 91 rfl rfl dX10_lifted_43 (fun c43 => absurd c43 (nI_ge hp (by decide))) (fun c43 => ?_)
      refine wp_aload0 47 rfl dX10_lifted_46 ?_
      refine wp_getr 50 rfl dX10_lifted_47 fX10_122_10 (md_M hm) (mp_row hm) ?_
      refine wp_iconst (nI 4) 51 rfl dX10_lifted_50 (by decide) ?_
      refine wp_iload1 52 rfl dX10_lifted_51 ?_
      refine wp_imul 53 rfl dX10_lifted_52 ?_
      refine wp_iload4 55 rfl dX10_lifted_53 ?_
      refine wp_iadd 56 rfl dX10_lifted_55 ?_
      refine wp_aload0 57 rfl dX10_lifted_56 ?_
      refine wp_getr 60 rfl dX10_lifted_57 fX10_122_10 (md_M hm) (mp_row hm) ?_
      refine wp_iconst (nI 4) 61 rfl dX10_lifted_60 (by decide) ?_
      refine wp_iload1 62 rfl dX10_lifted_61 ?_
      refine wp_imul 63 rfl dX10_lifted_62 ?_
      refine wp_iload4 65 rfl dX10_lifted_63 ?_
      refine wp_iadd 66 rfl dX10_lifted_65 ?_
      refine wp_iald 67 rfl dX10_lifted_66 (ms_row hm) (4 * dd + p) (by first | rfl | simp only [pk_mul, nI_add]) (⟨by omega, by decide⟩) ?_
      refine wp_aload0 68 rfl dX10_lifted_67 ?_
      refine wp_iload2 69 rfl dX10_lifted_68 ?_
      refine wp_iload4 71 rfl dX10_lifted_69 ?_
      refine wp_Ve2 74 rfl dX10_lifted_71 kX10_facePart lX10_333 (md_M hm) (nl rfl) (nl rfl) (s_facePart hm lv c p hT'.1.1 hT'.1.2 (by omega) hp) ?_
      refine wp_aload0 75 rfl dX10_lifted_74 ?_
      refine wp_getr 78 rfl dX10_lifted_75 fX10_125_10 (md_M hm) (mp_goesBy hm) ?_
      refine wp_iload4 80 rfl dX10_lifted_78 ?_
      refine wp_iald 81 rfl dX10_lifted_80 (ms_goesBy hm) (p) (by first | rfl | simp only [pk_mul, nI_add]) (⟨by omega, by decide⟩) ?_
      refine wp_Se3 84 rfl dX10_lifted_81 kX10_towardsBy lX10_366 (nl rfl) (nl rfl) (s_towardsBy _ _ _) ?_
      refine wp_iast 85 rfl dX10_lifted_84 (ms_row hm) (4 * dd + p) (by first | rfl | simp only [pk_mul, nI_add]) (⟨by omega, by decide⟩) ?_
      refine wp_iincN4 88 rfl dX10_lifted_85 (by decide) rfl ?_
      refine wp_goto 40 rfl dX10_lifted_88 ?_
      have e1 : z_tow (sm_a I' m_row (r_fcs (r_liftF T (I m_row) dd c) (I m_row) dd p) m_row (4 * dd + p)) (sm_a I' m_row (r_fcs (r_liftF T (I m_row) dd c) (I m_row) dd p) m_faceOf (20 * lv + 4 * c + p)) (sm_a I' m_row (r_fcs (r_liftF T (I m_row) dd c) (I m_row) dd p) m_goesBy p) = r_liftF T (I m_row) dd c p := by
        rw [sm_a_eq, r_fcs_out _ _ (by omega), sm_a_ne _ _ (by decide), sm_a_ne _ _ (by decide), ecf, hg p hp]
        rfl
      rw [e1, sm_a_u, r_fcs_s]
      exact ih
  · intro I' hf hg
    have hT' := hT.kept hf (by decide) (by decide)
    have hrow : I' m_row = I m_row := hf.1 _ (by decide) (by decide)
    refine wp_iload4 12 rfl dX10_lifted_10 ?_
    refine wp_iconst (nI 4) 13 rfl dX10_lifted_12 (by decide) ?_
    refine wp_icmp_ge 16 37 rfl rfl dX10_lifted_13 (fun c13 => absurd c13 (nI_ge hp (by decide))) (fun c13 => ?_)
    refine wp_aload0 17 rfl dX10_lifted_16 ?_
    refine wp_getr 20 rfl dX10_lifted_17 fX10_125_10 (md_M hm) (mp_goesBy hm) ?_
    refine wp_iload4 22 rfl dX10_lifted_20 ?_
    refine wp_aload0 23 rfl dX10_lifted_22 ?_
    refine wp_iload1 24 rfl dX10_lifted_23 ?_
    refine wp_iload2 25 rfl dX10_lifted_24 ?_
    refine wp_iload4 27 rfl dX10_lifted_25 ?_
    refine wp_Vi3 30 rfl dX10_lifted_27 kX10_givesOf lX10_363 (md_M hm) (nl rfl) (nl rfl) (s_givesOf hm lv T hT' ht dd c p hd hc hp) (fun r I2 ρ2 hq => ?_)
    obtain ⟨rfl, hf2, rfl⟩ := hq
    rw [hrow]
    refine wp_iast 31 rfl dX10_lifted_30 (ms_goesBy hm) (p) (by first | rfl | simp only [pk_mul, nI_add]) (⟨by omega, by decide⟩) ?_
    refine wp_iincN4 34 rfl dX10_lifted_31 (by decide) rfl ?_
    refine wp_goto 10 rfl dX10_lifted_34 ?_
    refine ih _ ((hf.tr (hf2.wk (by decide) (by decide))).tr (mf.u (by decide) (by decide))) ?_
    intro q hq
    rw [sm_u_eq]
    by_cases e : q = p
    · subst e
      exact pk_us
    · rw [pk_un e, hf2.1 _ (by decide) (by decide)]
      exact hg q (by omega)
end M6
