/-! ===== lifts ===== -/
def z_fst (P : Nat → Prop) [DecidablePred P] : Nat → Nat → Option Nat
  | 0, _ => none
  | k + 1, n => if P n then some n else z_fst P k (n + 1)
def z_dg (C n way i : Nat) : Nat := way / C ^ (n - 1 - i) % C
def r_way (T : tx) (w : Nat → Int32) (d n way : Nat) : Nat → Nat → Int32
  | 0 => w
  | i + 1 => r_lift T (r_way T w d n way i) d (z_dg (tx_C T) n way i)
def r_ways (T : tx) (w : Nat → Int32) (d c : Nat) : Nat → Nat → Option (Nat × Nat)
  | 0, _ => none
  | k + 1, n => match z_fst (fun way => r_known T (r_way T w d n way n) d = nI c) (tx_C T ^ n) 0 with
    | some way => some (n, way)
    | none => r_ways T w d c k (n + 1)
def o_lfA (C : Nat) (i : Int32) : Option (Nat × Nat) → Int32
  | none => -2
  | some (n, way) => if i = -1 then nI n else if nI n ≤ i then -1 else nI (z_dg C n way i.toNatClampNeg)
def o_lifts (T : tx) (w : Nat → Int32) (x y i : Int32) : Int32 := match z_ix x (tx_D T) with
  | none => -1
  | some d => match z_ix y (tx_C T) with
    | none => -1
    | some c => if -1 ≤ i ∧ i ≤ nI 3 then o_lfA (tx_C T) i (r_ways T w d c 5 0) else -1
section M17
variable {G : sm_G} {d : Nat} {I : sm_I} {ρ : sm_R}
theorem s_power (v n : Nat) (hn : n < 1000) : sm_M G xX10_power d [.int (nI v), .int (nI n)] I ρ (sm_Qe (some (.int (nI (v ^ n)))) I ρ) := by
  show sm_V G xX10_power d 0 [.int (nI v), .int (nI n), .retAddr 0, .retAddr 0] [] I ρ _
  refine wp_iconst (nI 1) 1 rfl dX10_power_0 (by decide) ?_
  refine wp_istore2 2 rfl dX10_power_1 (by decide) rfl ?_
  refine wp_iconst (nI 0) 3 rfl dX10_power_2 (by decide) ?_
  refine wp_istore3 4 rfl dX10_power_3 (by decide) rfl ?_
  refine sm_for (P := fun p => sm_V G xX10_power d 4 [.int (nI v), .int (nI n), .int (nI (v ^ p)), .int (nI p)] [] I ρ _) 0 n (Nat.zero_le _) ?_ (fun p _ hp ih => ?_)
  · refine wp_iload3 5 rfl dX10_power_4 ?_
    refine wp_iload1 6 rfl dX10_power_5 ?_
    refine wp_icmp_ge 9 19 rfl rfl dX10_power_6 (fun c6 => ?_) (fun c6 => absurd (nI_le (Nat.le_refl _) (by omega)) c6)
    refine wp_iload2 20 rfl dX10_power_19 ?_
    refine wp_iret dX10_power_20 rfl ?_
    exact sm_ei rfl
  · rw [Nat.pow_succ, ← pk_mul] at ih
    refine wp_iload3 5 rfl dX10_power_4 ?_
    refine wp_iload1 6 rfl dX10_power_5 ?_
    refine wp_icmp_ge 9 19 rfl rfl dX10_power_6 (fun c6 => absurd c6 (nI_ge hp (by omega))) (fun c6 => ?_)
    refine wp_iload2 10 rfl dX10_power_9 ?_
    refine wp_iload0 11 rfl dX10_power_10 ?_
    refine wp_imul 12 rfl dX10_power_11 ?_
    refine wp_istore2 13 rfl dX10_power_12 (by decide) rfl ?_
    refine wp_iincN3 16 rfl dX10_power_13 (by decide) rfl ?_
    refine wp_goto 4 rfl dX10_power_16 ?_
    exact ih
theorem p_sm (C n : Nat) (hC : C ≤ 5) (hn : n ≤ 4) : C ^ n ≤ 625 := Nat.le_trans (Nat.pow_le_pow_left hC n) (Nat.le_trans (Nat.pow_le_pow_right (by decide) hn) (by decide))
theorem s_digitOf (hm : md ρ) (lv : Nat) (T : tx) (hT : mT I lv T) (ht : tok T) (n way i : Nat) (hn : n ≤ 4) (hi : i < n) (hw : way < 625) (hC0 : 0 < tx_C T) : sm_M G xX10_digitOf (d + 1) [.ref mM, .int (nI way), .int (nI n), .int (nI i)] I ρ (sm_Qe (some (.int (nI (z_dg (tx_C T) n way i)))) I ρ) := by
  have h1 := ht.1
  have hp := p_sm (tx_C T) (n - 1 - i) h1.2.1 (by omega)
  have hp0 : 0 < tx_C T ^ (n - 1 - i) := Nat.pow_pos hC0
  have hq : way / tx_C T ^ (n - 1 - i) < 2 ^ 31 := Nat.lt_of_le_of_lt (Nat.div_le_self _ _) (by omega)
  show sm_V G xX10_digitOf (d + 1) 0 [.ref mM, .int (nI way), .int (nI n), .int (nI i)] [] I ρ _
  refine wp_iload1 1 rfl dX10_digitOf_0 ?_
  refine wp_aload0 2 rfl dX10_digitOf_1 ?_
  refine wp_getr 5 rfl dX10_digitOf_2 fX10_52_10 (md_M hm) (mp_callers hm) ?_
  refine wp_aload0 6 rfl dX10_digitOf_5 ?_
  refine wp_geti 9 rfl dX10_digitOf_6 fX10_233_10 (md_M hm) ?_
  refine wp_iald 10 rfl dX10_digitOf_9 (ms_callers hm) (lv) (hT.1.1) (⟨hT.1.2, by decide⟩) ?_
  refine wp_iload2 11 rfl dX10_digitOf_10 ?_
  refine wp_iconst (nI 1) 12 rfl dX10_digitOf_11 (by decide) ?_
  refine wp_isub 13 rfl dX10_digitOf_12 ?_
  refine wp_iload3 14 rfl dX10_digitOf_13 ?_
  refine wp_isub 15 rfl dX10_digitOf_14 ?_
  rw [hT.2.1.2.1, pk_sub (by omega), pk_sub (by omega)]
  refine wp_Se2 18 rfl dX10_digitOf_15 kX10_power lX10_417 (nl rfl) (nl rfl) (s_power _ _ (by omega)) ?_
  refine wp_idiv 19 rfl dX10_digitOf_18 (nI_ne0 hp0 (by omega)) ?_
  refine wp_aload0 20 rfl dX10_digitOf_19 ?_
  refine wp_getr 23 rfl dX10_digitOf_20 fX10_52_10 (md_M hm) (mp_callers hm) ?_
  refine wp_aload0 24 rfl dX10_digitOf_23 ?_
  refine wp_geti 27 rfl dX10_digitOf_24 fX10_233_10 (md_M hm) ?_
  refine wp_iald 28 rfl dX10_digitOf_27 (ms_callers hm) (lv) (hT.1.1) (⟨hT.1.2, by decide⟩) ?_
  refine wp_irem 29 rfl dX10_digitOf_28 (by rw [hT.2.1.2.1]; exact nI_ne0 hC0 (by omega)) ?_
  refine wp_iret dX10_digitOf_29 rfl ?_
  rw [hT.2.1.2.1, pk_div (by omega) hp0 (by omega), pk_rem hq hC0 (by omega)]
  exact sm_ei rfl
theorem w70_way {T : tx} {w : Nat → Int32} (h : w70 w) (ht : tok T) {dd n way : Nat} (hd : dd < 6) (hC0 : 0 < tx_C T) : ∀ i, w70 (r_way T w dd n way i)
  | 0 => h
  | i + 1 => w70_lift (w70_way h ht hd hC0 i) hd (by have := ht.1; have : z_dg (tx_C T) n way i < tx_C T := Nat.mod_lt _ hC0; omega)
theorem s_doesWay (hm : md ρ) (lv : Nat) (T : tx) (w : Nat → Int32) (hS : mS I lv T w) (dd c n way : Nat) (hd : dd < tx_D T) (hc : c < tx_C T) (hn : n ≤ 4) (hw : way < 625) : sm_M G xX10_doesWay (d + 4) [.ref mM, .int (nI dd), .int (nI c), .int (nI way), .int (nI n)] I ρ (mPost I ρ (z_b (r_known T (r_way T w dd n way n) dd = nI c))) := by
  show sm_V G xX10_doesWay (d + 4) 0 [.ref mM, .int (nI dd), .int (nI c), .int (nI way), .int (nI n), .retAddr 0] [] I ρ _
  have h1 := hS.2.1.1
  have hq := cp_q hS
  have hr := cp_row hS
  have hT0 : mT (M_cp I lv) lv T := hS.1.kept hq.1 (by decide) (by decide)
  refine wp_aload0 1 rfl dX10_doesWay_0 ?_
  refine wp_Ve0 4 rfl dX10_doesWay_1 kX10_copies lX10_323 (md_M hm) (nl rfl) (nl rfl) (s_copies hm lv hS.1.1.1 hS.1.1.2) ?_
  refine wp_iconst (nI 0) 5 rfl dX10_doesWay_4 (by decide) ?_
  refine wp_istore5 7 rfl dX10_doesWay_5 (by decide) rfl ?_
  generalize M_cp I lv = J at hq hr hT0 ⊢
  refine sm_for (P := fun i => ∀ J1 : sm_I, mf mScR [50] J J1 → J1 m_row = r_way T w dd n way i → sm_V G xX10_doesWay (d + 4) 7 [.ref mM, .int (nI dd), .int (nI c), .int (nI way), .int (nI n), .int (nI i)] [] J1 ρ _) 0 n (Nat.zero_le _) ?_ (fun i _ hi ih => ?_) J mf.rf hr
  · intro J1 hf1 hw1
    have hT1 := hT0.kept hf1 (by decide) (by decide)
    have hqq := sc_q hq hf1 hw1 (w70_way hS.2.2.2.1 hS.2.1 (by omega) (by omega) _)
    refine wp_iload5 9 rfl dX10_doesWay_7 ?_
    refine wp_iload4 11 rfl dX10_doesWay_9 ?_
    refine wp_icmp_ge 14 34 rfl rfl dX10_doesWay_11 (fun c11 => ?_) (fun c11 => absurd (nI_le (Nat.le_refl _) (by omega)) c11)
    refine wp_aload0 35 rfl dX10_doesWay_34 ?_
    refine wp_iload1 36 rfl dX10_doesWay_35 ?_
    refine wp_Ve1 39 rfl dX10_doesWay_36 kX10_knownBy lX10_390 (md_M hm) (nl rfl) (nl rfl) (s_knownBy hm lv dd (tx_C T) hT1.1.1 hT1.1.2 (by omega) hT1.2.1.2.1 h1.2.1) ?_
    refine wp_iload2 40 rfl dX10_doesWay_39 ?_
    rw [k_by_r hT1, hw1]
    refine wp_icmp_ne 43 47 rfl rfl dX10_doesWay_40 (fun c40 => ?_) (fun c40 => ?_)
    · refine wp_iconst (nI 0) 48 rfl dX10_doesWay_47 (by decide) ?_
      refine wp_zret dX10_doesWay_48 rfl (rfl) ?_
      exact sm_qi hqq (z_bf c40).symm
    · refine wp_iconst (nI 1) 44 rfl dX10_doesWay_43 (by decide) ?_
      refine wp_goto 48 rfl dX10_doesWay_44 ?_
      refine wp_zret dX10_doesWay_48 rfl (rfl) ?_
      exact sm_qi hqq (z_bt c40).symm
  · intro J1 hf1 hw1
    have hT1 := hT0.kept hf1 (by decide) (by decide)
    refine wp_iload5 9 rfl dX10_doesWay_7 ?_
    refine wp_iload4 11 rfl dX10_doesWay_9 ?_
    refine wp_icmp_ge 14 34 rfl rfl dX10_doesWay_11 (fun c11 => absurd c11 (nI_ge hi (by omega))) (fun c11 => ?_)
    refine wp_aload0 15 rfl dX10_doesWay_14 ?_
    refine wp_iload1 16 rfl dX10_doesWay_15 ?_
    refine wp_aload0 17 rfl dX10_doesWay_16 ?_
    refine wp_iload3 18 rfl dX10_doesWay_17 ?_
    refine wp_iload4 20 rfl dX10_doesWay_18 ?_
    refine wp_iload5 22 rfl dX10_doesWay_20 ?_
    refine wp_Ve3 25 rfl dX10_doesWay_22 kX10_digitOf lX10_420 (md_M hm) (nl rfl) (nl rfl) (s_digitOf hm lv T hT1 hS.2.1 n way i hn hi hw (by omega)) ?_
    refine wp_Vv2 28 rfl dX10_doesWay_25 kX10_lifted lX10_374 (md_M hm) (nl rfl) (nl rfl) (s_lifted hm lv T hT1 hS.2.1 dd _ hd (Nat.mod_lt _ (by omega))) (fun J2 ρ2 hq2 => ?_)
    obtain ⟨rfl, hf2, hw2⟩ := hq2
    refine wp_iincN5 31 rfl dX10_doesWay_28 (by decide) rfl ?_
    refine wp_goto 7 rfl dX10_doesWay_31 ?_
    refine ih J2 (hf1.tr hf2) ?_
    rw [hw2, hw1]
    rfl
theorem q_lifts (hm : md ρ) (lv : Nat) (T : tx) (w : Nat → Int32) (hS : mS I lv T w) (x y i : Int32) : sm_M G xX10_lifts (d + 5) [.ref mM, .int x, .int y, .int i] I ρ (mPost I ρ (o_lifts T w x y i)) := by
  show sm_V G xX10_lifts (d + 5) 0 [.ref mM, .int x, .int y, .int i, .retAddr 0, .retAddr 0] [] I ρ _
  have h1 := hS.2.1.1
  have no : (¬ ((∃ j, j < tx_D T ∧ x = nI j) ∧ ∃ j, j < tx_C T ∧ y = nI j) ∨ ¬ (-1 ≤ i ∧ i ≤ nI 3)) → sm_V G xX10_lifts (d + 5) 18 [.ref mM, .int x, .int y, .int i, .retAddr 0, .retAddr 0] [] I ρ (mPost I ρ (o_lifts T w x y i)) := by
    intro hno
    refine wp_iconst (-1) 19 rfl dX10_lifts_18 (by decide) ?_
    refine wp_iret dX10_lifts_19 rfl ?_
    refine sm_qi (mq.rf hS.2.2.2.2) ?_
    unfold o_lifts
    by_cases hb : (∃ j, j < tx_D T ∧ x = nI j) ∧ ∃ j, j < tx_C T ∧ y = nI j
    · obtain ⟨⟨dd, hd, rfl⟩, c, hc, rfl⟩ := hb
      rw [z_ix_n hd (by omega), z_ix_n hc (by omega)]
      rcases hno with h | h
      · exact absurd ⟨⟨dd, hd, rfl⟩, c, hc, rfl⟩ h
      · exact (if_neg h).symm
    · exact (o_none2 (by omega) (by omega) hb).symm
  refine wp_aload0 1 rfl dX10_lifts_0 ?_
  refine wp_iload1 2 rfl dX10_lifts_1 ?_
  refine wp_iload2 3 rfl dX10_lifts_2 ?_
  refine wp_Ve2 6 rfl dX10_lifts_3 kX10_areBoth lX10_399 (md_M hm) (nl rfl) (nl rfl) (s_areBoth hm lv T hS.1 hS.2.1 x y) ?_
  refine wp_if_eq 9 18 rfl rfl dX10_lifts_6 (fun c6 => ?_) (fun c6 => ?_)
  · exact no (Or.inl (z_b_eq.mp c6))
  · obtain ⟨⟨dd, hd, rfl⟩, c, hc, rfl⟩ := z_b_ne.mp c6
    refine wp_iload3 10 rfl dX10_lifts_9 ?_
    refine wp_iconst (-1) 11 rfl dX10_lifts_10 (by decide) ?_
    refine wp_iconst (nI 3) 12 rfl dX10_lifts_11 (by decide) ?_
    refine wp_Se3 15 rfl dX10_lifts_12 kX10_in lX10_313 (nl rfl) (nl rfl) (s_in _ _ _) ?_
    refine wp_if_ne 18 20 rfl rfl dX10_lifts_15 (fun c15 => ?_) (fun c15 => ?_)
    · have hi := z_b_ne.mp c15
      have e9 : o_lifts T w (nI dd) (nI c) i = o_lfA (tx_C T) i (r_ways T w dd c 5 0) := by
        unfold o_lifts
        rw [z_ix_n hd (by omega), z_ix_n hc (by omega)]
        exact if_pos hi
      rw [e9]
      refine wp_iconst (nI 0) 21 rfl dX10_lifts_20 (by decide) ?_
      refine wp_istore4 23 rfl dX10_lifts_21 (by decide) rfl ?_
      refine sm_for (P := fun n => ∀ J : sm_I, mq I J → sm_V G xX10_lifts (d + 5) 23 [.ref mM, .int (nI dd), .int (nI c), .int i, .int (nI n), .retAddr 0] [] J ρ (mPost I ρ (o_lfA (tx_C T) i (r_ways T w dd c (5 - n) n)))) 0 5 (by decide) ?_ (fun n _ hn ih => ?_) I (mq.rf hS.2.2.2.2)
      · intro J hqJ
        refine wp_iload4 25 rfl dX10_lifts_23 ?_
        refine wp_iconst (nI 4) 26 rfl dX10_lifts_25 (by decide) ?_
        refine wp_icmp_gt 29 107 rfl rfl dX10_lifts_26 (fun c26 => ?_) (fun c26 => absurd (by decide) c26)
        refine wp_bipush (-2) 109 rfl dX10_lifts_107 (by decide) ?_
        refine wp_iret dX10_lifts_109 rfl ?_
        exact sm_qi hqJ rfl
      · intro J hqJ
        have hp := p_sm (tx_C T) n h1.2.1 (by omega)
        obtain ⟨P, hP⟩ : ∃ P : Nat → Prop, P = fun way => r_known T (r_way T w dd n way n) dd = nI c := ⟨_, rfl⟩
        obtain ⟨F, hF⟩ : ∃ F : Nat → Nat → Option Nat, F = z_fst (fun way => r_known T (r_way T w dd n way n) dd = nI c) := ⟨_, rfl⟩
        have hF0 : ∀ a, F 0 a = none := fun a => by rw [hF]; rfl
        have hFs : ∀ k a, F (k + 1) a = if r_known T (r_way T w dd n a n) dd = nI c then some a else F k (a + 1) := fun k a => by rw [hF]; rfl
        have er : r_ways T w dd c (5 - n) n = match F (tx_C T ^ n) 0 with
          | some way => some (n, way)
          | none => r_ways T w dd c (5 - (n + 1)) (n + 1) := by
          rw [show 5 - n = (5 - (n + 1)) + 1 by omega, hF]
          rfl
        rw [er]
        refine wp_iload4 25 rfl dX10_lifts_23 ?_
        refine wp_iconst (nI 4) 26 rfl dX10_lifts_25 (by decide) ?_
        refine wp_icmp_gt 29 107 rfl rfl dX10_lifts_26 (fun c26 => absurd c26 (i_lt_le (nI_le (by omega) (by decide)))) (fun c26 => ?_)
        refine wp_iconst (nI 0) 30 rfl dX10_lifts_29 (by decide) ?_
        refine wp_istore5 32 rfl dX10_lifts_30 (by decide) rfl ?_
        refine sm_for (P := fun way => ∀ J : sm_I, mq I J → sm_V G xX10_lifts (d + 5) 32 [.ref mM, .int (nI dd), .int (nI c), .int i, .int (nI n), .int (nI way)] [] J ρ (mPost I ρ (o_lfA (tx_C T) i (match F (tx_C T ^ n - way) way with
          | some way => some (n, way)
          | none => r_ways T w dd c (5 - (n + 1)) (n + 1))))) 0 (tx_C T ^ n) (Nat.zero_le _) ?_ (fun way _ hw ih2 => ?_) J hqJ
        · intro J hqJ
          have hT := (hS.q hqJ).1
          rw [Nat.sub_self, hF0]
          refine wp_iload5 34 rfl dX10_lifts_32 ?_
          refine wp_aload0 35 rfl dX10_lifts_34 ?_
          refine wp_getr 38 rfl dX10_lifts_35 fX10_52_10 (md_M hm) (mp_callers hm) ?_
          refine wp_aload0 39 rfl dX10_lifts_38 ?_
          refine wp_geti 42 rfl dX10_lifts_39 fX10_233_10 (md_M hm) ?_
          refine wp_iald 43 rfl dX10_lifts_42 (ms_callers hm) (lv) (hT.1.1) (⟨hT.1.2, by decide⟩) ?_
          rw [hT.2.1.2.1]
          refine wp_iload4 45 rfl dX10_lifts_43 ?_
          refine wp_Se2 48 rfl dX10_lifts_45 kX10_power lX10_417 (nl rfl) (nl rfl) (s_power _ _ (by omega)) ?_
          refine wp_icmp_ge 51 101 rfl rfl dX10_lifts_48 (fun c48 => ?_) (fun c48 => absurd (nI_le (Nat.le_refl _) (by omega)) c48)
          refine wp_iincN4 104 rfl dX10_lifts_101 (by decide) rfl ?_
          refine wp_goto 23 rfl dX10_lifts_104 ?_
          exact wp_weakK (ih J hqJ) ⟨Or.inr rfl, Or.inr rfl, Or.inr rfl, Or.inr rfl, Or.inr rfl, Or.inl rfl, trivial⟩
        · intro J hqJ
          have hSJ := hS.q hqJ
          have hT := hSJ.1
          rw [show tx_C T ^ n - way = (tx_C T ^ n - (way + 1)) + 1 by omega, hFs]
          refine wp_iload5 34 rfl dX10_lifts_32 ?_
          refine wp_aload0 35 rfl dX10_lifts_34 ?_
          refine wp_getr 38 rfl dX10_lifts_35 fX10_52_10 (md_M hm) (mp_callers hm) ?_
          refine wp_aload0 39 rfl dX10_lifts_38 ?_
          refine wp_geti 42 rfl dX10_lifts_39 fX10_233_10 (md_M hm) ?_
          refine wp_iald 43 rfl dX10_lifts_42 (ms_callers hm) (lv) (hT.1.1) (⟨hT.1.2, by decide⟩) ?_
          rw [hT.2.1.2.1]
          refine wp_iload4 45 rfl dX10_lifts_43 ?_
          refine wp_Se2 48 rfl dX10_lifts_45 kX10_power lX10_417 (nl rfl) (nl rfl) (s_power _ _ (by omega)) ?_
          refine wp_icmp_ge 51 101 rfl rfl dX10_lifts_48 (fun c48 => absurd c48 (nI_ge hw (by omega))) (fun c48 => ?_)
          refine wp_aload0 52 rfl dX10_lifts_51 ?_
          refine wp_iload1 53 rfl dX10_lifts_52 ?_
          refine wp_iload2 54 rfl dX10_lifts_53 ?_
          refine wp_iload5 56 rfl dX10_lifts_54 ?_
          refine wp_iload4 58 rfl dX10_lifts_56 ?_
          refine wp_Vi4 61 rfl dX10_lifts_58 kX10_doesWay lX10_423 (md_M hm) (nl rfl) (nl rfl) (s_doesWay hm lv T w hSJ dd c n way hd hc (by omega) (by omega)) (fun r J2 ρ2 hq2 => ?_)
          obtain ⟨rfl, hq2, rfl⟩ := hq2
          have hqq : mq I J2 := ⟨hqJ.1.tr hq2.1, hq2.2⟩
          have hT2 := (hS.q hqq).1
          refine wp_if_ne 64 67 rfl rfl dX10_lifts_61 (fun c61 => ?_) (fun c61 => ?_)
          · rw [if_pos (z_b_ne.mp c61)]
            show sm_V G xX10_lifts (d + 5) 67 _ _ J2 ρ2 (mPost I ρ2 (if i = -1 then nI n else if nI n ≤ i then -1 else nI (z_dg (tx_C T) n way i.toNatClampNeg)))
            refine wp_iload3 68 rfl dX10_lifts_67 ?_
            refine wp_iconst (-1) 69 rfl dX10_lifts_68 (by decide) ?_
            refine wp_icmp_ne 72 75 rfl rfl dX10_lifts_69 (fun c69 => ?_) (fun c69 => ?_)
            · rw [if_neg c69]
              refine wp_iload3 76 rfl dX10_lifts_75 ?_
              refine wp_iload4 78 rfl dX10_lifts_76 ?_
              refine wp_icmp_ge 81 93 rfl rfl dX10_lifts_78 (fun c78 => ?_) (fun c78 => ?_)
              · rw [if_pos c78]
                refine wp_iconst (-1) 94 rfl dX10_lifts_93 (by decide) ?_
                refine wp_iret dX10_lifts_94 rfl ?_
                exact sm_qi hqq rfl
              · rw [if_neg c78]
                obtain ⟨q, hq31, rfl⟩ : ∃ j : Nat, j < 2 ^ 31 ∧ i = nI j := nI_of (fun h => by
                  have h1 := hi.1
                  rw [Int32.le_iff_toInt_le] at h1
                  rw [Int32.lt_iff_toInt_lt] at h
                  have h2 : (-1 : Int32).toInt = -1 := by decide
                  have h3 : (0 : Int32).toInt = 0 := by decide
                  exact c69 (Int32.toInt_inj.mp (by omega)))
                have hqn : q < n := by
                  rw [nI_leI (by omega) hq31] at c78
                  omega
                rw [nI_clamp hq31]
                refine wp_aload0 82 rfl dX10_lifts_81 ?_
                refine wp_iload5 84 rfl dX10_lifts_82 ?_
                refine wp_iload4 86 rfl dX10_lifts_84 ?_
                refine wp_iload3 87 rfl dX10_lifts_86 ?_
                refine wp_Ve3 90 rfl dX10_lifts_87 kX10_digitOf lX10_420 (md_M hm) (nl rfl) (nl rfl) (s_digitOf hm lv T hT2 hS.2.1 n way q (by omega) hqn (by omega) (by omega)) ?_
                refine wp_goto 94 rfl dX10_lifts_90 ?_
                refine wp_iret dX10_lifts_94 rfl ?_
                exact sm_qi hqq rfl
            · rw [if_pos c69]
              refine wp_iload4 74 rfl dX10_lifts_72 ?_
              refine wp_iret dX10_lifts_74 rfl ?_
              exact sm_qi hqq rfl
          · rw [if_neg (z_b_eq.mp c61)]
            refine wp_goto 95 rfl dX10_lifts_64 ?_
            refine wp_iincN5 98 rfl dX10_lifts_95 (by decide) rfl ?_
            refine wp_goto 32 rfl dX10_lifts_98 ?_
            exact ih2 J2 hqq
    · exact no (Or.inr (z_b_eq.mp c15))
end M17
