/-! ===== days ahead, asked of the model ===== -/
set_option maxRecDepth 100000
/-- the first number from n on, of so many, with P -/
def z_first (P : Nat → Prop) [DecidablePred P] : Nat → Nat → Int32
  | 0, _ => -2
  | k + 1, n => if P n then nI n else z_first P k (n + 1)
def r_liftN (T : tx) (d c : Nat) (w : Nat → Int32) : Nat → Nat → Int32
  | 0 => w
  | n + 1 => r_lift T (r_liftN T d c w n) d c
def r_polN (T : tx) (d : Nat) (w : Nat → Int32) : Nat → Nat → Int32
  | 0 => w
  | n + 1 => r_polish T (r_polN T d w n) d
/-- days without wind, days with -/
abbrev r_still (T : tx) (w : Nat → Int32) (n : Nat) : Nat → Int32 := r_days T (nI 1) (tx_seed T) w n
abbrev r_drawn (T : tx) (w : Nat → Int32) (n : Nat) : Nat → Int32 := r_days T (nI 0) (tx_seed T) w n
/-- from l to m -/
def z_iv (x : Int32) (l m : Nat) : Option Nat := if nI l ≤ x ∧ x ≤ nI m then some x.toNatClampNeg else none
theorem z_iv_iff {x : Int32} {l m : Nat} (hl : l < 1000) (hm : m < 1000) : (nI l ≤ x ∧ x ≤ nI m) ↔ ∃ j, (l ≤ j ∧ j ≤ m) ∧ x = nI j := by
  constructor
  · rintro ⟨h1, h2⟩
    have h0 : ¬ x < 0 := by
      rw [Int32.le_iff_toInt_le, nI_toInt (by omega)] at h1
      rw [Int32.lt_iff_toInt_lt]
      have : (0 : Int32).toInt = 0 := by decide
      omega
    obtain ⟨j, hj, rfl⟩ := nI_of h0
    rw [nI_leI (by omega) hj] at h1
    rw [nI_leI hj (by omega)] at h2
    exact ⟨j, ⟨h1, h2⟩, rfl⟩
  · rintro ⟨j, ⟨h1, h2⟩, rfl⟩
    exact ⟨nI_le h1 (by omega), nI_le h2 (by omega)⟩
theorem z_iv_n {j l m : Nat} (h : l ≤ j ∧ j ≤ m) (hl : l < 1000) (hm : m < 1000) : z_iv (nI j) l m = some j := by
  unfold z_iv
  rw [if_pos ((z_iv_iff hl hm).mpr ⟨j, h, rfl⟩), nI_clamp (by omega)]
theorem z_iv_o {x : Int32} {l m : Nat} (h : ¬ (nI l ≤ x ∧ x ≤ nI m)) : z_iv x l m = none := if_neg h
def o_then (T : tx) (w : Nat → Int32) (x n what : Int32) : Int32 := match z_ix x (tx_D T) with
  | none => -1
  | some d => match z_iv n 0 60 with
    | none => -1
    | some n => match z_iv what 0 5 with
      | none => -1
      | some k => if k < 4 then r_drawn T w n (4 * d + k) else if k = 4 then r_known T (r_drawn T w n) d else r_drawn T w n (42 + d)
def o_shift (T : tx) (w : Nat → Int32) (x n : Int32) : Int32 := match z_ix x (tx_D T) with
  | none => -1
  | some d => match z_iv n 0 60 with
    | none => -1
    | some n => z_sum (fun p => z_off (r_still T w n (4 * d + p)) (w (4 * d + p))) 4
def o_without (T : tx) (w : Nat → Int32) (x n : Int32) : Int32 := match z_ix x (tx_R T) with
  | none => -1
  | some r => match z_iv n 1 60 with
    | none => -1
    | some n => r_known T (r_still T (upd w (54 + r) (nI 0)) n) (tx_door T r)
def o_changes (T : tx) (w : Nat → Int32) (x : Int32) : Int32 := match z_ix x (tx_D T) with
  | none => -1
  | some d => z_first (fun n => ¬ r_known T (r_still T w n) d = r_known T w d) 60 1
def o_rubs (T : tx) (w : Nat → Int32) (x : Int32) : Int32 := match z_ix x (tx_D T) with
  | none => -1
  | some d => if r_known T w d < 0 then -2 else z_first (fun n => ¬ r_known T (r_polN T d w n) d = r_known T w d) 10 1
def o_when (T : tx) (w : Nat → Int32) (x y : Int32) : Int32 := match z_ix x (tx_D T) with
  | none => -1
  | some d => match z_ix y (tx_C T) with
    | none => -1
    | some c => z_first (fun n => r_known T (r_still T w n) d = nI c) 61 0
def o_alone (T : tx) (w : Nat → Int32) (x y : Int32) : Int32 := match z_ix x (tx_D T) with
  | none => -1
  | some d => match z_ix y (tx_C T) with
    | none => -1
    | some c => z_first (fun n => r_known T (r_liftN T d c w n) d = nI c) 61 0
theorem o_none2 {T : tx} {f : Nat → Nat → Int32} {x y : Int32} (h1 : tx_D T < 1000) (h2 : tx_C T < 1000) (h : ¬ ((∃ j, j < tx_D T ∧ x = nI j) ∧ ∃ j, j < tx_C T ∧ y = nI j)) : (match z_ix x (tx_D T) with
  | none => (-1 : Int32)
  | some d => match z_ix y (tx_C T) with
    | none => -1
    | some c => f d c) = -1 := by
  by_cases hx : ∃ j, j < tx_D T ∧ x = nI j
  · obtain ⟨dd, hd, rfl⟩ := hx
    rw [z_ix_n hd h1, z_ix_no h2 (fun q => h ⟨⟨dd, hd, rfl⟩, q⟩)]
  · rw [z_ix_no h1 hx]
section M11
variable {G : sm_G} {d : Nat} {I : sm_I} {ρ : sm_R}
/-- behind copiesStill -/
abbrev M_cs (I : sm_I) (lv : Nat) : sm_I := sm_u (M_cp I lv) mM 54 (nI 1)
theorem cs_row {lv : Nat} {T : tx} {w : Nat → Int32} (h : mS I lv T w) : M_cs I lv m_row = w := cp_row h
theorem cs_q {lv : Nat} {T : tx} {w : Nat → Int32} (h : mS I lv T w) : mq I (M_cs I lv) := ⟨(cp_q h).1.tr (mf.uM (by decide)), (cp_q h).2⟩
theorem cs_53 {lv : Nat} {T : tx} {w : Nat → Int32} (h : mS I lv T w) : M_cs I lv mM 53 = tx_seed T := h.1.2.2.2.2.2.1.2.2
theorem cs_54 {lv : Nat} : M_cs I lv mM 54 = nI 1 := rfl
theorem s_cs (hm : md ρ) (lv : Nat) (hl : I mM 18 = nI lv) (hlv : lv < 2) : sm_M G xX10_copiesStill (d + 1) [.ref mM] I ρ (sm_Qe none (M_cs I lv) ρ) := s_copiesStill hm lv hl hlv
theorem sc_q {I J K : sm_I} {w : Nat → Int32} (h : mq I J) (hf : mf mScR [50] J K) (hw : K m_row = w) (h70 : w70 w) : mq I K := ⟨h.1.tr (hf.wk (by decide) (by decide)), by rw [hw]; exact h70⟩
theorem q_when (hm : md ρ) (lv : Nat) (T : tx) (w : Nat → Int32) (hS : mS I lv T w) (x y : Int32) : sm_M G xX10_when (d + 5) [.ref mM, .int x, .int y] I ρ (mPost I ρ (o_when T w x y)) := by
  show sm_V G xX10_when (d + 5) 0 [.ref mM, .int x, .int y, .retAddr 0] [] I ρ _
  have h1 := hS.2.1.1
  refine wp_aload0 1 rfl dX10_when_0 ?_
  refine wp_iload1 2 rfl dX10_when_1 ?_
  refine wp_iload2 3 rfl dX10_when_2 ?_
  refine wp_Ve2 6 rfl dX10_when_3 kX10_areBoth lX10_399 (md_M hm) (nl rfl) (nl rfl) (s_areBoth hm lv T hS.1 hS.2.1 x y) ?_
  unfold o_when
  refine wp_if_ne 9 11 rfl rfl dX10_when_6 (fun c6 => ?_) (fun c6 => ?_)
  · obtain ⟨⟨dd, hd, rfl⟩, c, hc, rfl⟩ := z_b_ne.mp c6
    rw [z_ix_n hd (by omega), z_ix_n hc (by omega)]
    have hq := cs_q hS
    have hr := cs_row hS
    have h53 := cs_53 hS
    have h54 := cs_54 (I := I) (lv := lv)
    have hT0 : mT (M_cs I lv) lv T := hS.1.kept hq.1 (by decide) (by decide)
    refine wp_aload0 12 rfl dX10_when_11 ?_
    refine wp_Ve0 15 rfl dX10_when_12 kX10_copiesStill lX10_430 (md_M hm) (nl rfl) (nl rfl) (s_cs hm lv hS.1.1.1 hS.1.1.2) ?_
    refine wp_iconst (nI 0) 16 rfl dX10_when_15 (by decide) ?_
    refine wp_istore3 17 rfl dX10_when_16 (by decide) rfl ?_
    generalize M_cs I lv = J at hq hr hT0 h53 h54 ⊢
    show sm_V G xX10_when (d + 5) 17 _ [] J ρ (mPost I ρ (z_first (fun n => r_known T (r_still T w n) dd = nI c) 61 0))
    refine sm_for (P := fun n => ∀ J1 : sm_I, mf mScR [50] J J1 → J1 m_row = r_still T w n → z_first (fun n => r_known T (r_still T w n) dd = nI c) (61 - n) n = z_first (fun n => r_known T (r_still T w n) dd = nI c) 61 0 → sm_V G xX10_when (d + 5) 17 [.ref mM, .int (nI dd), .int (nI c), .int (nI n)] [] J1 ρ _) 0 61 (nl rfl) ?_ (fun n _ hn ih => ?_) J mf.rf hr rfl
    · intro J1 hf1 hw1 hz
      refine wp_iload3 18 rfl dX10_when_17 ?_
      refine wp_bipush (nI 60) 20 rfl dX10_when_18 (by decide) ?_
      refine wp_icmp_gt 23 44 rfl rfl dX10_when_20 (fun c20 => ?_) (fun c20 => absurd (by decide) c20)
      refine wp_bipush (-2) 46 rfl dX10_when_44 (by decide) ?_
      refine wp_iret dX10_when_46 rfl ?_
      exact sm_qi (sc_q hq hf1 hw1 (w70_days hS.2.1 hS.2.2.2.1 _)) hz
    · intro J1 hf1 hw1 hz
      have hT1 := hT0.kept hf1 (by decide) (by decide)
      rw [show 61 - n = (61 - (n + 1)) + 1 by omega] at hz
      have hz : (if r_known T (r_still T w n) dd = nI c then nI n else z_first (fun n => r_known T (r_still T w n) dd = nI c) (61 - (n + 1)) (n + 1)) = _ := hz
      refine wp_iload3 18 rfl dX10_when_17 ?_
      refine wp_bipush (nI 60) 20 rfl dX10_when_18 (by decide) ?_
      refine wp_icmp_gt 23 44 rfl rfl dX10_when_20 (fun c20 => absurd c20 (i_lt_le (nI_le (by omega) (by decide)))) (fun c20 => ?_)
      refine wp_aload0 24 rfl dX10_when_23 ?_
      refine wp_iload1 25 rfl dX10_when_24 ?_
      refine wp_Ve1 28 rfl dX10_when_25 kX10_knownBy lX10_390 (md_M hm) (nl rfl) (nl rfl) (s_knownBy hm lv dd (tx_C T) hT1.1.1 hT1.1.2 (by omega) hT1.2.1.2.1 h1.2.1) ?_
      refine wp_iload2 29 rfl dX10_when_28 ?_
      rw [k_by_r hT1, hw1]
      refine wp_icmp_ne 32 34 rfl rfl dX10_when_29 (fun c29 => ?_) (fun c29 => ?_)
      · rw [if_neg c29] at hz
        refine wp_aload0 35 rfl dX10_when_34 ?_
        refine wp_Vv0 38 rfl dX10_when_35 kX10_dayGoes lX10_384 (md_M hm) (nl rfl) (nl rfl) (s_dayGoes hm lv T hT1 hS.2.1) (fun J2 ρ2 hq2 => ?_)
        obtain ⟨rfl, hf2, hw2⟩ := hq2
        refine wp_iincN3 41 rfl dX10_when_38 (by decide) rfl ?_
        refine wp_goto 17 rfl dX10_when_41 ?_
        refine ih J2 (hf1.tr hf2) ?_ hz
        rw [hw2, hf1.2 54 (by decide), hf1.2 53 (by decide), hw1, h53, h54]
        rfl
      · rw [if_pos c29] at hz
        refine wp_iload3 33 rfl dX10_when_32 ?_
        refine wp_iret dX10_when_33 rfl ?_
        exact sm_qi (sc_q hq hf1 hw1 (w70_days hS.2.1 hS.2.2.2.1 _)) hz
  · refine wp_iconst (-1) 10 rfl dX10_when_9 (by decide) ?_
    refine wp_iret dX10_when_10 rfl ?_
    exact sm_qi (mq.rf hS.2.2.2.2) (o_none2 (by omega) (by omega) (z_b_eq.mp c6)).symm
theorem w70_liftN {T : tx} {w : Nat → Int32} (h : w70 w) {dd c : Nat} (hd : dd < 6) (hc : c < 5) : ∀ n, w70 (r_liftN T dd c w n)
  | 0 => h
  | n + 1 => w70_lift (w70_liftN h hd hc n) hd hc
theorem w70_polN {T : tx} {w : Nat → Int32} (h : w70 w) {dd : Nat} (hd : dd < 6) : ∀ n, w70 (r_polN T dd w n)
  | 0 => h
  | n + 1 => w70_polish (w70_polN h hd n) hd
theorem q_alone (hm : md ρ) (lv : Nat) (T : tx) (w : Nat → Int32) (hS : mS I lv T w) (x y : Int32) : sm_M G xX10_alone (d + 4) [.ref mM, .int x, .int y] I ρ (mPost I ρ (o_alone T w x y)) := by
  show sm_V G xX10_alone (d + 4) 0 [.ref mM, .int x, .int y, .retAddr 0] [] I ρ _
  have h1 := hS.2.1.1
  refine wp_aload0 1 rfl dX10_alone_0 ?_
  refine wp_iload1 2 rfl dX10_alone_1 ?_
  refine wp_iload2 3 rfl dX10_alone_2 ?_
  refine wp_Ve2 6 rfl dX10_alone_3 kX10_areBoth lX10_399 (md_M hm) (nl rfl) (nl rfl) (s_areBoth hm lv T hS.1 hS.2.1 x y) ?_
  unfold o_alone
  refine wp_if_ne 9 11 rfl rfl dX10_alone_6 (fun c6 => ?_) (fun c6 => ?_)
  · obtain ⟨⟨dd, hd, rfl⟩, c, hc, rfl⟩ := z_b_ne.mp c6
    rw [z_ix_n hd (by omega), z_ix_n hc (by omega)]
    have hq := cp_q hS
    have hr := cp_row hS
    have hT0 : mT (M_cp I lv) lv T := hS.1.kept hq.1 (by decide) (by decide)
    refine wp_aload0 12 rfl dX10_alone_11 ?_
    refine wp_Ve0 15 rfl dX10_alone_12 kX10_copies lX10_323 (md_M hm) (nl rfl) (nl rfl) (s_copies hm lv hS.1.1.1 hS.1.1.2) ?_
    refine wp_iconst (nI 0) 16 rfl dX10_alone_15 (by decide) ?_
    refine wp_istore3 17 rfl dX10_alone_16 (by decide) rfl ?_
    generalize M_cp I lv = J at hq hr hT0 ⊢
    show sm_V G xX10_alone (d + 4) 17 _ [] J ρ (mPost I ρ (z_first (fun n => r_known T (r_liftN T dd c w n) dd = nI c) 61 0))
    refine sm_for (P := fun n => ∀ J1 : sm_I, mf mScR [50] J J1 → J1 m_row = r_liftN T dd c w n → z_first (fun n => r_known T (r_liftN T dd c w n) dd = nI c) (61 - n) n = z_first (fun n => r_known T (r_liftN T dd c w n) dd = nI c) 61 0 → sm_V G xX10_alone (d + 4) 17 [.ref mM, .int (nI dd), .int (nI c), .int (nI n)] [] J1 ρ _) 0 61 (nl rfl) ?_ (fun n _ hn ih => ?_) J mf.rf hr rfl
    · intro J1 hf1 hw1 hz
      refine wp_iload3 18 rfl dX10_alone_17 ?_
      refine wp_bipush (nI 60) 20 rfl dX10_alone_18 (by decide) ?_
      refine wp_icmp_gt 23 46 rfl rfl dX10_alone_20 (fun c20 => ?_) (fun c20 => absurd (by decide) c20)
      refine wp_bipush (-2) 48 rfl dX10_alone_46 (by decide) ?_
      refine wp_iret dX10_alone_48 rfl ?_
      exact sm_qi (sc_q hq hf1 hw1 (w70_liftN hS.2.2.2.1 (by omega) (by omega) _)) hz
    · intro J1 hf1 hw1 hz
      have hT1 := hT0.kept hf1 (by decide) (by decide)
      rw [show 61 - n = (61 - (n + 1)) + 1 by omega] at hz
      have hz : (if r_known T (r_liftN T dd c w n) dd = nI c then nI n else z_first (fun n => r_known T (r_liftN T dd c w n) dd = nI c) (61 - (n + 1)) (n + 1)) = _ := hz
      refine wp_iload3 18 rfl dX10_alone_17 ?_
      refine wp_bipush (nI 60) 20 rfl dX10_alone_18 (by decide) ?_
      refine wp_icmp_gt 23 46 rfl rfl dX10_alone_20 (fun c20 => absurd c20 (i_lt_le (nI_le (by omega) (by decide)))) (fun c20 => ?_)
      refine wp_aload0 24 rfl dX10_alone_23 ?_
      refine wp_iload1 25 rfl dX10_alone_24 ?_
      refine wp_Ve1 28 rfl dX10_alone_25 kX10_knownBy lX10_390 (md_M hm) (nl rfl) (nl rfl) (s_knownBy hm lv dd (tx_C T) hT1.1.1 hT1.1.2 (by omega) hT1.2.1.2.1 h1.2.1) ?_
      refine wp_iload2 29 rfl dX10_alone_28 ?_
      rw [k_by_r hT1, hw1]
      refine wp_icmp_ne 32 34 rfl rfl dX10_alone_29 (fun c29 => ?_) (fun c29 => ?_)
      · rw [if_neg c29] at hz
        refine wp_aload0 35 rfl dX10_alone_34 ?_
        refine wp_iload1 36 rfl dX10_alone_35 ?_
        refine wp_iload2 37 rfl dX10_alone_36 ?_
        refine wp_Vv2 40 rfl dX10_alone_37 kX10_lifted lX10_374 (md_M hm) (nl rfl) (nl rfl) (s_lifted hm lv T hT1 hS.2.1 dd c hd hc) (fun J2 ρ2 hq2 => ?_)
        obtain ⟨rfl, hf2, hw2⟩ := hq2
        refine wp_iincN3 43 rfl dX10_alone_40 (by decide) rfl ?_
        refine wp_goto 17 rfl dX10_alone_43 ?_
        refine ih J2 (hf1.tr hf2) ?_ hz
        rw [hw2, hw1]
        rfl
      · rw [if_pos c29] at hz
        refine wp_iload3 33 rfl dX10_alone_32 ?_
        refine wp_iret dX10_alone_33 rfl ?_
        exact sm_qi (sc_q hq hf1 hw1 (w70_liftN hS.2.2.2.1 (by omega) (by omega) _)) hz
  · refine wp_iconst (-1) 10 rfl dX10_alone_9 (by decide) ?_
    refine wp_iret dX10_alone_10 rfl ?_
    exact sm_qi (mq.rf hS.2.2.2.2) (o_none2 (by omega) (by omega) (z_b_eq.mp c6)).symm
theorem q_changes (hm : md ρ) (lv : Nat) (T : tx) (w : Nat → Int32) (hS : mS I lv T w) (x : Int32) : sm_M G xX10_changes (d + 5) [.ref mM, .int x] I ρ (mPost I ρ (o_changes T w x)) := by
  show sm_V G xX10_changes (d + 5) 0 [.ref mM, .int x, .retAddr 0, .retAddr 0] [] I ρ _
  have h1 := hS.2.1.1
  refine wp_aload0 1 rfl dX10_changes_0 ?_
  refine wp_iload1 2 rfl dX10_changes_1 ?_
  refine wp_Ve1 5 rfl dX10_changes_2 kX10_isDoor lX10_387 (md_M hm) (nl rfl) (nl rfl) (s_isDoor hm lv x hS.1.1.1 hS.1.1.2) ?_
  rw [hS.1.2.1.1]
  unfold o_changes
  refine wp_if_ne 8 10 rfl rfl dX10_changes_5 (fun c5 => ?_) (fun c5 => ?_)
  · obtain ⟨dd, hd, rfl⟩ := (z_in_iff (by omega)).mp (z_b_ne.mp c5)
    rw [z_ix_n hd (by omega)]
    have hq := cs_q hS
    have hr := cs_row hS
    have h53 := cs_53 hS
    have h54 := cs_54 (I := I) (lv := lv)
    have hT0 : mT (M_cs I lv) lv T := hS.1.kept hq.1 (by decide) (by decide)
    refine wp_aload0 11 rfl dX10_changes_10 ?_
    refine wp_Ve0 14 rfl dX10_changes_11 kX10_copiesStill lX10_430 (md_M hm) (nl rfl) (nl rfl) (s_cs hm lv hS.1.1.1 hS.1.1.2) ?_
    generalize M_cs I lv = J at hq hr hT0 h53 h54 ⊢
    refine wp_aload0 15 rfl dX10_changes_14 ?_
    refine wp_iload1 16 rfl dX10_changes_15 ?_
    refine wp_Ve1 19 rfl dX10_changes_16 kX10_knownBy lX10_390 (md_M hm) (nl rfl) (nl rfl) (s_knownBy hm lv dd (tx_C T) hT0.1.1 hT0.1.2 (by omega) hT0.2.1.2.1 h1.2.1) ?_
    rw [k_by_r hT0, hr]
    refine wp_istore2 20 rfl dX10_changes_19 (by decide) rfl ?_
    refine wp_iconst (nI 1) 21 rfl dX10_changes_20 (by decide) ?_
    refine wp_istore3 22 rfl dX10_changes_21 (by decide) rfl ?_
    show sm_V G xX10_changes (d + 5) 22 _ [] J ρ (mPost I ρ (z_first (fun n => ¬ r_known T (r_still T w n) dd = r_known T w dd) 60 1))
    refine sm_for (P := fun n => ∀ J1 : sm_I, mf mScR [50] J J1 → J1 m_row = r_still T w (n - 1) → z_first (fun n => ¬ r_known T (r_still T w n) dd = r_known T w dd) (61 - n) n = z_first (fun n => ¬ r_known T (r_still T w n) dd = r_known T w dd) 60 1 → sm_V G xX10_changes (d + 5) 22 [.ref mM, .int (nI dd), .int (r_known T w dd), .int (nI n)] [] J1 ρ _) 1 61 (nl rfl) ?_ (fun n hn1 hn ih => ?_) J mf.rf hr rfl
    · intro J1 hf1 hw1 hz
      refine wp_iload3 23 rfl dX10_changes_22 ?_
      refine wp_bipush (nI 60) 25 rfl dX10_changes_23 (by decide) ?_
      refine wp_icmp_gt 28 49 rfl rfl dX10_changes_25 (fun c25 => ?_) (fun c25 => absurd (by decide) c25)
      refine wp_bipush (-2) 51 rfl dX10_changes_49 (by decide) ?_
      refine wp_iret dX10_changes_51 rfl ?_
      exact sm_qi (sc_q hq hf1 hw1 (w70_days hS.2.1 hS.2.2.2.1 _)) hz
    · intro J1 hf1 hw1 hz
      have hT1 := hT0.kept hf1 (by decide) (by decide)
      rw [show 61 - n = (61 - (n + 1)) + 1 by omega] at hz
      have hz : (if ¬ r_known T (r_still T w n) dd = r_known T w dd then nI n else z_first (fun n => ¬ r_known T (r_still T w n) dd = r_known T w dd) (61 - (n + 1)) (n + 1)) = _ := hz
      refine wp_iload3 23 rfl dX10_changes_22 ?_
      refine wp_bipush (nI 60) 25 rfl dX10_changes_23 (by decide) ?_
      refine wp_icmp_gt 28 49 rfl rfl dX10_changes_25 (fun c25 => absurd c25 (i_lt_le (nI_le (by omega) (by decide)))) (fun c25 => ?_)
      refine wp_aload0 29 rfl dX10_changes_28 ?_
      refine wp_Vv0 32 rfl dX10_changes_29 kX10_dayGoes lX10_384 (md_M hm) (nl rfl) (nl rfl) (s_dayGoes hm lv T hT1 hS.2.1) (fun J2 ρ2 hq2 => ?_)
      obtain ⟨rfl, hf2, hw2⟩ := hq2
      have hT2 := hT1.kept hf2 (by decide) (by decide)
      have hw3 : J2 m_row = r_still T w n := by
        rw [hw2, hf1.2 54 (by decide), hf1.2 53 (by decide), hw1, h53, h54]
        obtain ⟨m, rfl⟩ : ∃ m, n = m + 1 := ⟨n - 1, by omega⟩
        rfl
      refine wp_aload0 33 rfl dX10_changes_32 ?_
      refine wp_iload1 34 rfl dX10_changes_33 ?_
      refine wp_Ve1 37 rfl dX10_changes_34 kX10_knownBy lX10_390 (md_M hm) (nl rfl) (nl rfl) (s_knownBy hm lv dd (tx_C T) hT2.1.1 hT2.1.2 (by omega) hT2.2.1.2.1 h1.2.1) ?_
      refine wp_iload2 38 rfl dX10_changes_37 ?_
      rw [k_by_r hT2, hw3]
      refine wp_icmp_eq 41 43 rfl rfl dX10_changes_38 (fun c38 => ?_) (fun c38 => ?_)
      · rw [if_neg (fun h => h c38)] at hz
        refine wp_iincN3 46 rfl dX10_changes_43 (by decide) rfl ?_
        refine wp_goto 22 rfl dX10_changes_46 ?_
        exact ih J2 (hf1.tr hf2) hw3 hz
      · rw [if_pos c38] at hz
        refine wp_iload3 42 rfl dX10_changes_41 ?_
        refine wp_iret dX10_changes_42 rfl ?_
        exact sm_qi (sc_q hq (hf1.tr hf2) hw3 (w70_days hS.2.1 hS.2.2.2.1 _)) hz
  · refine wp_iconst (-1) 9 rfl dX10_changes_8 (by decide) ?_
    refine wp_iret dX10_changes_9 rfl ?_
    exact sm_qi (mq.rf hS.2.2.2.2) (by rw [z_ix_o (z_b_eq.mp c5)])
theorem q_rubs (hm : md ρ) (lv : Nat) (T : tx) (w : Nat → Int32) (hS : mS I lv T w) (x : Int32) : sm_M G xX10_rubs (d + 3) [.ref mM, .int x] I ρ (mPost I ρ (o_rubs T w x)) := by
  show sm_V G xX10_rubs (d + 3) 0 [.ref mM, .int x, .retAddr 0, .retAddr 0] [] I ρ _
  have h1 := hS.2.1.1
  refine wp_aload0 1 rfl dX10_rubs_0 ?_
  refine wp_iload1 2 rfl dX10_rubs_1 ?_
  refine wp_Ve1 5 rfl dX10_rubs_2 kX10_isDoor lX10_387 (md_M hm) (nl rfl) (nl rfl) (s_isDoor hm lv x hS.1.1.1 hS.1.1.2) ?_
  rw [hS.1.2.1.1]
  unfold o_rubs
  refine wp_if_ne 8 10 rfl rfl dX10_rubs_5 (fun c5 => ?_) (fun c5 => ?_)
  · obtain ⟨dd, hd, rfl⟩ := (z_in_iff (by omega)).mp (z_b_ne.mp c5)
    rw [z_ix_n hd (by omega)]
    have hq := cp_q hS
    have hr := cp_row hS
    have hT0 : mT (M_cp I lv) lv T := hS.1.kept hq.1 (by decide) (by decide)
    refine wp_aload0 11 rfl dX10_rubs_10 ?_
    refine wp_Ve0 14 rfl dX10_rubs_11 kX10_copies lX10_323 (md_M hm) (nl rfl) (nl rfl) (s_copies hm lv hS.1.1.1 hS.1.1.2) ?_
    generalize M_cp I lv = J at hq hr hT0 ⊢
    refine wp_aload0 15 rfl dX10_rubs_14 ?_
    refine wp_iload1 16 rfl dX10_rubs_15 ?_
    refine wp_Ve1 19 rfl dX10_rubs_16 kX10_knownBy lX10_390 (md_M hm) (nl rfl) (nl rfl) (s_knownBy hm lv dd (tx_C T) hT0.1.1 hT0.1.2 (by omega) hT0.2.1.2.1 h1.2.1) ?_
    rw [k_by_r hT0, hr]
    show sm_V G xX10_rubs (d + 3) 19 _ _ J ρ (mPost I ρ (if r_known T w dd < 0 then -2 else z_first (fun n => ¬ r_known T (r_polN T dd w n) dd = r_known T w dd) 10 1))
    refine wp_istore2 20 rfl dX10_rubs_19 (by decide) rfl ?_
    refine wp_iload2 21 rfl dX10_rubs_20 ?_
    refine wp_if_ge 24 27 rfl rfl dX10_rubs_21 (fun c21 => ?_) (fun c21 => ?_)
    · rw [if_neg (i_lt_le c21)]
      refine wp_iconst (nI 1) 28 rfl dX10_rubs_27 (by decide) ?_
      refine wp_istore3 29 rfl dX10_rubs_28 (by decide) rfl ?_
      refine sm_for (P := fun n => ∀ J1 : sm_I, mf mScR [50] J J1 → J1 m_row = r_polN T dd w (n - 1) → z_first (fun n => ¬ r_known T (r_polN T dd w n) dd = r_known T w dd) (11 - n) n = z_first (fun n => ¬ r_known T (r_polN T dd w n) dd = r_known T w dd) 10 1 → sm_V G xX10_rubs (d + 3) 29 [.ref mM, .int (nI dd), .int (r_known T w dd), .int (nI n)] [] J1 ρ _) 1 11 (nl rfl) ?_ (fun n hn1 hn ih => ?_) J mf.rf hr rfl
      · intro J1 hf1 hw1 hz
        refine wp_iload3 30 rfl dX10_rubs_29 ?_
        refine wp_bipush (nI 10) 32 rfl dX10_rubs_30 (by decide) ?_
        refine wp_icmp_gt 35 57 rfl rfl dX10_rubs_32 (fun c32 => ?_) (fun c32 => absurd (by decide) c32)
        refine wp_bipush (-2) 59 rfl dX10_rubs_57 (by decide) ?_
        refine wp_iret dX10_rubs_59 rfl ?_
        exact sm_qi (sc_q hq hf1 hw1 (w70_polN hS.2.2.2.1 (by omega) _)) hz
      · intro J1 hf1 hw1 hz
        have hT1 := hT0.kept hf1 (by decide) (by decide)
        rw [show 11 - n = (11 - (n + 1)) + 1 by omega] at hz
        have hz : (if ¬ r_known T (r_polN T dd w n) dd = r_known T w dd then nI n else z_first (fun n => ¬ r_known T (r_polN T dd w n) dd = r_known T w dd) (11 - (n + 1)) (n + 1)) = _ := hz
        have hw3 : sm_a J1 m_row (r_polish T (J1 m_row) dd) m_row = r_polN T dd w n := by
          rw [sm_a_eq, hw1]
          obtain ⟨m, rfl⟩ : ∃ m, n = m + 1 := ⟨n - 1, by omega⟩
          rfl
        have hf2 : mf mScR [50] J (sm_a J1 m_row (r_polish T (J1 m_row) dd)) := hf1.tr (mf.a (by decide) (by decide))
        refine wp_iload3 30 rfl dX10_rubs_29 ?_
        refine wp_bipush (nI 10) 32 rfl dX10_rubs_30 (by decide) ?_
        refine wp_icmp_gt 35 57 rfl rfl dX10_rubs_32 (fun c32 => absurd c32 (i_lt_le (nI_le (by omega) (by decide)))) (fun c32 => ?_)
        refine wp_aload0 36 rfl dX10_rubs_35 ?_
        refine wp_iload1 37 rfl dX10_rubs_36 ?_
        refine wp_Ve1 40 rfl dX10_rubs_37 kX10_polished lX10_405 (md_M hm) (nl rfl) (nl rfl) (s_polished hm lv T hT1 hS.2.1 dd hd) ?_
        generalize sm_a J1 m_row (r_polish T (J1 m_row) dd) = J2 at hw3 hf2 ⊢
        have hT2 := hT0.kept hf2 (by decide) (by decide)
        refine wp_aload0 41 rfl dX10_rubs_40 ?_
        refine wp_iload1 42 rfl dX10_rubs_41 ?_
        refine wp_Ve1 45 rfl dX10_rubs_42 kX10_knownBy lX10_390 (md_M hm) (nl rfl) (nl rfl) (s_knownBy hm lv dd (tx_C T) hT2.1.1 hT2.1.2 (by omega) hT2.2.1.2.1 h1.2.1) ?_
        refine wp_iload2 46 rfl dX10_rubs_45 ?_
        rw [k_by_r hT2, hw3]
        refine wp_icmp_eq 49 51 rfl rfl dX10_rubs_46 (fun c46 => ?_) (fun c46 => ?_)
        · rw [if_neg (fun h => h c46)] at hz
          refine wp_iincN3 54 rfl dX10_rubs_51 (by decide) rfl ?_
          refine wp_goto 29 rfl dX10_rubs_54 ?_
          exact ih J2 hf2 hw3 hz
        · rw [if_pos c46] at hz
          refine wp_iload3 50 rfl dX10_rubs_49 ?_
          refine wp_iret dX10_rubs_50 rfl ?_
          exact sm_qi (sc_q hq hf2 hw3 (w70_polN hS.2.2.2.1 (by omega) _)) hz
    · rw [if_pos (i_nle c21)]
      refine wp_bipush (-2) 26 rfl dX10_rubs_24 (by decide) ?_
      refine wp_iret dX10_rubs_26 rfl ?_
      exact sm_qi hq rfl
  · refine wp_iconst (-1) 9 rfl dX10_rubs_8 (by decide) ?_
    refine wp_iret dX10_rubs_9 rfl ?_
    exact sm_qi (mq.rf hS.2.2.2.2) (by rw [z_ix_o (z_b_eq.mp c5)])
end M11
