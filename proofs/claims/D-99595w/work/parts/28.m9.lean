/-! ===== what is asked of the model: shared answers o_.., by text and row ===== -/
set_option maxRecDepth 100000
/-- a row has 70 places -/
def w70 (f : Nat → Int32) : Prop := ∀ j, 70 ≤ j → f j = nI 0
theorem w70_cpy {f g : Nat → Int32} (hf : w70 f) (hg : w70 g) : z_cpy f g 70 = f := by
  funext j
  unfold z_cpy
  by_cases h : j < 70
  · rw [if_pos h]
  · rw [if_neg h, hf j (by omega), hg j (by omega)]
theorem w70_upd {f : Nat → Int32} (h : w70 f) {k : Nat} (hk : k < 70) (v : Int32) : w70 (upd f k v) := fun j hj => by rw [pk_un (by omega)]; exact h j hj
theorem w70_fcs {f w : Nat → Int32} (h : w70 w) {d n : Nat} (hd : 4 * d + n ≤ 70) : w70 (r_fcs f w d n) := fun j hj => by rw [r_fcs_out _ _ (by omega)]; exact h j hj
theorem w70_lift {T : tx} {w : Nat → Int32} (h : w70 w) {d c : Nat} (hd : d < 6) (hc : c < 5) : w70 (r_lift T w d c) := w70_upd (w70_upd (w70_upd (w70_upd (w70_fcs h (by omega)) (by omega) _) (by omega) _) (by omega) _) (by omega) _
theorem w70_polish {T : tx} {w : Nat → Int32} (h : w70 w) {d : Nat} (hd : d < 6) : w70 (r_polish T w d) := w70_upd (w70_fcs h (by omega)) (by omega) _
theorem w70_rnd {T : tx} (ht : tok T) {w : Nat → Int32} (h : w70 w) : ∀ r, r ≤ tx_R T → w70 (r_rnd T w r)
  | 0, _ => h
  | r + 1, hr => by
    have ih := w70_rnd ht h r (by omega)
    obtain ⟨k1, k2, -⟩ := ht.2.2.2.1 r (by omega)
    have h1 := ht.1
    unfold r_rnd
    split
    · split
      · exact w70_lift ih (by omega) (by omega)
      · exact ih
    · exact ih
theorem w70_blow {l : Int32} {w : Nat → Int32} (h : w70 w) : ∀ d, d ≤ 6 → w70 (r_blow l w d)
  | 0, _ => h
  | d + 1, hd => by
    have ih := w70_blow (l := l) h d (by omega)
    unfold r_blow r_blow1
    obtain ⟨q, hq, e⟩ := z_lot_lt l (nI 16 * r_blow l w d 69 + nI 1 + nI d) (n := 4) (by decide) (by decide)
    rw [e, nI_clamp (by omega)]
    split
    · exact ih
    · exact w70_upd ih (by omega) _
theorem w70_wear {T : tx} {w : Nat → Int32} (h : w70 w) : ∀ d, d ≤ 6 → w70 (r_wear T w d)
  | 0, _ => h
  | d + 1, hd => w70_fcs (w70_wear h d (by omega)) (by omega)
theorem w70_idle {w : Nat → Int32} (h : w70 w) : ∀ d, d ≤ 6 → w70 (r_idle w d)
  | 0, _ => h
  | d + 1, hd => w70_upd (w70_upd (w70_idle h d (by omega)) (by omega) _) (by omega) _
theorem w70_day {T : tx} (ht : tok T) {s l : Int32} {w : Nat → Int32} (h : w70 w) : w70 (r_day T s l w) := by
  have h1 := ht.1
  unfold r_day
  simp only []
  refine w70_upd (w70_idle (w70_wear ?_ _ h1.1) _ h1.1) (by omega) _
  split
  · exact w70_blow (w70_rnd ht h _ (Nat.le_refl _)) _ h1.1
  · exact w70_rnd ht h _ (Nat.le_refl _)
theorem w70_days {T : tx} (ht : tok T) {s l : Int32} {w : Nat → Int32} (h : w70 w) : ∀ n, w70 (r_days T s l w n)
  | 0 => h
  | n + 1 => w70_day ht (w70_days ht h n)
/-- the place of x among n -/
def z_ix (x : Int32) (n : Nat) : Option Nat := if nI 0 ≤ x ∧ x ≤ nI n - nI 1 then some x.toNatClampNeg else none
theorem z_in_iff {x : Int32} {n : Nat} (hn : n < 1000) : (nI 0 ≤ x ∧ x ≤ nI n - nI 1) ↔ ∃ j, j < n ∧ x = nI j := by
  constructor
  · rintro ⟨h1, h2⟩
    rcases Nat.eq_zero_or_pos n with rfl | hp
    · exfalso
      have h3 : x ≤ -1 := by
        have : nI 0 - nI 1 = (-1 : Int32) := by decide
        rw [this] at h2; exact h2
      rw [Int32.le_iff_toInt_le] at h1 h3
      have a1 : (nI 0).toInt = 0 := by decide
      have a2 : (-1 : Int32).toInt = -1 := by decide
      omega
    · rw [pk_sub (by omega)] at h2
      rw [Int32.le_iff_toInt_le] at h1 h2
      rw [nI_toInt (by omega)] at h1 h2
      have h0 : ¬ x < 0 := by
        rw [Int32.lt_iff_toInt_lt]
        have : (0 : Int32).toInt = 0 := by decide
        omega
      obtain ⟨j, hj, rfl⟩ := nI_of h0
      rw [nI_toInt (by omega)] at h2
      exact ⟨j, by omega, rfl⟩
  · rintro ⟨j, hj, rfl⟩
    exact ⟨nI_le (Nat.zero_le _) (by omega), by rw [pk_sub (by omega)]; exact nI_le (by omega) (by omega)⟩
theorem z_ix_n {j n : Nat} (h : j < n) (hn : n < 1000) : z_ix (nI j) n = some j := by
  unfold z_ix
  rw [if_pos ((z_in_iff hn).mpr ⟨j, h, rfl⟩), nI_clamp (by omega)]
theorem z_ix_o {x : Int32} {n : Nat} (h : ¬ (nI 0 ≤ x ∧ x ≤ nI n - nI 1)) : z_ix x n = none := if_neg h
/-- the model's standing: a text, the row that stands -/
def mS (I : sm_I) (lv : Nat) (T : tx) (w : Nat → Int32) : Prop := mT I lv T ∧ tok T ∧ I m_now = w ∧ w70 w ∧ w70 (I m_row)
abbrev mQA : List Nat := [m_variables, m_pile, m_goesBy, m_row, m_leastFrom, m_busyOf]
/-- what asking may change -/
def mq (I I1 : sm_I) : Prop := mf mQA [50, 53, 54] I I1 ∧ w70 (I1 m_row)
theorem mq.rf {I : sm_I} (h : w70 (I m_row)) : mq I I := ⟨mf.rf, h⟩
theorem mS.q {I I1 : sm_I} {lv : Nat} {T : tx} {w : Nat → Int32} (h : mS I lv T w) (hq : mq I I1) : mS I1 lv T w := ⟨h.1.kept hq.1 (by decide) (by decide), h.2.1, (hq.1.1 _ (by decide) (by decide)).trans h.2.2.1, h.2.2.2.1, hq.2⟩
theorem cp_row {I : sm_I} {lv : Nat} {T : tx} {w : Nat → Int32} (h : mS I lv T w) : M_cp I lv m_row = w := by
  show sm_a I m_row (z_cpy (I m_now) (I m_row) 70) m_row = w
  rw [sm_a_eq, h.2.2.1, w70_cpy h.2.2.2.1 h.2.2.2.2]
theorem cp_mf {I : sm_I} {lv : Nat} : mf [m_row] [53, 54] I (M_cp I lv) := ((mf.a (by decide) (by decide)).tr (mf.uM (by decide))).tr (mf.uM (by decide))
theorem cp_53 {I : sm_I} {lv : Nat} {T : tx} {w : Nat → Int32} (h : mS I lv T w) : M_cp I lv mM 53 = tx_seed T := h.1.2.2.2.2.2.1.2.2
theorem cp_54 {I : sm_I} {lv : Nat} : M_cp I lv mM 54 = nI 0 := rfl
theorem cp_q {I : sm_I} {lv : Nat} {T : tx} {w : Nat → Int32} (h : mS I lv T w) : mq I (M_cp I lv) := ⟨cp_mf.wk (by decide) (by decide), by rw [cp_row h]; exact h.2.2.2.1⟩
theorem mq.tr {I I1 I2 : sm_I} (h : mq I I1) (hf : mf mQA [50, 53, 54] I1 I2) (hw : w70 (I2 m_row)) : mq I I2 := ⟨h.1.tr hf, hw⟩
abbrev mPost (I : sm_I) (ρ : sm_R) (v : Int32) : sm_O → sm_I → sm_R → Prop := sm_Qi (fun r I1 ρ1 => ρ1 = ρ ∧ mq I I1 ∧ r = v)
def r_known (T : tx) (w : Nat → Int32) (d : Nat) : Int32 := (z_kn (fun c => r_unl T w d c) (tx_near T) (tx_C T)).1
theorem z_kn_congr {u u' : Nat → Int32} {nr : Int32} : ∀ {n : Nat}, (∀ c, c < n → u c = u' c) → z_kn u nr n = z_kn u' nr n
  | 0, _ => rfl
  | n + 1, h => by
    unfold z_kn z_knS
    rw [z_kn_congr (fun c hc => h c (by omega)), h n (by omega)]
theorem k_by_r {I : sm_I} {lv : Nat} {T : tx} (h : mT I lv T) (dd : Nat) : k_by I lv (tx_C T) dd = r_known T (I m_row) dd := by
  unfold r_known k_by
  rw [h.2.2.2.2.2.1.2.1, z_kn_congr (fun c hc => u_to_r h hc)]
def o_door (T : tx) (w : Nat → Int32) (x what : Int32) : Int32 := match z_ix x (tx_D T) with
  | none => -1
  | some d => match z_ix what 10 with
    | none => -1
    | some k => if k < 4 then w (4 * d + k) else if k = 4 then w (24 + d) else if k = 5 then w (30 + d) else if k = 6 then w (36 + d) else if k = 7 then w (42 + d) else if k = 8 then r_known T w d else r_unf T w d
section M9
variable {G : sm_G} {d : Nat} {I : sm_I} {ρ : sm_R}
/-- an answer behind a copy -/
theorem sm_qi {I J : sm_I} {ρ : sm_R} {v r : Int32} (h : mq I J) (e : v = r) : mPost I ρ r (.inl (some (.int v))) J ρ := ⟨v, rfl, rfl, h, e⟩
theorem q_door (hm : md ρ) (lv : Nat) (T : tx) (w : Nat → Int32) (hS : mS I lv T w) (x what : Int32) : sm_M G xX10_door (d + 3) [.ref mM, .int x, .int what] I ρ (mPost I ρ (o_door T w x what)) := by
  show sm_V G xX10_door (d + 3) 0 [.ref mM, .int x, .int what] [] I ρ _
  have hD6 := hS.2.1.1.1
  refine wp_aload0 1 rfl dX10_door_0 ?_
  refine wp_iload1 2 rfl dX10_door_1 ?_
  refine wp_Ve1 5 rfl dX10_door_2 kX10_isDoor lX10_387 (md_M hm) (nl rfl) (nl rfl) (s_isDoor hm lv x hS.1.1.1 hS.1.1.2) ?_
  rw [hS.1.2.1.1]
  refine wp_if_ne 8 10 rfl rfl dX10_door_5 (fun c5 => ?_) (fun c5 => ?_)
  · obtain ⟨dd, hd, rfl⟩ := (z_in_iff (by omega)).mp (z_b_ne.mp c5)
    refine wp_aload0 11 rfl dX10_door_10 ?_
    refine wp_Ve0 14 rfl dX10_door_11 kX10_copies lX10_323 (md_M hm) (nl rfl) (nl rfl) (s_copies hm lv hS.1.1.1 hS.1.1.2) ?_
    refine wp_iload2 15 rfl dX10_door_14 ?_
    have hq := cp_q hS
    have hr := cp_row hS
    have hT1 : mT (M_cp I lv) lv T := hS.1.kept hq.1 (by decide) (by decide)
    generalize M_cp I lv = J at hq hr hT1 ⊢
    unfold o_door
    rw [z_ix_n hd (by omega)]
    by_cases hk : nI 0 ≤ what ∧ what ≤ nI 10 - nI 1
    · obtain ⟨k, hk9, rfl⟩ := (z_in_iff (by omega)).mp hk
      rw [z_ix_n hk9 (by omega)]
      match k, hk9 with
      | 0, _ =>
        refine wp_tableIn (off := 53) 68 dX10_door_15 (by decide) (by decide) (by decide) rfl ?_
        refine wp_aload0 69 rfl dX10_door_68 ?_
        refine wp_getr 72 rfl dX10_door_69 fX10_122_10 (md_M hm) (mp_row hm) ?_
        refine wp_iconst (nI 4) 73 rfl dX10_door_72 (by decide) ?_
        refine wp_iload1 74 rfl dX10_door_73 ?_
        refine wp_imul 75 rfl dX10_door_74 ?_
        refine wp_iload2 76 rfl dX10_door_75 ?_
        refine wp_iadd 77 rfl dX10_door_76 ?_
        refine wp_iald 78 rfl dX10_door_77 (ms_row hm) (4 * dd + 0) (by first | rfl | simp only [pk_mul, nI_add]) (⟨by omega, by decide⟩) ?_
        refine wp_iret dX10_door_78 rfl ?_
        exact sm_qi hq (by rw [hr]; rfl)
      | 1, _ =>
        refine wp_tableIn (off := 53) 68 dX10_door_15 (by decide) (by decide) (by decide) rfl ?_
        refine wp_aload0 69 rfl dX10_door_68 ?_
        refine wp_getr 72 rfl dX10_door_69 fX10_122_10 (md_M hm) (mp_row hm) ?_
        refine wp_iconst (nI 4) 73 rfl dX10_door_72 (by decide) ?_
        refine wp_iload1 74 rfl dX10_door_73 ?_
        refine wp_imul 75 rfl dX10_door_74 ?_
        refine wp_iload2 76 rfl dX10_door_75 ?_
        refine wp_iadd 77 rfl dX10_door_76 ?_
        refine wp_iald 78 rfl dX10_door_77 (ms_row hm) (4 * dd + 1) (by first | rfl | simp only [pk_mul, nI_add]) (⟨by omega, by decide⟩) ?_
        refine wp_iret dX10_door_78 rfl ?_
        exact sm_qi hq (by rw [hr]; rfl)
      | 2, _ =>
        refine wp_tableIn (off := 53) 68 dX10_door_15 (by decide) (by decide) (by decide) rfl ?_
        refine wp_aload0 69 rfl dX10_door_68 ?_
        refine wp_getr 72 rfl dX10_door_69 fX10_122_10 (md_M hm) (mp_row hm) ?_
        refine wp_iconst (nI 4) 73 rfl dX10_door_72 (by decide) ?_
        refine wp_iload1 74 rfl dX10_door_73 ?_
        refine wp_imul 75 rfl dX10_door_74 ?_
        refine wp_iload2 76 rfl dX10_door_75 ?_
        refine wp_iadd 77 rfl dX10_door_76 ?_
        refine wp_iald 78 rfl dX10_door_77 (ms_row hm) (4 * dd + 2) (by first | rfl | simp only [pk_mul, nI_add]) (⟨by omega, by decide⟩) ?_
        refine wp_iret dX10_door_78 rfl ?_
        exact sm_qi hq (by rw [hr]; rfl)
      | 3, _ =>
        refine wp_tableIn (off := 53) 68 dX10_door_15 (by decide) (by decide) (by decide) rfl ?_
        refine wp_aload0 69 rfl dX10_door_68 ?_
        refine wp_getr 72 rfl dX10_door_69 fX10_122_10 (md_M hm) (mp_row hm) ?_
        refine wp_iconst (nI 4) 73 rfl dX10_door_72 (by decide) ?_
        refine wp_iload1 74 rfl dX10_door_73 ?_
        refine wp_imul 75 rfl dX10_door_74 ?_
        refine wp_iload2 76 rfl dX10_door_75 ?_
        refine wp_iadd 77 rfl dX10_door_76 ?_
        refine wp_iald 78 rfl dX10_door_77 (ms_row hm) (4 * dd + 3) (by first | rfl | simp only [pk_mul, nI_add]) (⟨by omega, by decide⟩) ?_
        refine wp_iret dX10_door_78 rfl ?_
        exact sm_qi hq (by rw [hr]; rfl)
      | 4, _ =>
        refine wp_tableIn (off := 64) 79 dX10_door_15 (by decide) (by decide) (by decide) rfl ?_
        refine wp_aload0 80 rfl dX10_door_79 ?_
        refine wp_getr 83 rfl dX10_door_80 fX10_122_10 (md_M hm) (mp_row hm) ?_
        refine wp_bipush (nI 24) 85 rfl dX10_door_83 (by decide) ?_
        refine wp_iload1 86 rfl dX10_door_85 ?_
        refine wp_iadd 87 rfl dX10_door_86 ?_
        refine wp_iald 88 rfl dX10_door_87 (ms_row hm) (24 + dd) (by first | rfl | simp only [pk_mul, nI_add]) (⟨by omega, by decide⟩) ?_
        refine wp_iret dX10_door_88 rfl ?_
        exact sm_qi hq (by rw [hr]; rfl)
      | 5, _ =>
        refine wp_tableIn (off := 74) 89 dX10_door_15 (by decide) (by decide) (by decide) rfl ?_
        refine wp_aload0 90 rfl dX10_door_89 ?_
        refine wp_getr 93 rfl dX10_door_90 fX10_122_10 (md_M hm) (mp_row hm) ?_
        refine wp_bipush (nI 30) 95 rfl dX10_door_93 (by decide) ?_
        refine wp_iload1 96 rfl dX10_door_95 ?_
        refine wp_iadd 97 rfl dX10_door_96 ?_
        refine wp_iald 98 rfl dX10_door_97 (ms_row hm) (30 + dd) (by first | rfl | simp only [pk_mul, nI_add]) (⟨by omega, by decide⟩) ?_
        refine wp_iret dX10_door_98 rfl ?_
        exact sm_qi hq (by rw [hr]; rfl)
      | 6, _ =>
        refine wp_tableIn (off := 84) 99 dX10_door_15 (by decide) (by decide) (by decide) rfl ?_
        refine wp_aload0 100 rfl dX10_door_99 ?_
        refine wp_getr 103 rfl dX10_door_100 fX10_122_10 (md_M hm) (mp_row hm) ?_
        refine wp_bipush (nI 36) 105 rfl dX10_door_103 (by decide) ?_
        refine wp_iload1 106 rfl dX10_door_105 ?_
        refine wp_iadd 107 rfl dX10_door_106 ?_
        refine wp_iald 108 rfl dX10_door_107 (ms_row hm) (36 + dd) (by first | rfl | simp only [pk_mul, nI_add]) (⟨by omega, by decide⟩) ?_
        refine wp_iret dX10_door_108 rfl ?_
        exact sm_qi hq (by rw [hr]; rfl)
      | 7, _ =>
        refine wp_tableIn (off := 94) 109 dX10_door_15 (by decide) (by decide) (by decide) rfl ?_
        refine wp_aload0 110 rfl dX10_door_109 ?_
        refine wp_getr 113 rfl dX10_door_110 fX10_122_10 (md_M hm) (mp_row hm) ?_
        refine wp_bipush (nI 42) 115 rfl dX10_door_113 (by decide) ?_
        refine wp_iload1 116 rfl dX10_door_115 ?_
        refine wp_iadd 117 rfl dX10_door_116 ?_
        refine wp_iald 118 rfl dX10_door_117 (ms_row hm) (42 + dd) (by first | rfl | simp only [pk_mul, nI_add]) (⟨by omega, by decide⟩) ?_
        refine wp_iret dX10_door_118 rfl ?_
        exact sm_qi hq (by rw [hr]; rfl)
      | 8, _ =>
        refine wp_tableIn (off := 104) 119 dX10_door_15 (by decide) (by decide) (by decide) rfl ?_
        refine wp_aload0 120 rfl dX10_door_119 ?_
        refine wp_iload1 121 rfl dX10_door_120 ?_
        refine wp_Ve1 124 rfl dX10_door_121 kX10_knownBy lX10_390 (md_M hm) (nl rfl) (nl rfl) (s_knownBy hm lv dd (tx_C T) hT1.1.1 hT1.1.2 (by omega) hT1.2.1.2.1 hS.2.1.1.2.1) ?_
        refine wp_iret dX10_door_124 rfl ?_
        exact sm_qi hq (by rw [k_by_r hT1, hr]; rfl)
      | 9, _ =>
        refine wp_tableIn (off := 110) 125 dX10_door_15 (by decide) (by decide) (by decide) rfl ?_
        refine wp_aload0 126 rfl dX10_door_125 ?_
        refine wp_iload1 127 rfl dX10_door_126 ?_
        refine wp_Ve1 130 rfl dX10_door_127 kX10_unlikeFirst lX10_357 (md_M hm) (nl rfl) (nl rfl) (s_unlikeFirst hm lv dd hT1.1.1 hT1.1.2 (by omega)) ?_
        refine wp_iret dX10_door_130 rfl ?_
        exact sm_qi hq (by rw [u_fi_r hT1 hd, hr]; rfl)
      | n + 10, h => omega
    · rw [z_ix_o hk]
      have hout : what.toInt < 0 ∨ 9 < what.toInt := by
        rw [pk_sub (by decide), Int32.le_iff_toInt_le, Int32.le_iff_toInt_le, nI_toInt (by decide), nI_toInt (by decide)] at hk
        omega
      refine wp_tableOut 131 dX10_door_15 (hout) rfl ?_
      refine wp_iconst (-1) 132 rfl dX10_door_131 (by decide) ?_
      refine wp_iret dX10_door_132 rfl ?_
      exact sm_qi hq rfl
  · refine wp_iconst (-1) 9 rfl dX10_door_8 (by decide) ?_
    refine wp_iret dX10_door_9 rfl ?_
    refine sm_qi (mq.rf hS.2.2.2.2) ?_
    unfold o_door
    rw [z_ix_o (z_b_eq.mp c5)]
end M9
