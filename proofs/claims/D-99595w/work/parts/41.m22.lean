/-! ===== who, ask ===== -/
set_option maxRecDepth 100000
def r_wayOf (T : tx) (w : Nat → Int32) (d p c : Nat) : Int32 := if r_gives T w d c p = 0 then nI 0 else if w (4 * d + p) ≤ tx_cf T (4 * c + p) then nI 1 else -1
def r_may (T : tx) (w : Nat → Int32) (L : List (Nat × Nat × Int32)) (c : Nat) : Nat → Bool
  | 0 => true
  | i + 1 => match L[i]? with
    | some (d, p, v) => r_may T w L c i && decide (r_wayOf T w d p c = v)
    | none => r_may T w L c i
def r_who (T : tx) (w : Nat → Int32) (L : List (Nat × Nat × Int32)) (k : Nat) : Int32 := z_set (fun c => r_may T w L c k = true) (tx_C T)
def z_bits (s : Int32) : Int32 := z_sum (fun k => (s >>> (nI k &&& 31)) &&& nI 1) 10
def o_who (T : tx) (w : Nat → Int32) (L : List (Nat × Nat × Int32)) (k what : Int32) : Int32 := match z_iv k 0 L.length with
  | none => -1
  | some k => match z_ix what 2 with
    | none => -1
    | some b => if b = 0 then z_bits (r_who T w L k) else r_who T w L k
def r_cnt (T : tx) (w : Nat → Int32) (s : Int32) (d p : Nat) (v : Int32) : Int32 := z_sum (fun c => if (s >>> (nI c &&& 31)) &&& nI 1 = nI 1 ∧ r_wayOf T w d p c = v then nI 1 else nI 0) (tx_C T)
def z_mx (a b : Int32) : Int32 := if b ≤ a then a else b
def r_worst (T : tx) (w : Nat → Int32) (s : Int32) (d p : Nat) : Int32 := z_mx (z_mx (z_mx (nI 0) (r_cnt T w s d p (-1))) (r_cnt T w s d p (nI 0))) (r_cnt T w s d p (nI 1))
def o_ask (T : tx) (w : Nat → Int32) (L : List (Nat × Nat × Int32)) (k : Int32) : Int32 := match z_iv k 0 L.length with
  | none => -1
  | some k => if r_who T w L k = 0 then -2 else match z_arg (fun i => r_worst T w (r_who T w L k) (i / 4) (i % 4)) (4 * tx_D T) with
    | none => -2
    | some b => nI (10 * (b / 4) + b % 4)
section M22
variable {G : sm_G} {d : Nat} {I : sm_I} {ρ : sm_R}
theorem s_bits (s : Int32) : sm_M G xX10_bits d [.int s] I ρ (sm_Qe (some (.int (z_bits s))) I ρ) := by
  show sm_V G xX10_bits d 0 [.int s, .retAddr 0, .retAddr 0] [] I ρ _
  refine wp_iconst (nI 0) 1 rfl dX10_bits_0 (by decide) ?_
  refine wp_istore1 2 rfl dX10_bits_1 (by decide) rfl ?_
  refine wp_iconst (nI 0) 3 rfl dX10_bits_2 (by decide) ?_
  refine wp_istore2 4 rfl dX10_bits_3 (by decide) rfl ?_
  refine sm_for (P := fun k => sm_V G xX10_bits d 4 [.int s, .int (z_sum (fun k => (s >>> (nI k &&& 31)) &&& nI 1) k), .int (nI k)] [] I ρ _) 0 10 (by decide) ?_ (fun k _ hk ih => ?_)
  · refine wp_iload2 5 rfl dX10_bits_4 ?_
    refine wp_bipush (nI 10) 7 rfl dX10_bits_5 (by decide) ?_
    refine wp_icmp_ge 10 24 rfl rfl dX10_bits_7 (fun c7 => ?_) (fun c7 => absurd (by decide) c7)
    refine wp_iload1 25 rfl dX10_bits_24 ?_
    refine wp_iret dX10_bits_25 rfl ?_
    exact sm_ei rfl
  · refine wp_iload2 5 rfl dX10_bits_4 ?_
    refine wp_bipush (nI 10) 7 rfl dX10_bits_5 (by decide) ?_
    refine wp_icmp_ge 10 24 rfl rfl dX10_bits_7 (fun c7 => absurd c7 (nI_ge hk (by decide))) (fun c7 => ?_)
    refine wp_iload1 11 rfl dX10_bits_10 ?_
    refine wp_iload0 12 rfl dX10_bits_11 ?_
    refine wp_iload2 13 rfl dX10_bits_12 ?_
    refine wp_ishr 14 rfl dX10_bits_13 ?_
    refine wp_iconst (nI 1) 15 rfl dX10_bits_14 (by decide) ?_
    refine wp_iand 16 rfl dX10_bits_15 ?_
    refine wp_iadd 17 rfl dX10_bits_16 ?_
    refine wp_istore1 18 rfl dX10_bits_17 (by decide) rfl ?_
    refine wp_iincN2 21 rfl dX10_bits_18 (by decide) rfl ?_
    refine wp_goto 4 rfl dX10_bits_21 ?_
    exact ih
theorem s_wayOf (hm : md ρ) (lv : Nat) (T : tx) (hT : mT I lv T) (ht : tok T) (dd p c : Nat) (hd : dd < tx_D T) (hp : p < 4) (hc : c < tx_C T) : sm_M G xX10_wayOf (d + 3) [.ref mM, .int (nI dd), .int (nI p), .int (nI c)] I ρ (sm_Qi (fun r I1 ρ1 => ρ1 = ρ ∧ mf [m_variables, m_pile] [50] I I1 ∧ r = r_wayOf T (I m_row) dd p c)) := by
  show sm_V G xX10_wayOf (d + 3) 0 [.ref mM, .int (nI dd), .int (nI p), .int (nI c)] [] I ρ _
  have h1 := ht.1
  refine wp_aload0 1 rfl dX10_wayOf_0 ?_
  refine wp_iload1 2 rfl dX10_wayOf_1 ?_
  refine wp_iload3 3 rfl dX10_wayOf_2 ?_
  refine wp_iload2 4 rfl dX10_wayOf_3 ?_
  refine wp_Vi3 7 rfl dX10_wayOf_4 kX10_givesOf lX10_363 (md_M hm) (nl rfl) (nl rfl) (s_givesOf hm lv T hT ht dd c p hd hc hp) (fun r J ρ1 hq => ?_)
  obtain ⟨rfl, hf, rfl⟩ := hq
  have hTJ := hT.kept hf (by decide) (by decide)
  have hrow : J m_row = I m_row := hf.1 m_row (by decide) (by decide)
  refine wp_if_ne 10 12 rfl rfl dX10_wayOf_7 (fun c7 => ?_) (fun c7 => ?_)
  · refine wp_aload0 13 rfl dX10_wayOf_12 ?_
    refine wp_iload3 14 rfl dX10_wayOf_13 ?_
    refine wp_iload2 15 rfl dX10_wayOf_14 ?_
    refine wp_Ve2 18 rfl dX10_wayOf_15 kX10_facePart lX10_333 (md_M hm) (nl rfl) (nl rfl) (s_facePart hm lv c p hTJ.1.1 hTJ.1.2 (by omega) (by omega)) ?_
    refine wp_aload0 19 rfl dX10_wayOf_18 ?_
    refine wp_getr 22 rfl dX10_wayOf_19 fX10_122_10 (md_M hm) (mp_row hm) ?_
    refine wp_iconst (nI 4) 23 rfl dX10_wayOf_22 (by decide) ?_
    refine wp_iload1 24 rfl dX10_wayOf_23 ?_
    refine wp_imul 25 rfl dX10_wayOf_24 ?_
    refine wp_iload2 26 rfl dX10_wayOf_25 ?_
    refine wp_iadd 27 rfl dX10_wayOf_26 ?_
    refine wp_iald 28 rfl dX10_wayOf_27 (ms_row hm) (4 * dd + p) (by first | rfl | simp only [pk_mul, nI_add]) (⟨by omega, by decide⟩) ?_
    rw [show J m_faceOf (20 * lv + 4 * c + p) = tx_cf T (4 * c + p) by rw [Nat.add_assoc]; exact hTJ.2.2.1 _ (by omega), hrow]
    refine wp_icmp_ge 31 35 rfl rfl dX10_wayOf_28 (fun c28 => ?_) (fun c28 => ?_)
    · refine wp_iconst (nI 1) 36 rfl dX10_wayOf_35 (by decide) ?_
      refine wp_iret dX10_wayOf_36 rfl ?_
      refine ⟨_, rfl, rfl, hf, ?_⟩
      unfold r_wayOf
      rw [if_neg c7, if_pos c28]
    · refine wp_iconst (-1) 32 rfl dX10_wayOf_31 (by decide) ?_
      refine wp_goto 36 rfl dX10_wayOf_32 ?_
      refine wp_iret dX10_wayOf_36 rfl ?_
      refine ⟨_, rfl, rfl, hf, ?_⟩
      unfold r_wayOf
      rw [if_neg c7, if_neg c28]
  · refine wp_iconst (nI 0) 11 rfl dX10_wayOf_10 (by decide) ?_
    refine wp_iret dX10_wayOf_11 rfl ?_
    refine ⟨_, rfl, rfl, hf, ?_⟩
    unfold r_wayOf
    rw [if_pos c7]
theorem r_may_s {T : tx} {w : Nat → Int32} {L : List (Nat × Nat × Int32)} {c i dd p : Nat} {v : Int32} (h : L[i]? = some (dd, p, v)) : r_may T w L c (i + 1) = (r_may T w L c i && decide (r_wayOf T w dd p c = v)) := by
  show (match L[i]? with
    | some (d, p, v) => r_may T w L c i && decide (r_wayOf T w d p c = v)
    | none => r_may T w L c i) = _
  rw [h]
theorem s_whoBits (hm : md ρ) (lv : Nat) (T : tx) (w : Nat → Int32) (hS : mS I lv T w) (L : List (Nat × Nat × Int32)) (hL : mD I T L) (k : Nat) (hk : k ≤ L.length) : sm_M G xX10_whoBits (d + 4) [.ref mM, .int (nI k)] I ρ (sm_Qi (fun r I1 ρ1 => ρ1 = ρ ∧ mq I I1 ∧ I1 m_row = w ∧ r = r_who T w L k)) := by
  show sm_V G xX10_whoBits (d + 4) 0 [.ref mM, .int (nI k), .retAddr 0, .retAddr 0, .retAddr 0, .retAddr 0] [] I ρ _
  have h1 := hS.2.1.1
  obtain ⟨l1, l2, l3⟩ := hL
  have hq0 := cp_q hS
  have hr := cp_row hS
  have hT0 : mT (M_cp I lv) lv T := hS.1.kept hq0.1 (by decide) (by decide)
  refine wp_aload0 1 rfl dX10_whoBits_0 ?_
  refine wp_Ve0 4 rfl dX10_whoBits_1 kX10_copies lX10_323 (md_M hm) (nl rfl) (nl rfl) (s_copies hm lv hS.1.1.1 hS.1.1.2) ?_
  refine wp_iconst (nI 0) 5 rfl dX10_whoBits_4 (by decide) ?_
  refine wp_istore2 6 rfl dX10_whoBits_5 (by decide) rfl ?_
  refine wp_iconst (nI 0) 7 rfl dX10_whoBits_6 (by decide) ?_
  refine wp_istore3 8 rfl dX10_whoBits_7 (by decide) rfl ?_
  generalize M_cp I lv = J0 at hq0 hr hT0 ⊢
  refine sm_for (P := fun c => ∀ J : sm_I, mf [m_variables, m_pile] [50] J0 J → sm_V G xX10_whoBits (d + 4) 8 [.ref mM, .int (nI k), .int (z_set (fun c => r_may T w L c k = true) c), .int (nI c), .retAddr 0, .retAddr 0] [] J ρ _) 0 (tx_C T) (Nat.zero_le _) ?_ (fun c _ hc ih => ?_) J0 mf.rf
  · intro J hf
    have hT := hT0.kept hf (by decide) (by decide)
    have hrow : J m_row = w := (hf.1 m_row (by decide) (by decide)).trans hr
    refine wp_iload3 9 rfl dX10_whoBits_8 ?_
    refine wp_aload0 10 rfl dX10_whoBits_9 ?_
    refine wp_getr 13 rfl dX10_whoBits_10 fX10_52_10 (md_M hm) (mp_callers hm) ?_
    refine wp_aload0 14 rfl dX10_whoBits_13 ?_
    refine wp_geti 17 rfl dX10_whoBits_14 fX10_233_10 (md_M hm) ?_
    refine wp_iald 18 rfl dX10_whoBits_17 (ms_callers hm) (lv) (hT.1.1) (⟨hT.1.2, by decide⟩) ?_
    refine wp_icmp_ge 21 88 rfl rfl dX10_whoBits_18 (fun c18 => ?_) (fun c18 => absurd (by rw [hT.2.1.2.1]; exact nI_le (Nat.le_refl _) (by omega)) c18)
    refine wp_iload2 89 rfl dX10_whoBits_88 ?_
    refine wp_iret dX10_whoBits_89 rfl ?_
    exact ⟨_, rfl, rfl, ⟨hq0.1.tr (hf.wk (by decide) (by decide)), by rw [hrow]; exact hS.2.2.2.1⟩, hrow, rfl⟩
  · intro J hf
    have hT := hT0.kept hf (by decide) (by decide)
    have es : z_set (fun c => r_may T w L c k = true) (c + 1) = if r_may T w L c k = true then z_set (fun c => r_may T w L c k = true) c ||| nI 1 <<< (nI c &&& 31) else z_set (fun c => r_may T w L c k = true) c := rfl
    rw [es] at ih
    refine wp_iload3 9 rfl dX10_whoBits_8 ?_
    refine wp_aload0 10 rfl dX10_whoBits_9 ?_
    refine wp_getr 13 rfl dX10_whoBits_10 fX10_52_10 (md_M hm) (mp_callers hm) ?_
    refine wp_aload0 14 rfl dX10_whoBits_13 ?_
    refine wp_geti 17 rfl dX10_whoBits_14 fX10_233_10 (md_M hm) ?_
    refine wp_iald 18 rfl dX10_whoBits_17 (ms_callers hm) (lv) (hT.1.1) (⟨hT.1.2, by decide⟩) ?_
    refine wp_icmp_ge 21 88 rfl rfl dX10_whoBits_18 (fun c18 => absurd c18 (by rw [hT.2.1.2.1]; exact nI_ge hc (by omega))) (fun c18 => ?_)
    refine wp_iconst (nI 1) 22 rfl dX10_whoBits_21 (by decide) ?_
    refine wp_istore4 24 rfl dX10_whoBits_22 (by decide) rfl ?_
    refine wp_iconst (nI 0) 25 rfl dX10_whoBits_24 (by decide) ?_
    refine wp_istore5 27 rfl dX10_whoBits_25 (by decide) rfl ?_
    refine sm_for (P := fun i => ∀ J : sm_I, mf [m_variables, m_pile] [50] J0 J → sm_V G xX10_whoBits (d + 4) 27 [.ref mM, .int (nI k), .int (z_set (fun c => r_may T w L c k = true) c), .int (nI c), .int (z_b (r_may T w L c i = true)), .int (nI i)] [] J ρ _) 0 k (Nat.zero_le _) ?_ (fun i _ hi ih2 => ?_) J hf
    · intro J hf
      have ih := ih J hf
      refine wp_iload5 29 rfl dX10_whoBits_27 ?_
      refine wp_iload1 30 rfl dX10_whoBits_29 ?_
      refine wp_icmp_ge 33 71 rfl rfl dX10_whoBits_30 (fun c30 => ?_) (fun c30 => absurd (nI_le (Nat.le_refl _) (by omega)) c30)
      refine wp_iload4 73 rfl dX10_whoBits_71 ?_
      by_cases hmay : r_may T w L c k = true
      · rw [if_pos hmay] at ih
        refine wp_if_eq 76 82 rfl rfl dX10_whoBits_73 (fun c73 => absurd c73 (by rw [z_bt hmay]; decide)) (fun c73 => ?_)
        refine wp_iload2 77 rfl dX10_whoBits_76 ?_
        refine wp_iconst (nI 1) 78 rfl dX10_whoBits_77 (by decide) ?_
        refine wp_iload3 79 rfl dX10_whoBits_78 ?_
        refine wp_ishl 80 rfl dX10_whoBits_79 ?_
        refine wp_ior 81 rfl dX10_whoBits_80 ?_
        refine wp_istore2 82 rfl dX10_whoBits_81 (by decide) rfl ?_
        refine wp_iincN3 85 rfl dX10_whoBits_82 (by decide) rfl ?_
        refine wp_goto 8 rfl dX10_whoBits_85 ?_
        exact wp_weakK ih ⟨Or.inr rfl, Or.inr rfl, Or.inr rfl, Or.inr rfl, Or.inl rfl, Or.inl rfl, trivial⟩
      · rw [if_neg hmay] at ih
        refine wp_if_eq 76 82 rfl rfl dX10_whoBits_73 (fun c73 => ?_) (fun c73 => absurd (z_bf hmay) c73)
        refine wp_iincN3 85 rfl dX10_whoBits_82 (by decide) rfl ?_
        refine wp_goto 8 rfl dX10_whoBits_85 ?_
        exact wp_weakK ih ⟨Or.inr rfl, Or.inr rfl, Or.inr rfl, Or.inr rfl, Or.inl rfl, Or.inl rfl, trivial⟩
    · intro J hf
      have hT := hT0.kept hf (by decide) (by decide)
      have hrow : J m_row = w := (hf.1 m_row (by decide) (by decide)).trans hr
      obtain ⟨⟨dd, p, v⟩, hx⟩ : ∃ x, L[i]? = some x := ⟨L[i]'(by omega), List.getElem?_eq_getElem (by omega)⟩
      obtain ⟨⟨hd, hp⟩, g1, g2, g3⟩ := l3 i dd p v hx
      have f1 : J m_toldDoor = I m_toldDoor := (hf.1 _ (by decide) (by decide)).trans (hq0.1.1 _ (by decide) (by decide))
      have f2 : J m_toldPart = I m_toldPart := (hf.1 _ (by decide) (by decide)).trans (hq0.1.1 _ (by decide) (by decide))
      have f3 : J m_toldWay = I m_toldWay := (hf.1 _ (by decide) (by decide)).trans (hq0.1.1 _ (by decide) (by decide))
      refine wp_iload5 29 rfl dX10_whoBits_27 ?_
      refine wp_iload1 30 rfl dX10_whoBits_29 ?_
      refine wp_icmp_ge 33 71 rfl rfl dX10_whoBits_30 (fun c30 => absurd c30 (nI_ge hi (by omega))) (fun c30 => ?_)
      refine wp_aload0 34 rfl dX10_whoBits_33 ?_
      refine wp_aload0 35 rfl dX10_whoBits_34 ?_
      refine wp_getr 38 rfl dX10_whoBits_35 fX10_137_10 (md_M hm) (mp_toldDoor hm) ?_
      refine wp_iload5 40 rfl dX10_whoBits_38 ?_
      refine wp_iald 41 rfl dX10_whoBits_40 (ms_toldDoor hm) (i) (by first | rfl | simp only [pk_mul, nI_add]) (⟨by omega, by decide⟩) ?_
      refine wp_aload0 42 rfl dX10_whoBits_41 ?_
      refine wp_getr 45 rfl dX10_whoBits_42 fX10_140_10 (md_M hm) (mp_toldPart hm) ?_
      refine wp_iload5 47 rfl dX10_whoBits_45 ?_
      refine wp_iald 48 rfl dX10_whoBits_47 (ms_toldPart hm) (i) (by first | rfl | simp only [pk_mul, nI_add]) (⟨by omega, by decide⟩) ?_
      refine wp_iload3 49 rfl dX10_whoBits_48 ?_
      rw [f1, f2, g1, g2]
      refine wp_Vi3 52 rfl dX10_whoBits_49 kX10_wayOf lX10_451 (md_M hm) (nl rfl) (nl rfl) (s_wayOf hm lv T hT hS.2.1 dd p c hd hp hc) (fun r J1 ρ1 hq1 => ?_)
      obtain ⟨rfl, hf1, rfl⟩ := hq1
      rw [hrow]
      have f4 : J1 m_toldWay = I m_toldWay := (hf1.1 _ (by decide) (by decide)).trans f3
      have ih2 := ih2 J1 (hf.tr hf1)
      rw [r_may_s hx] at ih2
      refine wp_aload0 53 rfl dX10_whoBits_52 ?_
      refine wp_getr 56 rfl dX10_whoBits_53 fX10_143_10 (md_M hm) (mp_toldWay hm) ?_
      refine wp_iload5 58 rfl dX10_whoBits_56 ?_
      refine wp_iald 59 rfl dX10_whoBits_58 (ms_toldWay hm) (i) (by first | rfl | simp only [pk_mul, nI_add]) (⟨by omega, by decide⟩) ?_
      rw [f4, g3]
      refine wp_icmp_eq 62 65 rfl rfl dX10_whoBits_59 (fun c59 => ?_) (fun c59 => ?_)
      · rw [decide_eq_true c59, Bool.and_true] at ih2
        refine wp_iincN5 68 rfl dX10_whoBits_65 (by decide) rfl ?_
        refine wp_goto 27 rfl dX10_whoBits_68 ?_
        exact ih2
      · rw [decide_eq_false c59, Bool.and_false, z_bf (by decide)] at ih2
        refine wp_iconst (nI 0) 63 rfl dX10_whoBits_62 (by decide) ?_
        refine wp_istore4 65 rfl dX10_whoBits_63 (by decide) rfl ?_
        refine wp_iincN5 68 rfl dX10_whoBits_65 (by decide) rfl ?_
        refine wp_goto 27 rfl dX10_whoBits_68 ?_
        exact ih2
theorem q_who (hm : md ρ) (lv : Nat) (T : tx) (w : Nat → Int32) (hS : mS I lv T w) (L : List (Nat × Nat × Int32)) (hL : mD I T L) (k what : Int32) : sm_M G xX10_who (d + 5) [.ref mM, .int k, .int what] I ρ (mPost I ρ (o_who T w L k what)) := by
  show sm_V G xX10_who (d + 5) 0 [.ref mM, .int k, .int what, .retAddr 0] [] I ρ _
  have l2 := hL.2.1
  have no : (¬ (nI 0 ≤ k ∧ k ≤ nI L.length) ∨ ¬ (nI 0 ≤ what ∧ what ≤ nI 1)) → sm_V G xX10_who (d + 5) 21 [.ref mM, .int k, .int what, .retAddr 0] [] I ρ (mPost I ρ (o_who T w L k what)) := by
    intro hno
    refine wp_iconst (-1) 22 rfl dX10_who_21 (by decide) ?_
    refine wp_iret dX10_who_22 rfl ?_
    refine sm_qi (mq.rf hS.2.2.2.2) ?_
    unfold o_who
    by_cases hn : nI 0 ≤ k ∧ k ≤ nI L.length
    · obtain ⟨j, hj, rfl⟩ := (z_iv_iff (by omega) (by omega)).mp hn
      rw [z_iv_n hj (by omega) (by omega)]
      rcases hno with h | h
      · exact absurd hn h
      · rw [z_ix_no (by omega) (fun q => h ((z_in_lo rfl (by omega)).mpr q))]
    · rw [z_iv_o hn]
  refine wp_iload1 1 rfl dX10_who_0 ?_
  refine wp_iconst (nI 0) 2 rfl dX10_who_1 (by decide) ?_
  refine wp_aload0 3 rfl dX10_who_2 ?_
  refine wp_geti 6 rfl dX10_who_3 fX10_254_10 (md_M hm) ?_
  rw [hL.1]
  refine wp_Se3 9 rfl dX10_who_6 kX10_in lX10_313 (nl rfl) (nl rfl) (s_in _ _ _) ?_
  refine wp_if_eq 12 21 rfl rfl dX10_who_9 (fun c9 => ?_) (fun c9 => ?_)
  · exact no (Or.inl (z_b_eq.mp c9))
  · obtain ⟨j, hj, rfl⟩ := (z_iv_iff (by omega) (by omega)).mp (z_b_ne.mp c9)
    refine wp_iload2 13 rfl dX10_who_12 ?_
    refine wp_iconst (nI 0) 14 rfl dX10_who_13 (by decide) ?_
    refine wp_iconst (nI 1) 15 rfl dX10_who_14 (by decide) ?_
    refine wp_Se3 18 rfl dX10_who_15 kX10_in lX10_313 (nl rfl) (nl rfl) (s_in _ _ _) ?_
    refine wp_if_ne 21 23 rfl rfl dX10_who_18 (fun c18 => ?_) (fun c18 => ?_)
    · obtain ⟨b, hb, rfl⟩ := (z_in_lo rfl (by omega)).mp (z_b_ne.mp c18)
      have e9 : o_who T w L (nI j) (nI b) = if b = 0 then z_bits (r_who T w L j) else r_who T w L j := by
        unfold o_who
        rw [z_iv_n hj (by omega) (by omega), z_ix_n hb (by omega)]
      rw [e9]
      refine wp_aload0 24 rfl dX10_who_23 ?_
      refine wp_iload1 25 rfl dX10_who_24 ?_
      refine wp_Vi1 28 rfl dX10_who_25 kX10_whoBits lX10_454 (md_M hm) (nl rfl) (nl rfl) (s_whoBits hm lv T w hS L hL j hj.2) (fun r J ρ1 hq => ?_)
      obtain ⟨rfl, hq, -, rfl⟩ := hq
      by_cases hb0 : b = 0
      · rw [if_pos hb0]
        refine wp_istore3 29 rfl dX10_who_28 (by decide) rfl ?_
        refine wp_iload2 30 rfl dX10_who_29 ?_
        refine wp_if_ne 33 40 rfl rfl dX10_who_30 (fun c30 => absurd (by rw [hb0]; rfl) c30) (fun c30 => ?_)
        refine wp_iload3 34 rfl dX10_who_33 ?_
        refine wp_Se1 37 rfl dX10_who_34 kX10_bits lX10_457 (nl rfl) (nl rfl) (s_bits _) ?_
        refine wp_goto 41 rfl dX10_who_37 ?_
        refine wp_iret dX10_who_41 rfl ?_
        exact sm_qi hq rfl
      · rw [if_neg hb0]
        refine wp_istore3 29 rfl dX10_who_28 (by decide) rfl ?_
        refine wp_iload2 30 rfl dX10_who_29 ?_
        refine wp_if_ne 33 40 rfl rfl dX10_who_30 (fun c30 => ?_) (fun c30 => absurd c30 (nI_ne0 (by omega) (by omega)))
        refine wp_iload3 41 rfl dX10_who_40 ?_
        refine wp_iret dX10_who_41 rfl ?_
        exact sm_qi hq rfl
    · exact no (Or.inr (z_b_eq.mp c18))
theorem s_worstOf (hm : md ρ) (lv : Nat) (T : tx) (hT0 : mT I lv T) (ht : tok T) (s : Int32) (dd p : Nat) (hd : dd < tx_D T) (hp : p < 4) : sm_M G xX10_worstOf (d + 4) [.ref mM, .int s, .int (nI dd), .int (nI p)] I ρ (sm_Qi (fun r I1 ρ1 => ρ1 = ρ ∧ mf [m_variables, m_pile] [50] I I1 ∧ r = r_worst T (I m_row) s dd p)) := by
  show sm_V G xX10_worstOf (d + 4) 0 [.ref mM, .int s, .int (nI dd), .int (nI p), .retAddr 0, .retAddr 0, .retAddr 0, .retAddr 0] [] I ρ _
  have h1 := ht.1
  obtain ⟨w, hw⟩ : ∃ w, w = I m_row := ⟨_, rfl⟩
  rw [← hw]
  have step : ∀ (most v : Int32) (J : sm_I) (a b : Value), ¬ nI 2 ≤ v → mf [m_variables, m_pile] [50] I J → (∀ J1 a b, mf [m_variables, m_pile] [50] I J1 → sm_V G xX10_worstOf (d + 4) 6 [.ref mM, .int s, .int (nI dd), .int (nI p), .int (z_mx most (r_cnt T w s dd p v)), .int (v + nI 1), a, b] [] J1 ρ (sm_Qi (fun r I1 ρ1 => ρ1 = ρ ∧ mf [m_variables, m_pile] [50] I I1 ∧ r = r_worst T w s dd p))) → sm_V G xX10_worstOf (d + 4) 6 [.ref mM, .int s, .int (nI dd), .int (nI p), .int most, .int v, a, b] [] J ρ (sm_Qi (fun r I1 ρ1 => ρ1 = ρ ∧ mf [m_variables, m_pile] [50] I I1 ∧ r = r_worst T w s dd p)) := by
    intro most v J a b hv hf kk
    obtain ⟨f, hff⟩ : ∃ f : Nat → Int32, f = fun c => if (s >>> (nI c &&& 31)) &&& nI 1 = nI 1 ∧ r_wayOf T w dd p c = v then nI 1 else nI 0 := ⟨_, rfl⟩
    have ec : r_cnt T w s dd p v = z_sum f (tx_C T) := by rw [hff]; rfl
    rw [ec] at kk
    refine wp_iload5 8 rfl dX10_worstOf_6 ?_
    refine wp_iconst (nI 2) 9 rfl dX10_worstOf_8 (by decide) ?_
    refine wp_icmp_ge 12 81 rfl rfl dX10_worstOf_9 (fun c9 => absurd c9 (hv)) (fun c9 => ?_)
    refine wp_iconst (nI 0) 13 rfl dX10_worstOf_12 (by decide) ?_
    refine wp_istore6 15 rfl dX10_worstOf_13 (by decide) rfl ?_
    refine wp_iconst (nI 0) 16 rfl dX10_worstOf_15 (by decide) ?_
    refine wp_istore7 18 rfl dX10_worstOf_16 (by decide) rfl ?_
    refine sm_for (P := fun c => ∀ J : sm_I, mf [m_variables, m_pile] [50] I J → sm_V G xX10_worstOf (d + 4) 18 [.ref mM, .int s, .int (nI dd), .int (nI p), .int most, .int v, .int (z_sum f c), .int (nI c)] [] J ρ _) 0 (tx_C T) (Nat.zero_le _) ?_ (fun c _ hc ih => ?_) J hf
    · intro J hf
      have hT := hT0.kept hf (by decide) (by decide)
      have kk := fun a b => kk J a b hf
      refine wp_iload7 20 rfl dX10_worstOf_18 ?_
      refine wp_aload0 21 rfl dX10_worstOf_20 ?_
      refine wp_getr 24 rfl dX10_worstOf_21 fX10_52_10 (md_M hm) (mp_callers hm) ?_
      refine wp_aload0 25 rfl dX10_worstOf_24 ?_
      refine wp_geti 28 rfl dX10_worstOf_25 fX10_233_10 (md_M hm) ?_
      refine wp_iald 29 rfl dX10_worstOf_28 (ms_callers hm) (lv) (hT.1.1) (⟨hT.1.2, by decide⟩) ?_
      refine wp_icmp_ge 32 64 rfl rfl dX10_worstOf_29 (fun c29 => ?_) (fun c29 => absurd (by rw [hT.2.1.2.1]; exact nI_le (Nat.le_refl _) (by omega)) c29)
      refine wp_iload6 66 rfl dX10_worstOf_64 ?_
      refine wp_iload4 68 rfl dX10_worstOf_66 ?_
      unfold z_mx at kk
      refine wp_icmp_le 71 75 rfl rfl dX10_worstOf_68 (fun c68 => ?_) (fun c68 => ?_)
      · rw [if_pos c68] at kk
        refine wp_iinc5 78 rfl (nI 1) (by decide) dX10_worstOf_75 (by decide) rfl ?_
        refine wp_goto 6 rfl dX10_worstOf_78 ?_
        exact kk _ _
      · rw [if_neg c68] at kk
        refine wp_iload6 73 rfl dX10_worstOf_71 ?_
        refine wp_istore4 75 rfl dX10_worstOf_73 (by decide) rfl ?_
        refine wp_iinc5 78 rfl (nI 1) (by decide) dX10_worstOf_75 (by decide) rfl ?_
        refine wp_goto 6 rfl dX10_worstOf_78 ?_
        exact kk _ _
    · intro J hf
      have hT := hT0.kept hf (by decide) (by decide)
      have hrow : J m_row = w := (hf.1 m_row (by decide) (by decide)).trans hw.symm
      have es : z_sum f (c + 1) = z_sum f c + f c := rfl
      rw [es, hff] at ih
      have ih : ∀ J : sm_I, mf [m_variables, m_pile] [50] I J → sm_V G xX10_worstOf (d + 4) 18 [.ref mM, .int s, .int (nI dd), .int (nI p), .int most, .int v, .int (z_sum f c + if (s >>> (nI c &&& 31)) &&& nI 1 = nI 1 ∧ r_wayOf T w dd p c = v then nI 1 else nI 0), .int (nI (c + 1))] [] J ρ (sm_Qi (fun r I1 ρ1 => ρ1 = ρ ∧ mf [m_variables, m_pile] [50] I I1 ∧ r = r_worst T w s dd p)) := by
        rw [hff]
        exact ih
      refine wp_iload7 20 rfl dX10_worstOf_18 ?_
      refine wp_aload0 21 rfl dX10_worstOf_20 ?_
      refine wp_getr 24 rfl dX10_worstOf_21 fX10_52_10 (md_M hm) (mp_callers hm) ?_
      refine wp_aload0 25 rfl dX10_worstOf_24 ?_
      refine wp_geti 28 rfl dX10_worstOf_25 fX10_233_10 (md_M hm) ?_
      refine wp_iald 29 rfl dX10_worstOf_28 (ms_callers hm) (lv) (hT.1.1) (⟨hT.1.2, by decide⟩) ?_
      refine wp_icmp_ge 32 64 rfl rfl dX10_worstOf_29 (fun c29 => absurd c29 (by rw [hT.2.1.2.1]; exact nI_ge hc (by omega))) (fun c29 => ?_)
      refine wp_iload1 33 rfl dX10_worstOf_32 ?_
      refine wp_iload7 35 rfl dX10_worstOf_33 ?_
      refine wp_ishr 36 rfl dX10_worstOf_35 ?_
      refine wp_iconst (nI 1) 37 rfl dX10_worstOf_36 (by decide) ?_
      refine wp_iand 38 rfl dX10_worstOf_37 ?_
      refine wp_iconst (nI 1) 39 rfl dX10_worstOf_38 (by decide) ?_
      refine wp_icmp_ne 42 58 rfl rfl dX10_worstOf_39 (fun c39 => ?_) (fun c39 => ?_)
      · rw [if_neg (fun h => c39 h.1), i_add0] at ih
        refine wp_iincN7 61 rfl dX10_worstOf_58 (by decide) rfl ?_
        refine wp_goto 18 rfl dX10_worstOf_61 ?_
        exact ih J hf
      · refine wp_aload0 43 rfl dX10_worstOf_42 ?_
        refine wp_iload2 44 rfl dX10_worstOf_43 ?_
        refine wp_iload3 45 rfl dX10_worstOf_44 ?_
        refine wp_iload7 47 rfl dX10_worstOf_45 ?_
        refine wp_Vi3 50 rfl dX10_worstOf_47 kX10_wayOf lX10_451 (md_M hm) (nl rfl) (nl rfl) (s_wayOf hm lv T hT ht dd p c hd hp hc) (fun r J1 ρ1 hq1 => ?_)
        obtain ⟨rfl, hf1, rfl⟩ := hq1
        rw [hrow]
        have ih := ih J1 (hf.tr hf1)
        refine wp_iload5 52 rfl dX10_worstOf_50 ?_
        refine wp_icmp_ne 55 58 rfl rfl dX10_worstOf_52 (fun c52 => ?_) (fun c52 => ?_)
        · rw [if_neg (fun h => c52 h.2), i_add0] at ih
          refine wp_iincN7 61 rfl dX10_worstOf_58 (by decide) rfl ?_
          refine wp_goto 18 rfl dX10_worstOf_61 ?_
          exact ih
        · rw [if_pos ⟨c39, c52⟩] at ih
          refine wp_iinc6 58 rfl (nI 1) (by decide) dX10_worstOf_55 (by decide) rfl ?_
          refine wp_iincN7 61 rfl dX10_worstOf_58 (by decide) rfl ?_
          refine wp_goto 18 rfl dX10_worstOf_61 ?_
          exact ih
  refine wp_iconst (nI 0) 1 rfl dX10_worstOf_0 (by decide) ?_
  refine wp_istore4 3 rfl dX10_worstOf_1 (by decide) rfl ?_
  refine wp_iconst (-1) 4 rfl dX10_worstOf_3 (by decide) ?_
  refine wp_istore5 6 rfl dX10_worstOf_4 (by decide) rfl ?_
  refine step _ _ I _ _ (by decide) mf.rf (fun J1 a b hf1 => ?_)
  rw [show (-1 : Int32) + nI 1 = nI 0 from by decide]
  refine step _ _ J1 _ _ (by decide) hf1 (fun J2 a b hf2 => ?_)
  rw [show nI 0 + nI 1 = nI 1 from by decide]
  refine step _ _ J2 _ _ (by decide) hf2 (fun J3 a b hf3 => ?_)
  refine wp_iload5 8 rfl dX10_worstOf_6 ?_
  refine wp_iconst (nI 2) 9 rfl dX10_worstOf_8 (by decide) ?_
  refine wp_icmp_ge 12 81 rfl rfl dX10_worstOf_9 (fun c9 => ?_) (fun c9 => absurd (by decide) c9)
  refine wp_iload4 83 rfl dX10_worstOf_81 ?_
  refine wp_iret dX10_worstOf_83 rfl ?_
  exact ⟨_, rfl, rfl, hf3, rfl⟩
theorem q_ask (hm : md ρ) (lv : Nat) (T : tx) (w : Nat → Int32) (hS : mS I lv T w) (L : List (Nat × Nat × Int32)) (hL : mD I T L) (k : Int32) : sm_M G xX10_ask (d + 5) [.ref mM, .int k] I ρ (mPost I ρ (o_ask T w L k)) := by
  show sm_V G xX10_ask (d + 5) 0 [.ref mM, .int k, .retAddr 0, .retAddr 0, .retAddr 0, .retAddr 0, .retAddr 0] [] I ρ _
  have h1 := hS.2.1.1
  have l2 := hL.2.1
  refine wp_iload1 1 rfl dX10_ask_0 ?_
  refine wp_iconst (nI 0) 2 rfl dX10_ask_1 (by decide) ?_
  refine wp_aload0 3 rfl dX10_ask_2 ?_
  refine wp_geti 6 rfl dX10_ask_3 fX10_254_10 (md_M hm) ?_
  rw [hL.1]
  refine wp_Se3 9 rfl dX10_ask_6 kX10_in lX10_313 (nl rfl) (nl rfl) (s_in _ _ _) ?_
  refine wp_if_ne 12 14 rfl rfl dX10_ask_9 (fun c9 => ?_) (fun c9 => ?_)
  · obtain ⟨j, hj, rfl⟩ := (z_iv_iff (by omega) (by omega)).mp (z_b_ne.mp c9)
    obtain ⟨s, hs⟩ : ∃ s, s = r_who T w L j := ⟨_, rfl⟩
    have e9 : o_ask T w L (nI j) = if s = 0 then -2 else match z_arg (fun i => r_worst T w s (i / 4) (i % 4)) (4 * tx_D T) with
      | none => -2
      | some b => nI (10 * (b / 4) + b % 4) := by
      unfold o_ask
      rw [z_iv_n hj (by omega) (by omega), hs]
    rw [e9]
    obtain ⟨f, hf⟩ : ∃ f : Nat → Int32, f = fun i => r_worst T w s (i / 4) (i % 4) := ⟨_, rfl⟩
    rw [← hf]
    refine wp_aload0 15 rfl dX10_ask_14 ?_
    refine wp_iload1 16 rfl dX10_ask_15 ?_
    refine wp_Vi1 19 rfl dX10_ask_16 kX10_whoBits lX10_454 (md_M hm) (nl rfl) (nl rfl) (s_whoBits hm lv T w hS L hL j hj.2) (fun r J ρ1 hq => ?_)
    obtain ⟨rfl, hq, hrow, rfl⟩ := hq
    rw [← hs]
    have hT0 := (hS.q hq).1
    refine wp_istore2 20 rfl dX10_ask_19 (by decide) rfl ?_
    refine wp_bipush (-2) 22 rfl dX10_ask_20 (by decide) ?_
    refine wp_istore3 23 rfl dX10_ask_22 (by decide) rfl ?_
    refine wp_iconst (nI 0) 24 rfl dX10_ask_23 (by decide) ?_
    refine wp_istore4 26 rfl dX10_ask_24 (by decide) rfl ?_
    refine wp_iconst (nI 0) 27 rfl dX10_ask_26 (by decide) ?_
    refine wp_istore5 29 rfl dX10_ask_27 (by decide) rfl ?_
    by_cases h0 : s = 0
    · rw [if_pos h0]
      have hD := h1.1
      refine wp_iload5 31 rfl dX10_ask_29 ?_
      refine wp_iconst (nI 4) 32 rfl dX10_ask_31 (by decide) ?_
      refine wp_aload0 33 rfl dX10_ask_32 ?_
      refine wp_getr 36 rfl dX10_ask_33 fX10_46_10 (md_M hm) (mp_doors hm) ?_
      refine wp_aload0 37 rfl dX10_ask_36 ?_
      refine wp_geti 40 rfl dX10_ask_37 fX10_233_10 (md_M hm) ?_
      refine wp_iald 41 rfl dX10_ask_40 (ms_doors hm) (lv) (hT0.1.1) (⟨hT0.1.2, by decide⟩) ?_
      rw [hT0.2.1.1]
      refine wp_imul 42 rfl dX10_ask_41 ?_
      rw [pk_mul]
      by_cases hD0 : tx_D T = 0
      · refine wp_icmp_ge 45 101 rfl rfl dX10_ask_42 (fun c42 => ?_) (fun c42 => absurd (by rw [hD0]; decide) c42)
        refine wp_iload3 102 rfl dX10_ask_101 ?_
        refine wp_iret dX10_ask_102 rfl ?_
        exact sm_qi hq rfl
      · refine wp_icmp_ge 45 101 rfl rfl dX10_ask_42 (fun c42 => absurd c42 (nI_ge (by omega) (by omega))) (fun c42 => ?_)
        refine wp_iload2 46 rfl dX10_ask_45 ?_
        refine wp_if_eq 49 101 rfl rfl dX10_ask_46 (fun c46 => ?_) (fun c46 => absurd (h0) c46)
        refine wp_iload3 102 rfl dX10_ask_101 ?_
        refine wp_iret dX10_ask_102 rfl ?_
        exact sm_qi hq rfl
    · rw [if_neg h0]
      obtain ⟨vb, hvb⟩ : ∃ vb : Option Nat → Int32 × Int32, vb = fun b => match b with
        | none => (-2, nI 0)
        | some b => (nI (10 * (b / 4) + b % 4), f b) := ⟨_, rfl⟩
      have hv0 : vb none = (-2, nI 0) := by rw [hvb]
      have hv1 : ∀ b, vb (some b) = (nI (10 * (b / 4) + b % 4), f b) := fun b => by rw [hvb]
      have hvr : (match z_arg f (4 * tx_D T) with
        | none => -2
        | some b => nI (10 * (b / 4) + b % 4)) = (vb (z_arg f (4 * tx_D T))).1 := by
        cases z_arg f (4 * tx_D T) with
        | none => rw [hv0]
        | some b => rw [hv1]
      rw [hvr]
      suffices hh : sm_V G xX10_ask (d + 5) 29 [.ref mM, .int (nI j), .int s, .int (vb (z_arg f 0)).1, .int (vb (z_arg f 0)).2, .int (nI 0), .retAddr 0] [] J ρ1 (mPost I ρ1 (vb (z_arg f (4 * tx_D T))).1) by
        rw [show z_arg f 0 = none from rfl, hv0] at hh
        exact hh
      refine sm_for (P := fun i => ∀ J1 : sm_I, mf [m_variables, m_pile] [50] J J1 → sm_V G xX10_ask (d + 5) 29 [.ref mM, .int (nI j), .int s, .int (vb (z_arg f i)).1, .int (vb (z_arg f i)).2, .int (nI i), .retAddr 0] [] J1 ρ1 _) 0 (4 * tx_D T) (Nat.zero_le _) ?_ (fun i _ hi ih => ?_) J mf.rf
      · intro J1 hf1
        have hT := hT0.kept hf1 (by decide) (by decide)
        have hrow1 : J1 m_row = w := (hf1.1 m_row (by decide) (by decide)).trans hrow
        refine wp_iload5 31 rfl dX10_ask_29 ?_
        refine wp_iconst (nI 4) 32 rfl dX10_ask_31 (by decide) ?_
        refine wp_aload0 33 rfl dX10_ask_32 ?_
        refine wp_getr 36 rfl dX10_ask_33 fX10_46_10 (md_M hm) (mp_doors hm) ?_
        refine wp_aload0 37 rfl dX10_ask_36 ?_
        refine wp_geti 40 rfl dX10_ask_37 fX10_233_10 (md_M hm) ?_
        refine wp_iald 41 rfl dX10_ask_40 (ms_doors hm) (lv) (hT.1.1) (⟨hT.1.2, by decide⟩) ?_
        rw [hT.2.1.1]
        refine wp_imul 42 rfl dX10_ask_41 ?_
        rw [pk_mul]
        refine wp_icmp_ge 45 101 rfl rfl dX10_ask_42 (fun c42 => ?_) (fun c42 => absurd (nI_le (Nat.le_refl _) (by omega)) c42)
        refine wp_iload3 102 rfl dX10_ask_101 ?_
        refine wp_iret dX10_ask_102 rfl ?_
        exact sm_qi ⟨hq.1.tr (hf1.wk (by decide) (by decide)), by rw [hrow1]; exact hS.2.2.2.1⟩ rfl
      · intro J1 hf1
        have hT := hT0.kept hf1 (by decide) (by decide)
        have hrow1 : J1 m_row = w := (hf1.1 m_row (by decide) (by decide)).trans hrow
        have es : z_arg f (i + 1) = (match z_arg f i with
          | none => some i
          | some b => if f i < f b then some i else some b) := rfl
        rw [es] at ih
        refine wp_iload5 31 rfl dX10_ask_29 ?_
        refine wp_iconst (nI 4) 32 rfl dX10_ask_31 (by decide) ?_
        refine wp_aload0 33 rfl dX10_ask_32 ?_
        refine wp_getr 36 rfl dX10_ask_33 fX10_46_10 (md_M hm) (mp_doors hm) ?_
        refine wp_aload0 37 rfl dX10_ask_36 ?_
        refine wp_geti 40 rfl dX10_ask_37 fX10_233_10 (md_M hm) ?_
        refine wp_iald 41 rfl dX10_ask_40 (ms_doors hm) (lv) (hT.1.1) (⟨hT.1.2, by decide⟩) ?_
        rw [hT.2.1.1]
        refine wp_imul 42 rfl dX10_ask_41 ?_
        rw [pk_mul]
        refine wp_icmp_ge 45 101 rfl rfl dX10_ask_42 (fun c42 => absurd c42 (nI_ge hi (by omega))) (fun c42 => ?_)
        refine wp_iload2 46 rfl dX10_ask_45 ?_
        refine wp_if_eq 49 101 rfl rfl dX10_ask_46 (fun c46 => absurd c46 (h0)) (fun c46 => ?_)
        refine wp_aload0 50 rfl dX10_ask_49 ?_
        refine wp_iload2 51 rfl dX10_ask_50 ?_
        refine wp_iload5 53 rfl dX10_ask_51 ?_
        refine wp_iconst (nI 4) 54 rfl dX10_ask_53 (by decide) ?_
        refine wp_idiv 55 rfl dX10_ask_54 (by decide) ?_
        refine wp_iload5 57 rfl dX10_ask_55 ?_
        refine wp_iconst (nI 4) 58 rfl dX10_ask_57 (by decide) ?_
        refine wp_irem 59 rfl dX10_ask_58 (by decide) ?_
        rw [pk_rem (a := i) (d := 4) (by omega) (by decide) (by decide), pk_div (a := i) (d := 4) (by omega) (by decide) (by decide)]
        refine wp_Vi3 62 rfl dX10_ask_59 kX10_worstOf lX10_460 (md_M hm) (nl rfl) (nl rfl) (s_worstOf hm lv T hT hS.2.1 s (i / 4) (i % 4) (by omega) (by omega)) (fun r J2 ρ2 hq2 => ?_)
        refine wp_istore6 64 rfl dX10_ask_62 (by decide) rfl ?_
        obtain ⟨rfl, hf2, rfl⟩ := hq2
        rw [hrow1, show r_worst T w s (i / 4) (i % 4) = f i by rw [hf]]
        have ih := ih J2 (hf1.tr hf2)
        have take : sm_V G xX10_ask (d + 5) 29 [.ref mM, .int (nI j), .int s, .int (vb (some i)).1, .int (vb (some i)).2, .int (nI (i + 1)), .retAddr 0] [] J2 ρ2 (mPost I ρ2 (vb (z_arg f (4 * tx_D T))).1) → ∀ a b, sm_V G xX10_ask (d + 5) 78 [.ref mM, .int (nI j), .int s, a, b, .int (nI i), .int (f i)] [] J2 ρ2 (mPost I ρ2 (vb (z_arg f (4 * tx_D T))).1) := by
          intro ih a b
          rw [hv1] at ih
          refine wp_bipush (nI 10) 80 rfl dX10_ask_78 (by decide) ?_
          refine wp_iload5 82 rfl dX10_ask_80 ?_
          refine wp_iconst (nI 4) 83 rfl dX10_ask_82 (by decide) ?_
          refine wp_idiv 84 rfl dX10_ask_83 (by decide) ?_
          refine wp_imul 85 rfl dX10_ask_84 ?_
          refine wp_iload5 87 rfl dX10_ask_85 ?_
          refine wp_iconst (nI 4) 88 rfl dX10_ask_87 (by decide) ?_
          refine wp_irem 89 rfl dX10_ask_88 (by decide) ?_
          refine wp_iadd 90 rfl dX10_ask_89 ?_
          rw [pk_rem (a := i) (d := 4) (by omega) (by decide) (by decide), pk_div (a := i) (d := 4) (by omega) (by decide) (by decide), pk_mul, nI_add]
          refine wp_istore3 91 rfl dX10_ask_90 (by decide) rfl ?_
          refine wp_iload6 93 rfl dX10_ask_91 ?_
          refine wp_istore4 95 rfl dX10_ask_93 (by decide) rfl ?_
          refine wp_iincN5 98 rfl dX10_ask_95 (by decide) rfl ?_
          refine wp_goto 29 rfl dX10_ask_98 ?_
          exact wp_weakK ih ⟨Or.inr rfl, Or.inr rfl, Or.inr rfl, Or.inr rfl, Or.inr rfl, Or.inr rfl, Or.inl rfl, trivial⟩
        cases hb : z_arg f i with
        | none =>
          rw [hb] at ih
          rw [hv0]
          refine wp_iload3 65 rfl dX10_ask_64 ?_
          refine wp_if_lt 68 78 rfl rfl dX10_ask_65 (fun c65 => ?_) (fun c65 => absurd (by decide) c65)
          exact take ih _ _
        | some b =>
          have hbc := z_arg_lt hb
          rw [hb] at ih
          rw [hv1]
          refine wp_iload3 65 rfl dX10_ask_64 ?_
          refine wp_if_lt 68 78 rfl rfl dX10_ask_65 (fun c65 => absurd c65 (nI_pos (by omega))) (fun c65 => ?_)
          refine wp_iload6 70 rfl dX10_ask_68 ?_
          refine wp_iload4 72 rfl dX10_ask_70 ?_
          refine wp_icmp_lt 75 78 rfl rfl dX10_ask_72 (fun c72 => ?_) (fun c72 => ?_)
          · rw [show (match some b with
              | none => some i
              | some b => if f i < f b then some i else some b) = some i from if_pos c72] at ih
            exact take ih _ _
          · rw [show (match some b with
              | none => some i
              | some b => if f i < f b then some i else some b) = some b from if_neg c72, hv1] at ih
            refine wp_goto 95 rfl dX10_ask_75 ?_
            refine wp_iincN5 98 rfl dX10_ask_95 (by decide) rfl ?_
            refine wp_goto 29 rfl dX10_ask_98 ?_
            exact wp_weakK ih ⟨Or.inr rfl, Or.inr rfl, Or.inr rfl, Or.inr rfl, Or.inr rfl, Or.inr rfl, Or.inl rfl, trivial⟩
  · refine wp_iconst (-1) 13 rfl dX10_ask_12 (by decide) ?_
    refine wp_iret dX10_ask_13 rfl ?_
    refine sm_qi (mq.rf hS.2.2.2.2) ?_
    unfold o_ask
    rw [z_iv_o (z_b_eq.mp c9)]
end M22
