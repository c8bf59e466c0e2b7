/-! ===== the model: what a row tells ===== -/
set_option maxRecDepth 100000
/-- the whole of an array set -/
def sm_a (I : sm_I) (a : Nat) (f : Nat → Int32) : sm_I := fun b => if b = a then f else I b
theorem sm_a_eq (I : sm_I) (a : Nat) (f : Nat → Int32) : sm_a I a f a = f := if_pos rfl
theorem sm_a_ne (I : sm_I) {a b : Nat} (f : Nat → Int32) (h : b ≠ a) : sm_a I a f b = I b := if_neg h
theorem sm_a_u (I : sm_I) (a : Nat) (f : Nat → Int32) (k : Nat) (v : Int32) : sm_u (sm_a I a f) a k v = sm_a I a (upd f k v) := by
  funext b
  unfold sm_u sm_a
  by_cases h : b = a
  · simp [h]
  · simp [h]
theorem sm_a_self (I : sm_I) (a : Nat) : sm_a I a (I a) = I := by
  funext b
  unfold sm_a
  by_cases h : b = a
  · simp [h]
  · simp [h]
theorem sm_u_a (I : sm_I) (a k : Nat) (v : Int32) : sm_u I a k v = sm_a I a (upd (I a) k v) := by
  funext b
  unfold sm_u sm_a
  by_cases h : b = a
  · simp [h]
  · simp [h]
/-- the first n places of f, then g -/
def z_cpy (f g : Nat → Int32) (n : Nat) : Nat → Int32 := fun j => if j < n then f j else g j
theorem z_cpy_0 (f g : Nat → Int32) : z_cpy f g 0 = g := by
  funext j
  unfold z_cpy
  rw [if_neg (by omega)]
theorem z_cpy_s (f g : Nat → Int32) (n : Nat) : upd (z_cpy f g n) n (f n) = z_cpy f g (n + 1) := by
  funext j
  unfold z_cpy upd
  by_cases h : j = n
  · subst h
    rw [if_pos rfl, if_pos (by omega)]
  · rw [if_neg h]
    show (if j < n then f j else g j) = _
    by_cases h2 : j < n
    · rw [if_pos h2, if_pos (by omega)]
    · rw [if_neg h2, if_neg (by omega)]
def z_sum (f : Nat → Int32) : Nat → Int32
  | 0 => nI 0
  | n + 1 => z_sum f n + f n
section M2
variable {G : sm_G} {d : Nat} {I : sm_I} {ρ : sm_R}
theorem s_firstPart (hm : md ρ) (lv c p : Nat) (hl : I mM 18 = nI lv) (hlv : lv < 2) (hc : c < 6) (hp : p < 4) : sm_M G xX10_firstPart d [.ref mM, .int (nI c), .int (nI p)] I ρ (sm_Qe (some (.int (I m_firstFace (24 * lv + 4 * c + p)))) I ρ) := by
  show sm_V G xX10_firstPart d 0 [.ref mM, .int (nI c), .int (nI p)] [] I ρ _
  refine wp_aload0 1 rfl dX10_firstPart_0 ?_
  refine wp_getr 4 rfl dX10_firstPart_1 fX10_49_10 (md_M hm) (mp_firstFace hm) ?_
  refine wp_bipush (nI 24) 6 rfl dX10_firstPart_4 (by decide) ?_
  refine wp_aload0 7 rfl dX10_firstPart_6 ?_
  refine wp_geti 10 rfl dX10_firstPart_7 fX10_233_10 (md_M hm) ?_
  refine wp_imul 11 rfl dX10_firstPart_10 ?_
  refine wp_iconst (nI 4) 12 rfl dX10_firstPart_11 (by decide) ?_
  refine wp_iload1 13 rfl dX10_firstPart_12 ?_
  refine wp_imul 14 rfl dX10_firstPart_13 ?_
  refine wp_iadd 15 rfl dX10_firstPart_14 ?_
  refine wp_iload2 16 rfl dX10_firstPart_15 ?_
  refine wp_iadd 17 rfl dX10_firstPart_16 ?_
  refine wp_iald 18 rfl dX10_firstPart_17 (ms_firstFace hm) (24 * lv + 4 * c + p) (by rw [hl]; simp only [pk_mul, nI_add]) (⟨by omega, by decide⟩) ?_
  refine wp_iret dX10_firstPart_18 rfl ?_
  exact sm_ei rfl
/-- unlike a caller's face: row, faces of the side -/
abbrev u_to (I : sm_I) (lv dd c : Nat) : Int32 := z_sum (fun p => z_off (I m_row (4 * dd + p)) (I m_faceOf (20 * lv + 4 * c + p))) 4
abbrev u_fi (I : sm_I) (lv dd : Nat) : Int32 := z_sum (fun p => z_off (I m_row (4 * dd + p)) (I m_firstFace (24 * lv + 4 * dd + p))) 4
theorem s_unlikeTo (hm : md ρ) (lv dd c : Nat) (hl : I mM 18 = nI lv) (hlv : lv < 2) (hd : dd < 6) (hc : c < 5) : sm_M G xX10_unlikeTo (d + 1) [.ref mM, .int (nI dd), .int (nI c)] I ρ (sm_Qe (some (.int (u_to I lv dd c))) I ρ) := by
  show sm_V G xX10_unlikeTo (d + 1) 0 [.ref mM, .int (nI dd), .int (nI c), .retAddr 0, .retAddr 0] [] I ρ _
  refine wp_iconst (nI 0) 1 rfl dX10_unlikeTo_0 (by decide) ?_
  refine wp_istore3 2 rfl dX10_unlikeTo_1 (by decide) rfl ?_
  refine wp_iconst (nI 0) 3 rfl dX10_unlikeTo_2 (by decide) ?_
  refine wp_istore4 5 rfl dX10_unlikeTo_3 (by decide) rfl ?_
  refine sm_for (P := fun p => sm_V G xX10_unlikeTo (d + 1) 5 [.ref mM, .int (nI dd), .int (nI c), .int (z_sum (fun p => z_off (I m_row (4 * dd + p)) (I m_faceOf (20 * lv + 4 * c + p))) p), .int (nI p)] [] I ρ _) 0 4 (nl rfl) ?_ (fun p _ hp ih => ?_)
  · refine wp_iload4 7 rfl dX10_unlikeTo_5 ?_
    refine wp_iconst (nI 4) 8 rfl dX10_unlikeTo_7 (by decide) ?_
    refine wp_icmp_ge 11 41 rfl rfl dX10_unlikeTo_8 (fun c8 => ?_) (fun c8 => absurd (nI_le (Nat.le_refl 4) (by decide)) c8)
    refine wp_iload3 42 rfl dX10_unlikeTo_41 ?_
    refine wp_iret dX10_unlikeTo_42 rfl ?_
    exact sm_ei rfl
  · refine wp_iload4 7 rfl dX10_unlikeTo_5 ?_
    refine wp_iconst (nI 4) 8 rfl dX10_unlikeTo_7 (by decide) ?_
    refine wp_icmp_ge 11 41 rfl rfl dX10_unlikeTo_8 (fun c8 => absurd c8 (nI_ge hp (by decide))) (fun c8 => ?_)
    refine wp_iload3 12 rfl dX10_unlikeTo_11 ?_
    refine wp_aload0 13 rfl dX10_unlikeTo_12 ?_
    refine wp_getr 16 rfl dX10_unlikeTo_13 fX10_122_10 (md_M hm) (mp_row hm) ?_
    refine wp_iconst (nI 4) 17 rfl dX10_unlikeTo_16 (by decide) ?_
    refine wp_iload1 18 rfl dX10_unlikeTo_17 ?_
    refine wp_imul 19 rfl dX10_unlikeTo_18 ?_
    refine wp_iload4 21 rfl dX10_unlikeTo_19 ?_
    refine wp_iadd 22 rfl dX10_unlikeTo_21 ?_
    refine wp_iald 23 rfl dX10_unlikeTo_22 (ms_row hm) (4 * dd + p) (by first | rfl | simp only [pk_mul, nI_add]) (⟨by omega, by decide⟩) ?_
    refine wp_aload0 24 rfl dX10_unlikeTo_23 ?_
    refine wp_iload2 25 rfl dX10_unlikeTo_24 ?_
    refine wp_iload4 27 rfl dX10_unlikeTo_25 ?_
    refine wp_Ve2 30 rfl dX10_unlikeTo_27 kX10_facePart lX10_333 (md_M hm) (nl rfl) (nl rfl) (s_facePart hm lv c p hl hlv hc hp) ?_
    refine wp_Se2 33 rfl dX10_unlikeTo_30 kX10_off lX10_336 (nl rfl) (nl rfl) (s_off _ _) ?_
    refine wp_iadd 34 rfl dX10_unlikeTo_33 ?_
    refine wp_istore3 35 rfl dX10_unlikeTo_34 (by decide) rfl ?_
    refine wp_iincN4 38 rfl dX10_unlikeTo_35 (by decide) rfl ?_
    refine wp_goto 5 rfl dX10_unlikeTo_38 ?_
    exact ih
theorem s_unlikeFirst (hm : md ρ) (lv dd : Nat) (hl : I mM 18 = nI lv) (hlv : lv < 2) (hd : dd < 6) : sm_M G xX10_unlikeFirst (d + 1) [.ref mM, .int (nI dd)] I ρ (sm_Qe (some (.int (u_fi I lv dd))) I ρ) := by
  show sm_V G xX10_unlikeFirst (d + 1) 0 [.ref mM, .int (nI dd), .retAddr 0, .retAddr 0] [] I ρ _
  refine wp_iconst (nI 0) 1 rfl dX10_unlikeFirst_0 (by decide) ?_
  refine wp_istore2 2 rfl dX10_unlikeFirst_1 (by decide) rfl ?_
  refine wp_iconst (nI 0) 3 rfl dX10_unlikeFirst_2 (by decide) ?_
  refine wp_istore3 4 rfl dX10_unlikeFirst_3 (by decide) rfl ?_
  refine sm_for (P := fun p => sm_V G xX10_unlikeFirst (d + 1) 4 [.ref mM, .int (nI dd), .int (z_sum (fun p => z_off (I m_row (4 * dd + p)) (I m_firstFace (24 * lv + 4 * dd + p))) p), .int (nI p)] [] I ρ _) 0 4 (nl rfl) ?_ (fun p _ hp ih => ?_)
  · refine wp_iload3 5 rfl dX10_unlikeFirst_4 ?_
    refine wp_iconst (nI 4) 6 rfl dX10_unlikeFirst_5 (by decide) ?_
    refine wp_icmp_ge 9 37 rfl rfl dX10_unlikeFirst_6 (fun c6 => ?_) (fun c6 => absurd (nI_le (Nat.le_refl 4) (by decide)) c6)
    refine wp_iload2 38 rfl dX10_unlikeFirst_37 ?_
    refine wp_iret dX10_unlikeFirst_38 rfl ?_
    exact sm_ei rfl
  · refine wp_iload3 5 rfl dX10_unlikeFirst_4 ?_
    refine wp_iconst (nI 4) 6 rfl dX10_unlikeFirst_5 (by decide) ?_
    refine wp_icmp_ge 9 37 rfl rfl dX10_unlikeFirst_6 (fun c6 => absurd c6 (nI_ge hp (by decide))) (fun c6 => ?_)
    refine wp_iload2 10 rfl dX10_unlikeFirst_9 ?_
    refine wp_aload0 11 rfl dX10_unlikeFirst_10 ?_
    refine wp_getr 14 rfl dX10_unlikeFirst_11 fX10_122_10 (md_M hm) (mp_row hm) ?_
    refine wp_iconst (nI 4) 15 rfl dX10_unlikeFirst_14 (by decide) ?_
    refine wp_iload1 16 rfl dX10_unlikeFirst_15 ?_
    refine wp_imul 17 rfl dX10_unlikeFirst_16 ?_
    refine wp_iload3 18 rfl dX10_unlikeFirst_17 ?_
    refine wp_iadd 19 rfl dX10_unlikeFirst_18 ?_
    refine wp_iald 20 rfl dX10_unlikeFirst_19 (ms_row hm) (4 * dd + p) (by first | rfl | simp only [pk_mul, nI_add]) (⟨by omega, by decide⟩) ?_
    refine wp_aload0 21 rfl dX10_unlikeFirst_20 ?_
    refine wp_iload1 22 rfl dX10_unlikeFirst_21 ?_
    refine wp_iload3 23 rfl dX10_unlikeFirst_22 ?_
    refine wp_Ve2 26 rfl dX10_unlikeFirst_23 kX10_firstPart lX10_339 (md_M hm) (nl rfl) (nl rfl) (s_firstPart hm lv dd p hl hlv hd hp) ?_
    refine wp_Se2 29 rfl dX10_unlikeFirst_26 kX10_off lX10_336 (nl rfl) (nl rfl) (s_off _ _) ?_
    refine wp_iadd 30 rfl dX10_unlikeFirst_29 ?_
    refine wp_istore2 31 rfl dX10_unlikeFirst_30 (by decide) rfl ?_
    refine wp_iincN3 34 rfl dX10_unlikeFirst_31 (by decide) rfl ?_
    refine wp_goto 4 rfl dX10_unlikeFirst_34 ?_
    exact ih
def z_knS (u : Nat → Int32) (nr : Int32) (c : Nat) (s : Int32 × Int32) : Int32 × Int32 := if nr < u c then s else if s.1 < 0 then (nI c, u c) else if u c < s.2 then (nI c, u c) else s
def z_kn (u : Nat → Int32) (nr : Int32) : Nat → Int32 × Int32
  | 0 => (-2, nI 0)
  | c + 1 => z_knS u nr c (z_kn u nr c)
/-- by whom a door is known, by the row -/
abbrev k_by (I : sm_I) (lv C dd : Nat) : Int32 := (z_kn (fun c => u_to I lv dd c) (I m_near lv) C).1
theorem s_knownBy (hm : md ρ) (lv dd C : Nat) (hl : I mM 18 = nI lv) (hlv : lv < 2) (hd : dd < 6) (hC : I m_callers lv = nI C) (hC5 : C ≤ 5) : sm_M G xX10_knownBy (d + 2) [.ref mM, .int (nI dd)] I ρ (sm_Qe (some (.int (k_by I lv C dd))) I ρ) := by
  show sm_V G xX10_knownBy (d + 2) 0 [.ref mM, .int (nI dd), .retAddr 0, .retAddr 0, .retAddr 0, .retAddr 0] [] I ρ _
  refine wp_bipush (-2) 2 rfl dX10_knownBy_0 (by decide) ?_
  refine wp_istore2 3 rfl dX10_knownBy_2 (by decide) rfl ?_
  refine wp_iconst (nI 0) 4 rfl dX10_knownBy_3 (by decide) ?_
  refine wp_istore3 5 rfl dX10_knownBy_4 (by decide) rfl ?_
  refine wp_iconst (nI 0) 6 rfl dX10_knownBy_5 (by decide) ?_
  refine wp_istore4 8 rfl dX10_knownBy_6 (by decide) rfl ?_
  refine sm_for (P := fun c => sm_V G xX10_knownBy (d + 2) 8 [.ref mM, .int (nI dd), .int (z_kn (fun c => u_to I lv dd c) (I m_near lv) c).1, .int (z_kn (fun c => u_to I lv dd c) (I m_near lv) c).2, .int (nI c), .retAddr 0] [] I ρ _) 0 C (Nat.zero_le _) ?_ (fun c _ hc ih => ?_)
  · refine wp_iload4 10 rfl dX10_knownBy_8 ?_
    refine wp_aload0 11 rfl dX10_knownBy_10 ?_
    refine wp_getr 14 rfl dX10_knownBy_11 fX10_52_10 (md_M hm) (mp_callers hm) ?_
    refine wp_aload0 15 rfl dX10_knownBy_14 ?_
    refine wp_geti 18 rfl dX10_knownBy_15 fX10_233_10 (md_M hm) ?_
    refine wp_iald 19 rfl dX10_knownBy_18 (ms_callers hm) (lv) (hl) (⟨by omega, by decide⟩) ?_
    refine wp_icmp_ge 22 70 rfl rfl dX10_knownBy_19 (fun c19 => ?_) (fun c19 => absurd (by rw [hC]; exact nI_le (Nat.le_refl C) (by omega)) c19)
    refine wp_iload2 71 rfl dX10_knownBy_70 ?_
    refine wp_iret dX10_knownBy_71 rfl ?_
    exact sm_ei rfl
  · refine wp_iload4 10 rfl dX10_knownBy_8 ?_
    refine wp_aload0 11 rfl dX10_knownBy_10 ?_
    refine wp_getr 14 rfl dX10_knownBy_11 fX10_52_10 (md_M hm) (mp_callers hm) ?_
    refine wp_aload0 15 rfl dX10_knownBy_14 ?_
    refine wp_geti 18 rfl dX10_knownBy_15 fX10_233_10 (md_M hm) ?_
    refine wp_iald 19 rfl dX10_knownBy_18 (ms_callers hm) (lv) (hl) (⟨by omega, by decide⟩) ?_
    refine wp_icmp_ge 22 70 rfl rfl dX10_knownBy_19 (fun c19 => absurd c19 (by rw [hC]; exact nI_ge hc (by omega))) (fun c19 => ?_)
    refine wp_aload0 23 rfl dX10_knownBy_22 ?_
    refine wp_iload1 24 rfl dX10_knownBy_23 ?_
    refine wp_iload4 26 rfl dX10_knownBy_24 ?_
    refine wp_Ve2 29 rfl dX10_knownBy_26 kX10_unlikeTo lX10_342 (md_M hm) (nl rfl) (nl rfl) (s_unlikeTo hm lv dd c hl hlv hd (by omega)) ?_
    refine wp_istore5 31 rfl dX10_knownBy_29 (by decide) rfl ?_
    refine wp_iload5 33 rfl dX10_knownBy_31 ?_
    refine wp_aload0 34 rfl dX10_knownBy_33 ?_
    refine wp_getr 37 rfl dX10_knownBy_34 fX10_76_10 (md_M hm) (mp_near hm) ?_
    refine wp_aload0 38 rfl dX10_knownBy_37 ?_
    refine wp_geti 41 rfl dX10_knownBy_38 fX10_233_10 (md_M hm) ?_
    refine wp_iald 42 rfl dX10_knownBy_41 (ms_near hm) (lv) (hl) (⟨by omega, by decide⟩) ?_
    have key : sm_V G xX10_knownBy (d + 2) 64 [.ref mM, .int (nI dd), .int (z_kn (fun c => u_to I lv dd c) (I m_near lv) (c + 1)).1, .int (z_kn (fun c => u_to I lv dd c) (I m_near lv) (c + 1)).2, .int (nI c), .int (u_to I lv dd c)] [] I ρ (sm_Qe (some (.int (k_by I lv C dd))) I ρ) := by
      refine wp_iincN4 67 rfl dX10_knownBy_64 (by decide) rfl ?_
      refine wp_goto 8 rfl dX10_knownBy_67 ?_
      exact wp_weakK ih ⟨Or.inr rfl, Or.inr rfl, Or.inr rfl, Or.inr rfl, Or.inr rfl, Or.inl rfl, trivial⟩
    have e1 : z_kn (fun c => u_to I lv dd c) (I m_near lv) (c + 1) = z_knS (fun c => u_to I lv dd c) (I m_near lv) c (z_kn (fun c => u_to I lv dd c) (I m_near lv) c) := rfl
    unfold z_knS at e1
    refine wp_icmp_gt 45 64 rfl rfl dX10_knownBy_42 (fun c42 => ?_) (fun c42 => ?_)
    · rw [e1, if_pos c42] at key
      exact key
    · rw [if_neg c42] at e1
      refine wp_iload2 46 rfl dX10_knownBy_45 ?_
      refine wp_if_lt 49 58 rfl rfl dX10_knownBy_46 (fun c46 => ?_) (fun c46 => ?_)
      · rw [e1, if_pos c46] at key
        refine wp_iload4 60 rfl dX10_knownBy_58 ?_
        refine wp_istore2 61 rfl dX10_knownBy_60 (by decide) rfl ?_
        refine wp_iload5 63 rfl dX10_knownBy_61 ?_
        refine wp_istore3 64 rfl dX10_knownBy_63 (by decide) rfl ?_
        exact key
      · rw [if_neg c46] at e1
        refine wp_iload5 51 rfl dX10_knownBy_49 ?_
        refine wp_iload3 52 rfl dX10_knownBy_51 ?_
        refine wp_icmp_lt 55 58 rfl rfl dX10_knownBy_52 (fun c52 => ?_) (fun c52 => ?_)
        · rw [e1, if_pos c52] at key
          refine wp_iload4 60 rfl dX10_knownBy_58 ?_
          refine wp_istore2 61 rfl dX10_knownBy_60 (by decide) rfl ?_
          refine wp_iload5 63 rfl dX10_knownBy_61 ?_
          refine wp_istore3 64 rfl dX10_knownBy_63 (by decide) rfl ?_
          exact key
        · rw [e1, if_neg c52] at key
          refine wp_goto 64 rfl dX10_knownBy_55 ?_
          exact key
def z_tow (v t b : Int32) : Int32 := if v < t then v + b else v - b
theorem s_towardsBy (v t b : Int32) : sm_M G xX10_towardsBy d [.int v, .int t, .int b] I ρ (sm_Qe (some (.int (z_tow v t b))) I ρ) := by
  show sm_V G xX10_towardsBy d 0 [.int v, .int t, .int b] [] I ρ _
  refine wp_iload0 1 rfl dX10_towardsBy_0 ?_
  refine wp_iload1 2 rfl dX10_towardsBy_1 ?_
  refine wp_icmp_ge 5 11 rfl rfl dX10_towardsBy_2 (fun c2 => ?_) (fun c2 => ?_)
  · refine wp_iload0 12 rfl dX10_towardsBy_11 ?_
    refine wp_iload2 13 rfl dX10_towardsBy_12 ?_
    refine wp_isub 14 rfl dX10_towardsBy_13 ?_
    refine wp_iret dX10_towardsBy_14 rfl ?_
    exact sm_ei (if_neg (i_lt_le c2)).symm
  · refine wp_iload0 6 rfl dX10_towardsBy_5 ?_
    refine wp_iload2 7 rfl dX10_towardsBy_6 ?_
    refine wp_iadd 8 rfl dX10_towardsBy_7 ?_
    refine wp_goto 14 rfl dX10_towardsBy_8 ?_
    refine wp_iret dX10_towardsBy_14 rfl ?_
    exact sm_ei (if_pos (i_nle c2)).symm
/-- a round is due -/
abbrev z_due (f e day : Int32) : Prop := f ≤ day ∧ (day - f) - (day - f) / e * e = 0
theorem s_isDue (hm : md ρ) (lv r : Nat) (day : Int32) (hl : I mM 18 = nI lv) (hlv : lv < 2) (hr : r < 10) (he : ¬ I m_everyOf (10 * lv + r) = 0) : sm_M G xX10_isDue d [.ref mM, .int (nI r), .int day] I ρ (sm_Qe (some (.int (z_b (z_due (I m_fromOf (10 * lv + r)) (I m_everyOf (10 * lv + r)) day)))) I ρ) := by
  show sm_V G xX10_isDue d 0 [.ref mM, .int (nI r), .int day, .retAddr 0] [] I ρ _
  refine wp_aload0 1 rfl dX10_isDue_0 ?_
  refine wp_getr 4 rfl dX10_isDue_1 fX10_70_10 (md_M hm) (mp_fromOf hm) ?_
  refine wp_bipush (nI 10) 6 rfl dX10_isDue_4 (by decide) ?_
  refine wp_aload0 7 rfl dX10_isDue_6 ?_
  refine wp_geti 10 rfl dX10_isDue_7 fX10_233_10 (md_M hm) ?_
  refine wp_imul 11 rfl dX10_isDue_10 ?_
  refine wp_iload1 12 rfl dX10_isDue_11 ?_
  refine wp_iadd 13 rfl dX10_isDue_12 ?_
  refine wp_iald 14 rfl dX10_isDue_13 (ms_fromOf hm) (10 * lv + r) (by rw [hl]; simp only [pk_mul, nI_add]) (⟨by omega, by decide⟩) ?_
  refine wp_istore3 15 rfl dX10_isDue_14 (by decide) rfl ?_
  refine wp_iload2 16 rfl dX10_isDue_15 ?_
  refine wp_iload3 17 rfl dX10_isDue_16 ?_
  refine wp_icmp_lt 20 45 rfl rfl dX10_isDue_17 (fun c17 => ?_) (fun c17 => ?_)
  · refine wp_iconst (nI 0) 46 rfl dX10_isDue_45 (by decide) ?_
    refine wp_zret dX10_isDue_46 rfl (rfl) ?_
    exact sm_ei (z_bf (fun h => i_lt_le h.1 c17)).symm
  · refine wp_iload2 21 rfl dX10_isDue_20 ?_
    refine wp_iload3 22 rfl dX10_isDue_21 ?_
    refine wp_isub 23 rfl dX10_isDue_22 ?_
    refine wp_aload0 24 rfl dX10_isDue_23 ?_
    refine wp_getr 27 rfl dX10_isDue_24 fX10_67_10 (md_M hm) (mp_everyOf hm) ?_
    refine wp_bipush (nI 10) 29 rfl dX10_isDue_27 (by decide) ?_
    refine wp_aload0 30 rfl dX10_isDue_29 ?_
    refine wp_geti 33 rfl dX10_isDue_30 fX10_233_10 (md_M hm) ?_
    refine wp_imul 34 rfl dX10_isDue_33 ?_
    refine wp_iload1 35 rfl dX10_isDue_34 ?_
    refine wp_iadd 36 rfl dX10_isDue_35 ?_
    refine wp_iald 37 rfl dX10_isDue_36 (ms_everyOf hm) (10 * lv + r) (by rw [hl]; simp only [pk_mul, nI_add]) (⟨by omega, by decide⟩) ?_
    refine wp_irem 38 rfl dX10_isDue_37 (he) ?_
    refine wp_if_ne 41 45 rfl rfl dX10_isDue_38 (fun c38 => ?_) (fun c38 => ?_)
    · refine wp_iconst (nI 0) 46 rfl dX10_isDue_45 (by decide) ?_
      refine wp_zret dX10_isDue_46 rfl (rfl) ?_
      exact sm_ei (z_bf (fun h => c38 h.2)).symm
    · refine wp_iconst (nI 1) 42 rfl dX10_isDue_41 (by decide) ?_
      refine wp_goto 46 rfl dX10_isDue_42 ?_
      refine wp_zret dX10_isDue_46 rfl (rfl) ?_
      exact sm_ei (z_bt ⟨i_nlt c17, c38⟩).symm
theorem z_bn {p : Prop} [Decidable p] : narrow .boolean (.int (z_b p)) = .int (z_b p) := by
  unfold z_b
  by_cases h : p
  · rw [if_pos h]; rfl
  · rw [if_neg h]; rfl
theorem s_isDoor (hm : md ρ) (lv : Nat) (x : Int32) (hl : I mM 18 = nI lv) (hlv : lv < 2) : sm_M G xX10_isDoor (d + 1) [.ref mM, .int x] I ρ (sm_Qe (some (.int (z_b (nI 0 ≤ x ∧ x ≤ I m_doors lv - nI 1)))) I ρ) := by
  show sm_V G xX10_isDoor (d + 1) 0 [.ref mM, .int x] [] I ρ _
  refine wp_iload1 1 rfl dX10_isDoor_0 ?_
  refine wp_iconst (nI 0) 2 rfl dX10_isDoor_1 (by decide) ?_
  refine wp_aload0 3 rfl dX10_isDoor_2 ?_
  refine wp_getr 6 rfl dX10_isDoor_3 fX10_46_10 (md_M hm) (mp_doors hm) ?_
  refine wp_aload0 7 rfl dX10_isDoor_6 ?_
  refine wp_geti 10 rfl dX10_isDoor_7 fX10_233_10 (md_M hm) ?_
  refine wp_iald 11 rfl dX10_isDoor_10 (ms_doors hm) (lv) (hl) (⟨by omega, by decide⟩) ?_
  refine wp_iconst (nI 1) 12 rfl dX10_isDoor_11 (by decide) ?_
  refine wp_isub 13 rfl dX10_isDoor_12 ?_
  refine wp_Se3 16 rfl dX10_isDoor_13 kX10_in lX10_313 (nl rfl) (nl rfl) (s_in _ _ _) ?_
  refine wp_zret dX10_isDoor_16 rfl (z_bn) ?_
  exact sm_ei rfl
theorem s_isCaller (hm : md ρ) (lv : Nat) (x : Int32) (hl : I mM 18 = nI lv) (hlv : lv < 2) : sm_M G xX10_isCaller (d + 1) [.ref mM, .int x] I ρ (sm_Qe (some (.int (z_b (nI 0 ≤ x ∧ x ≤ I m_callers lv - nI 1)))) I ρ) := by
  show sm_V G xX10_isCaller (d + 1) 0 [.ref mM, .int x] [] I ρ _
  refine wp_iload1 1 rfl dX10_isCaller_0 ?_
  refine wp_iconst (nI 0) 2 rfl dX10_isCaller_1 (by decide) ?_
  refine wp_aload0 3 rfl dX10_isCaller_2 ?_
  refine wp_getr 6 rfl dX10_isCaller_3 fX10_52_10 (md_M hm) (mp_callers hm) ?_
  refine wp_aload0 7 rfl dX10_isCaller_6 ?_
  refine wp_geti 10 rfl dX10_isCaller_7 fX10_233_10 (md_M hm) ?_
  refine wp_iald 11 rfl dX10_isCaller_10 (ms_callers hm) (lv) (hl) (⟨by omega, by decide⟩) ?_
  refine wp_iconst (nI 1) 12 rfl dX10_isCaller_11 (by decide) ?_
  refine wp_isub 13 rfl dX10_isCaller_12 ?_
  refine wp_Se3 16 rfl dX10_isCaller_13 kX10_in lX10_313 (nl rfl) (nl rfl) (s_in _ _ _) ?_
  refine wp_zret dX10_isCaller_16 rfl (z_bn) ?_
  exact sm_ei rfl
theorem s_isRound (hm : md ρ) (lv : Nat) (x : Int32) (hl : I mM 18 = nI lv) (hlv : lv < 2) : sm_M G xX10_isRound (d + 1) [.ref mM, .int x] I ρ (sm_Qe (some (.int (z_b (nI 0 ≤ x ∧ x ≤ I m_rounds lv - nI 1)))) I ρ) := by
  show sm_V G xX10_isRound (d + 1) 0 [.ref mM, .int x] [] I ρ _
  refine wp_iload1 1 rfl dX10_isRound_0 ?_
  refine wp_iconst (nI 0) 2 rfl dX10_isRound_1 (by decide) ?_
  refine wp_aload0 3 rfl dX10_isRound_2 ?_
  refine wp_getr 6 rfl dX10_isRound_3 fX10_58_10 (md_M hm) (mp_rounds hm) ?_
  refine wp_aload0 7 rfl dX10_isRound_6 ?_
  refine wp_geti 10 rfl dX10_isRound_7 fX10_233_10 (md_M hm) ?_
  refine wp_iald 11 rfl dX10_isRound_10 (ms_rounds hm) (lv) (hl) (⟨by omega, by decide⟩) ?_
  refine wp_iconst (nI 1) 12 rfl dX10_isRound_11 (by decide) ?_
  refine wp_isub 13 rfl dX10_isRound_12 ?_
  refine wp_Se3 16 rfl dX10_isRound_13 kX10_in lX10_313 (nl rfl) (nl rfl) (s_in _ _ _) ?_
  refine wp_zret dX10_isRound_16 rfl (z_bn) ?_
  exact sm_ei rfl
def z_mix (h v : Int32) : Int32 := ((h ^^^ v) * 1103515245 + nI 12345) ^^^ (((h ^^^ v) * 1103515245 + nI 12345).toUInt32 >>> ((nI 15).toUInt32 &&& Int32.toUInt32 31)).toInt32
theorem s_mixed (h v : Int32) : sm_M G xX10_mixed d [.int h, .int v] I ρ (sm_Qe (some (.int (z_mix h v))) I ρ) := by
  show sm_V G xX10_mixed d 0 [.int h, .int v, .retAddr 0] [] I ρ _
  refine wp_iload0 1 rfl dX10_mixed_0 ?_
  refine wp_iload1 2 rfl dX10_mixed_1 ?_
  refine wp_ixor 3 rfl dX10_mixed_2 ?_
  refine wp_ldcw 6 rfl dX10_mixed_3 q1987 ?_
  refine wp_imul 7 rfl dX10_mixed_6 ?_
  refine wp_sipush (nI 12345) 10 rfl dX10_mixed_7 (by decide) ?_
  refine wp_iadd 11 rfl dX10_mixed_10 ?_
  refine wp_istore2 12 rfl dX10_mixed_11 (by decide) rfl ?_
  refine wp_iload2 13 rfl dX10_mixed_12 ?_
  refine wp_iload2 14 rfl dX10_mixed_13 ?_
  refine wp_bipush (nI 15) 16 rfl dX10_mixed_14 (by decide) ?_
  refine wp_iushr 17 rfl dX10_mixed_16 ?_
  refine wp_ixor 18 rfl dX10_mixed_17 ?_
  refine wp_iret dX10_mixed_18 rfl ?_
  exact sm_ei rfl
def z_lot (s w n : Int32) : Int32 := ((z_mix (z_mix s (nI 151)) w).toUInt32 >>> ((nI 1).toUInt32 &&& Int32.toUInt32 31)).toInt32 - ((z_mix (z_mix s (nI 151)) w).toUInt32 >>> ((nI 1).toUInt32 &&& Int32.toUInt32 31)).toInt32 / n * n
theorem s_lotOf (hm : md ρ) (w n : Int32) (hn : ¬ n = 0) : sm_M G xX10_lotOf (d + 1) [.ref mM, .int w, .int n] I ρ (sm_Qe (some (.int (z_lot (I mM 53) w n))) I ρ) := by
  show sm_V G xX10_lotOf (d + 1) 0 [.ref mM, .int w, .int n] [] I ρ _
  refine wp_aload0 1 rfl dX10_lotOf_0 ?_
  refine wp_geti 4 rfl dX10_lotOf_1 fX10_317_10 (md_M hm) ?_
  refine wp_sipush (nI 151) 7 rfl dX10_lotOf_4 (by decide) ?_
  refine wp_Se2 10 rfl dX10_lotOf_7 kX10_mixed lX10_327 (nl rfl) (nl rfl) (s_mixed _ _) ?_
  refine wp_iload1 11 rfl dX10_lotOf_10 ?_
  refine wp_Se2 14 rfl dX10_lotOf_11 kX10_mixed lX10_327 (nl rfl) (nl rfl) (s_mixed _ _) ?_
  refine wp_iconst (nI 1) 15 rfl dX10_lotOf_14 (by decide) ?_
  refine wp_iushr 16 rfl dX10_lotOf_15 ?_
  refine wp_iload2 17 rfl dX10_lotOf_16 ?_
  refine wp_irem 18 rfl dX10_lotOf_17 (hn) ?_
  refine wp_iret dX10_lotOf_18 rfl ?_
  exact sm_ei rfl
theorem s_isWind (hm : md ρ) (lv : Nat) (hl : I mM 18 = nI lv) (hlv : lv < 2) : sm_M G xX10_isWind (d + 2) [.ref mM] I ρ (sm_Qe (some (.int (z_b (z_lot (I mM 53) (nI 16 * I m_row 69) (nI 100) < I m_wind lv)))) I ρ) := by
  show sm_V G xX10_isWind (d + 2) 0 [.ref mM] [] I ρ _
  refine wp_aload0 1 rfl dX10_isWind_0 ?_
  refine wp_bipush (nI 16) 3 rfl dX10_isWind_1 (by decide) ?_
  refine wp_aload0 4 rfl dX10_isWind_3 ?_
  refine wp_getr 7 rfl dX10_isWind_4 fX10_122_10 (md_M hm) (mp_row hm) ?_
  refine wp_bipush (nI 69) 9 rfl dX10_isWind_7 (by decide) ?_
  refine wp_iald 10 rfl dX10_isWind_9 (ms_row hm) (69) (by first | rfl | simp only [pk_mul, nI_add]) (⟨by omega, by decide⟩) ?_
  refine wp_imul 11 rfl dX10_isWind_10 ?_
  refine wp_bipush (nI 100) 13 rfl dX10_isWind_11 (by decide) ?_
  refine wp_Ve2 16 rfl dX10_isWind_13 kX10_lotOf lX10_330 (md_M hm) (nl rfl) (nl rfl) (s_lotOf hm _ _ (by decide)) ?_
  refine wp_aload0 17 rfl dX10_isWind_16 ?_
  refine wp_getr 20 rfl dX10_isWind_17 fX10_73_10 (md_M hm) (mp_wind hm) ?_
  refine wp_aload0 21 rfl dX10_isWind_20 ?_
  refine wp_geti 24 rfl dX10_isWind_21 fX10_233_10 (md_M hm) ?_
  refine wp_iald 25 rfl dX10_isWind_24 (ms_wind hm) (lv) (hl) (⟨by omega, by decide⟩) ?_
  refine wp_icmp_ge 28 32 rfl rfl dX10_isWind_25 (fun c25 => ?_) (fun c25 => ?_)
  · refine wp_iconst (nI 0) 33 rfl dX10_isWind_32 (by decide) ?_
    refine wp_zret dX10_isWind_33 rfl (rfl) ?_
    exact sm_ei (z_bf (i_lt_le c25)).symm
  · refine wp_iconst (nI 1) 29 rfl dX10_isWind_28 (by decide) ?_
    refine wp_goto 33 rfl dX10_isWind_29 ?_
    refine wp_zret dX10_isWind_33 rfl (rfl) ?_
    exact sm_ei (z_bt (i_nle c25)).symm
/-- row := now; the seed; wind blows -/
def M_cp (I : sm_I) (lv : Nat) : sm_I := sm_u (sm_u (sm_a I m_row (z_cpy (I m_now) (I m_row) 70)) mM 53 (I m_seed lv)) mM 54 (nI 0)
theorem s_copies (hm : md ρ) (lv : Nat) (hl : I mM 18 = nI lv) (hlv : lv < 2) : sm_M G xX10_copies d [.ref mM] I ρ (sm_Qe none (M_cp I lv) ρ) := by
  show sm_V G xX10_copies d 0 [.ref mM, .retAddr 0] [] I ρ _
  refine wp_iconst (nI 0) 1 rfl dX10_copies_0 (by decide) ?_
  refine wp_istore1 2 rfl dX10_copies_1 (by decide) rfl ?_
  have h0 : I = sm_a I m_row (z_cpy (I m_now) (I m_row) 0) := by rw [z_cpy_0, sm_a_self]
  suffices h : sm_V G xX10_copies d 2 [.ref mM, .int (nI 0)] [] (sm_a I m_row (z_cpy (I m_now) (I m_row) 0)) ρ (sm_Qe none (M_cp I lv) ρ) by rw [← h0] at h; exact h
  refine sm_for (P := fun p => sm_V G xX10_copies d 2 [.ref mM, .int (nI p)] [] (sm_a I m_row (z_cpy (I m_now) (I m_row) p)) ρ _) 0 70 (nl rfl) ?_ (fun p _ hp ih => ?_)
  · refine wp_iload1 3 rfl dX10_copies_2 ?_
    refine wp_bipush (nI 70) 5 rfl dX10_copies_3 (by decide) ?_
    refine wp_icmp_ge 8 26 rfl rfl dX10_copies_5 (fun c5 => ?_) (fun c5 => absurd (nI_le (Nat.le_refl 70) (by decide)) c5)
    refine wp_aload0 27 rfl dX10_copies_26 ?_
    refine wp_aload0 28 rfl dX10_copies_27 ?_
    refine wp_getr 31 rfl dX10_copies_28 fX10_79_10 (md_M hm) (mp_seed hm) ?_
    refine wp_aload0 32 rfl dX10_copies_31 ?_
    refine wp_geti 35 rfl dX10_copies_32 fX10_233_10 (md_M hm) ?_
    refine wp_iald 36 rfl dX10_copies_35 (ms_seed hm) (lv) (hl) (⟨by omega, by decide⟩) ?_
    refine wp_puti 39 rfl dX10_copies_36 pX10_317_10 (md_M hm) ⟨rfl, rfl⟩ ?_
    refine wp_aload0 40 rfl dX10_copies_39 ?_
    refine wp_iconst (nI 0) 41 rfl dX10_copies_40 (by decide) ?_
    refine wp_puti 44 rfl dX10_copies_41 pX10_320_10 (md_M hm) (⟨rfl, rfl⟩) ?_
    refine wp_vret dX10_copies_44 rfl ?_
    exact ⟨rfl, rfl, rfl⟩
  · refine wp_iload1 3 rfl dX10_copies_2 ?_
    refine wp_bipush (nI 70) 5 rfl dX10_copies_3 (by decide) ?_
    refine wp_icmp_ge 8 26 rfl rfl dX10_copies_5 (fun c5 => absurd c5 (nI_ge hp (by decide))) (fun c5 => ?_)
    refine wp_aload0 9 rfl dX10_copies_8 ?_
    refine wp_getr 12 rfl dX10_copies_9 fX10_122_10 (md_M hm) (mp_row hm) ?_
    refine wp_iload1 13 rfl dX10_copies_12 ?_
    refine wp_aload0 14 rfl dX10_copies_13 ?_
    refine wp_getr 17 rfl dX10_copies_14 fX10_119_10 (md_M hm) (mp_now hm) ?_
    refine wp_iload1 18 rfl dX10_copies_17 ?_
    refine wp_iald 19 rfl dX10_copies_18 (ms_now hm) (p) (by first | rfl | simp only [pk_mul, nI_add]) (⟨by omega, by decide⟩) ?_
    refine wp_iast 20 rfl dX10_copies_19 (ms_row hm) (p) (by first | rfl | simp only [pk_mul, nI_add]) (⟨by omega, by decide⟩) ?_
    refine wp_iincN1 23 rfl dX10_copies_20 (by decide) rfl ?_
    refine wp_goto 2 rfl dX10_copies_23 ?_
    rw [sm_a_u, sm_a_ne _ _ (by decide), z_cpy_s]
    exact ih
theorem s_copiesStill (hm : md ρ) (lv : Nat) (hl : I mM 18 = nI lv) (hlv : lv < 2) : sm_M G xX10_copiesStill (d + 1) [.ref mM] I ρ (sm_Qe none (sm_u (M_cp I lv) mM 54 (nI 1)) ρ) := by
  show sm_V G xX10_copiesStill (d + 1) 0 [.ref mM] [] I ρ _
  refine wp_aload0 1 rfl dX10_copiesStill_0 ?_
  refine wp_Ve0 4 rfl dX10_copiesStill_1 kX10_copies lX10_323 (md_M hm) (nl rfl) (nl rfl) (s_copies hm lv hl hlv) ?_
  refine wp_aload0 5 rfl dX10_copiesStill_4 ?_
  refine wp_iconst (nI 1) 6 rfl dX10_copiesStill_5 (by decide) ?_
  refine wp_puti 9 rfl dX10_copiesStill_6 pX10_320_10 (md_M hm) (⟨rfl, rfl⟩) ?_
  refine wp_vret dX10_copiesStill_9 rfl ?_
  exact ⟨rfl, rfl, rfl⟩
theorem s_keepsRow (hm : md ρ) : sm_M G xX10_keepsRow d [.ref mM] I ρ (sm_Qe none (sm_a I m_now (z_cpy (I m_row) (I m_now) 70)) ρ) := by
  show sm_V G xX10_keepsRow d 0 [.ref mM, .retAddr 0] [] I ρ _
  refine wp_iconst (nI 0) 1 rfl dX10_keepsRow_0 (by decide) ?_
  refine wp_istore1 2 rfl dX10_keepsRow_1 (by decide) rfl ?_
  have h0 : I = sm_a I m_now (z_cpy (I m_row) (I m_now) 0) := by rw [z_cpy_0, sm_a_self]
  suffices h : sm_V G xX10_keepsRow d 2 [.ref mM, .int (nI 0)] [] (sm_a I m_now (z_cpy (I m_row) (I m_now) 0)) ρ (sm_Qe none (sm_a I m_now (z_cpy (I m_row) (I m_now) 70)) ρ) by rw [← h0] at h; exact h
  refine sm_for (P := fun p => sm_V G xX10_keepsRow d 2 [.ref mM, .int (nI p)] [] (sm_a I m_now (z_cpy (I m_row) (I m_now) p)) ρ _) 0 70 (nl rfl) ?_ (fun p _ hp ih => ?_)
  · refine wp_iload1 3 rfl dX10_keepsRow_2 ?_
    refine wp_bipush (nI 70) 5 rfl dX10_keepsRow_3 (by decide) ?_
    refine wp_icmp_ge 8 26 rfl rfl dX10_keepsRow_5 (fun c5 => ?_) (fun c5 => absurd (nI_le (Nat.le_refl 70) (by decide)) c5)
    refine wp_vret dX10_keepsRow_26 rfl ?_
    exact ⟨rfl, rfl, rfl⟩
  · refine wp_iload1 3 rfl dX10_keepsRow_2 ?_
    refine wp_bipush (nI 70) 5 rfl dX10_keepsRow_3 (by decide) ?_
    refine wp_icmp_ge 8 26 rfl rfl dX10_keepsRow_5 (fun c5 => absurd c5 (nI_ge hp (by decide))) (fun c5 => ?_)
    refine wp_aload0 9 rfl dX10_keepsRow_8 ?_
    refine wp_getr 12 rfl dX10_keepsRow_9 fX10_119_10 (md_M hm) (mp_now hm) ?_
    refine wp_iload1 13 rfl dX10_keepsRow_12 ?_
    refine wp_aload0 14 rfl dX10_keepsRow_13 ?_
    refine wp_getr 17 rfl dX10_keepsRow_14 fX10_122_10 (md_M hm) (mp_row hm) ?_
    refine wp_iload1 18 rfl dX10_keepsRow_17 ?_
    refine wp_iald 19 rfl dX10_keepsRow_18 (ms_row hm) (p) (by first | rfl | simp only [pk_mul, nI_add]) (⟨by omega, by decide⟩) ?_
    refine wp_iast 20 rfl dX10_keepsRow_19 (ms_now hm) (p) (by first | rfl | simp only [pk_mul, nI_add]) (⟨by omega, by decide⟩) ?_
    refine wp_iincN1 23 rfl dX10_keepsRow_20 (by decide) rfl ?_
    refine wp_goto 2 rfl dX10_keepsRow_23 ?_
    rw [sm_a_u, sm_a_ne _ _ (by decide), z_cpy_s]
    exact ih
end M2
