/-! ===== tell, forget, hold, restore, feed, back, place ===== -/
set_option maxRecDepth 100000
def y_told (S : yS) (L : List (Nat × Nat × Int32)) : yS := (S.1, S.2.1, S.2.2.1, L, S.2.2.2.2)
def y_held (S : yS) (K : Nat → Option (Nat → Int32)) : yS := (S.1, S.2.1, S.2.2.1, S.2.2.2.1, K, S.2.2.2.2.2)
def y_tape (S : yS) (P : Nat × (Nat → Int32)) : yS := (S.1, S.2.1, S.2.2.1, S.2.2.2.1, S.2.2.2.2.1, P, S.2.2.2.2.2.2)
def y_tell (S : yS) (x p v : Int32) : Int32 × yS := match z_ix x (tx_D (y_T S)) with
  | none => (-1, S)
  | some d => match z_ix p 4 with
    | none => (-1, S)
    | some p => if ((-1 : Int32) ≤ v ∧ v ≤ nI 1) ∧ (y_D S).length < 20 then (nI (y_D S).length, y_told S (y_D S ++ [(d, p, v)])) else (-1, S)
def y_forget (S : yS) : Int32 × yS := (nI (y_D S).length, y_told S [])
def y_hold (S : yS) (s : Int32) : Int32 × yS := match z_ix s 3 with
  | none => (nI 0, S)
  | some s => (nI 1, y_held S (fun i => if i = s then some (y_w S) else y_K S i))
def y_restore (S : yS) (s : Int32) : Int32 × yS := match z_ix s 3 with
  | none => (nI 0, S)
  | some s => match y_K S s with
    | none => (nI 0, S)
    | some r => (nI 1, y_set S r [])
def yb (w : Int32) (k : Nat) : Int32 := (w >>> (nI k &&& 31)).toInt8.toInt32
def y_put (P : Nat × (Nat → Int32)) (w : Int32) : Nat × (Nat → Int32) := (P.1 + 4, upd (upd (upd (upd P.2 P.1 (yb w 24)) (P.1 + 1) (yb w 16)) (P.1 + 2) (yb w 8)) (P.1 + 3) (yb w 0))
def y_feed (S : yS) (a b c d e : Int32) : Int32 × yS := if (y_P S).1 + 20 ≤ 2000 then (nI ((y_P S).1 + 20), y_tape S (y_put (y_put (y_put (y_put (y_put (y_P S) a) b) c) d) e)) else (-1, S)
def y_back (S : yS) (n : Int32) : Int32 × yS := if nI 0 ≤ n ∧ n ≤ nI (y_P S).1 then (nI ((y_P S).1 - n.toNatClampNeg), y_tape S ((y_P S).1 - n.toNatClampNeg, (y_P S).2)) else (-1, S)
theorem mf.one {I : sm_I} {P : Nat × (Nat → Int32)} {v : Int32} (h : mP I P) (hl : P.1 + 1 ≤ 2000) : mf [m_tape] [2] I (sm_u (sm_u I m_tape P.1 v) mM 2 (I mM 2 + nI 1)) ∧ mP (sm_u (sm_u I m_tape P.1 v) mM 2 (I mM 2 + nI 1)) (P.1 + 1, upd P.2 P.1 v) := by
  refine ⟨(mf.u (by decide) (by decide)).tr (mf.uM (by decide)), ?_, hl, fun j hj => ?_⟩
  · rw [sm_u_eq, pk_us, h.1]
    exact nI_add _ 1
  · show _ = upd P.2 P.1 v j
    rw [sm_u_ne _ _ _ (by decide), sm_u_eq]
    by_cases e : j = P.1
    · rw [e, pk_us, pk_us]
    · rw [pk_un e, pk_un e]
      exact h.2.2 j (by have hj : j < P.1 + 1 := hj; omega)
section M21
variable {G : sm_G} {d : Nat} {I : sm_I} {ρ : sm_R}
theorem s_put (hm : md ρ) (P : Nat × (Nat → Int32)) (hP : mP I P) (h4 : P.1 + 4 ≤ 2000) (w : Int32) : sm_M G xX10_put d [.ref mM, .int w] I ρ (sm_Qv (fun I1 ρ1 => ρ1 = ρ ∧ mf [m_tape] [2] I I1 ∧ mP I1 (y_put P w))) := by
  show sm_V G xX10_put d 0 [.ref mM, .int w, .retAddr 0] [] I ρ _
  have step : ∀ (k : Int32) (J : sm_I) (R : Nat × (Nat → Int32)), ¬ k < 0 → mP J R → R.1 + 1 ≤ 2000 → (∀ J1, mf [m_tape] [2] J J1 → mP J1 (R.1 + 1, upd R.2 R.1 (w >>> (k &&& 31)).toInt8.toInt32) → sm_V G xX10_put d 3 [.ref mM, .int w, .int (k + (-8))] [] J1 ρ (sm_Qv (fun I1 ρ1 => ρ1 = ρ ∧ mf [m_tape] [2] I I1 ∧ mP I1 (y_put P w)))) → sm_V G xX10_put d 3 [.ref mM, .int w, .int k] [] J ρ (sm_Qv (fun I1 ρ1 => ρ1 = ρ ∧ mf [m_tape] [2] I I1 ∧ mP I1 (y_put P w))) := by
    intro k J R hk hJ hl kk
    obtain ⟨hf, hP1⟩ := mf.one (v := (w >>> (k &&& 31)).toInt8.toInt32) hJ hl
    refine wp_iload2 4 rfl dX10_put_3 ?_
    refine wp_if_lt 7 36 rfl rfl dX10_put_4 (fun c4 => absurd c4 (hk)) (fun c4 => ?_)
    refine wp_aload0 8 rfl dX10_put_7 ?_
    refine wp_getr 11 rfl dX10_put_8 fX10_13_10 (md_M hm) (mp_tape hm) ?_
    refine wp_aload0 12 rfl dX10_put_11 ?_
    refine wp_geti 15 rfl dX10_put_12 fX10_166_10 (md_M hm) ?_
    refine wp_iload1 16 rfl dX10_put_15 ?_
    refine wp_iload2 17 rfl dX10_put_16 ?_
    refine wp_ishr 18 rfl dX10_put_17 ?_
    refine wp_i2b 19 rfl dX10_put_18 ?_
    refine wp_bast 20 rfl dX10_put_19 (ms_tape hm) (R.1) (hJ.1) (⟨by omega, by decide⟩) ?_
    rw [pk_vb]
    refine wp_aload0 21 rfl dX10_put_20 ?_
    refine wp_dup 22 rfl dX10_put_21 rfl ?_
    refine wp_geti 25 rfl dX10_put_22 fX10_166_10 (md_M hm) ?_
    refine wp_iconst (nI 1) 26 rfl dX10_put_25 (by decide) ?_
    refine wp_iadd 27 rfl dX10_put_26 ?_
    refine wp_puti 30 rfl dX10_put_27 pX10_166_10 (md_M hm) ⟨rfl, rfl⟩ ?_
    refine wp_iinc2 33 rfl (-8) (by decide) dX10_put_30 (by decide) rfl ?_
    refine wp_goto 3 rfl dX10_put_33 ?_
    exact kk _ hf hP1
  refine wp_bipush (nI 24) 2 rfl dX10_put_0 (by decide) ?_
  refine wp_istore2 3 rfl dX10_put_2 (by decide) rfl ?_
  refine step (nI 24) I P (by decide) hP (by omega) (fun J1 hf1 hP1 => ?_)
  rw [show nI 24 + (-8) = nI 16 from by decide]
  refine step (nI 16) J1 _ (by decide) hP1 (show P.1 + 1 + 1 ≤ 2000 by omega) (fun J2 hf2 hP2 => ?_)
  rw [show nI 16 + (-8) = nI 8 from by decide]
  refine step (nI 8) J2 _ (by decide) hP2 (show P.1 + 1 + 1 + 1 ≤ 2000 by omega) (fun J3 hf3 hP3 => ?_)
  rw [show nI 8 + (-8) = nI 0 from by decide]
  refine step (nI 0) J3 _ (by decide) hP3 (show P.1 + 1 + 1 + 1 + 1 ≤ 2000 by omega) (fun J4 hf4 hP4 => ?_)
  refine wp_iload2 4 rfl dX10_put_3 ?_
  refine wp_if_lt 7 36 rfl rfl dX10_put_4 (fun c4 => ?_) (fun c4 => absurd (by decide) c4)
  refine wp_vret dX10_put_36 rfl ?_
  exact ⟨rfl, rfl, ((hf1.tr hf2).tr hf3).tr hf4, hP4⟩
theorem mZ.tape {I J : sm_I} {lv : Nat} {S : yS} {P : Nat × (Nat → Int32)} (h : mZ I lv S) (hf : mf [m_tape] [2] I J) (hP : mP J P) : mZ J lv (y_tape S P) :=
  ⟨⟨h.1.1.kept hf (by decide) (by decide), h.1.2.1, (hf.1 m_now (by decide) (by decide)).trans h.1.2.2.1, h.1.2.2.2.1, by rw [hf.1 m_row (by decide) (by decide)]; exact h.1.2.2.2.2⟩, h.2.1.kept hf (by decide) (by decide), h.2.2.1.kept hf (by decide) (by decide), h.2.2.2.1.kept hf (by decide), hP, (hf.2 17 (by decide)).trans h.2.2.2.2.2⟩
theorem q_feed (hm : md ρ) (lv : Nat) (S : yS) (hZ : mZ I lv S) (a b c e f : Int32) : sm_M G xX10_feed (d + 1) [.ref mM, .int a, .int b, .int c, .int e, .int f] I ρ (yPost I ρ lv (y_feed S a b c e f).1 (y_feed S a b c e f).2) := by
  show sm_V G xX10_feed (d + 1) 0 [.ref mM, .int a, .int b, .int c, .int e, .int f] [] I ρ _
  obtain ⟨-, -, hP, -⟩ := hZ.2.2
  have hl := hP.2.1
  refine wp_aload0 1 rfl dX10_feed_0 ?_
  refine wp_geti 4 rfl dX10_feed_1 fX10_166_10 (md_M hm) ?_
  rw [hP.1]
  refine wp_bipush (nI 20) 6 rfl dX10_feed_4 (by decide) ?_
  refine wp_iadd 7 rfl dX10_feed_6 ?_
  rw [nI_add]
  unfold y_feed
  by_cases h : (y_P S).1 + 20 ≤ 2000
  · rw [if_pos h]
    refine wp_sipush (nI 2000) 10 rfl dX10_feed_7 (by decide) ?_
    refine wp_icmp_le 13 15 rfl rfl dX10_feed_10 (fun c10 => ?_) (fun c10 => absurd (nI_le h (by decide)) c10)
    refine wp_aload0 16 rfl dX10_feed_15 ?_
    refine wp_iload1 17 rfl dX10_feed_16 ?_
    refine wp_Vv1 20 rfl dX10_feed_17 kX10_put lX10_169 (md_M hm) (nl rfl) (nl rfl) (s_put hm _ hP (by omega) a) (fun J1 ρ1 hq1 => ?_)
    obtain ⟨rfl, hf1, hP1⟩ := hq1
    refine wp_aload0 21 rfl dX10_feed_20 ?_
    refine wp_iload2 22 rfl dX10_feed_21 ?_
    refine wp_Vv1 25 rfl dX10_feed_22 kX10_put lX10_169 (md_M hm) (nl rfl) (nl rfl) (s_put hm _ hP1 (show (y_P S).1 + 4 + 4 ≤ 2000 by omega) b) (fun J2 ρ2 hq2 => ?_)
    obtain ⟨rfl, hf2, hP2⟩ := hq2
    refine wp_aload0 26 rfl dX10_feed_25 ?_
    refine wp_iload3 27 rfl dX10_feed_26 ?_
    refine wp_Vv1 30 rfl dX10_feed_27 kX10_put lX10_169 (md_M hm) (nl rfl) (nl rfl) (s_put hm _ hP2 (show (y_P S).1 + 4 + 4 + 4 ≤ 2000 by omega) c) (fun J3 ρ3 hq3 => ?_)
    obtain ⟨rfl, hf3, hP3⟩ := hq3
    refine wp_aload0 31 rfl dX10_feed_30 ?_
    refine wp_iload4 33 rfl dX10_feed_31 ?_
    refine wp_Vv1 36 rfl dX10_feed_33 kX10_put lX10_169 (md_M hm) (nl rfl) (nl rfl) (s_put hm _ hP3 (show (y_P S).1 + 4 + 4 + 4 + 4 ≤ 2000 by omega) e) (fun J4 ρ4 hq4 => ?_)
    obtain ⟨rfl, hf4, hP4⟩ := hq4
    refine wp_aload0 37 rfl dX10_feed_36 ?_
    refine wp_iload5 39 rfl dX10_feed_37 ?_
    refine wp_Vv1 42 rfl dX10_feed_39 kX10_put lX10_169 (md_M hm) (nl rfl) (nl rfl) (s_put hm _ hP4 (show (y_P S).1 + 4 + 4 + 4 + 4 + 4 ≤ 2000 by omega) f) (fun J5 ρ5 hq5 => ?_)
    obtain ⟨rfl, hf5, hP5⟩ := hq5
    refine wp_aload0 43 rfl dX10_feed_42 ?_
    refine wp_geti 46 rfl dX10_feed_43 fX10_166_10 (md_M hm) ?_
    refine wp_iret dX10_feed_46 rfl ?_
    exact sm_yi (mFr.of ((((hf1.tr hf2).tr hf3).tr hf4).tr hf5) (by decide)) (hZ.tape ((((hf1.tr hf2).tr hf3).tr hf4).tr hf5) hP5) hP5.1
  · rw [if_neg h]
    refine wp_sipush (nI 2000) 10 rfl dX10_feed_7 (by decide) ?_
    refine wp_icmp_le 13 15 rfl rfl dX10_feed_10 (fun c10 => absurd c10 (nI_ge (by omega) (by omega))) (fun c10 => ?_)
    refine wp_iconst (-1) 14 rfl dX10_feed_13 (by decide) ?_
    refine wp_iret dX10_feed_14 rfl ?_
    exact sm_yi mFr.rf hZ rfl
theorem q_back (hm : md ρ) (lv : Nat) (S : yS) (hZ : mZ I lv S) (n : Int32) : sm_M G xX10_back d [.ref mM, .int n] I ρ (yPost I ρ lv (y_back S n).1 (y_back S n).2) := by
  show sm_V G xX10_back d 0 [.ref mM, .int n] [] I ρ _
  obtain ⟨-, -, hP, -⟩ := hZ.2.2
  have hl := hP.2.1
  have no : ¬ (nI 0 ≤ n ∧ n ≤ nI (y_P S).1) → sm_V G xX10_back d 12 [.ref mM, .int n] [] I ρ (yPost I ρ lv (y_back S n).1 (y_back S n).2) := by
    intro h
    unfold y_back
    rw [if_neg h]
    refine wp_iconst (-1) 13 rfl dX10_back_12 (by decide) ?_
    refine wp_iret dX10_back_13 rfl ?_
    exact sm_yi mFr.rf hZ rfl
  refine wp_iload1 1 rfl dX10_back_0 ?_
  refine wp_if_lt 4 12 rfl rfl dX10_back_1 (fun c1 => ?_) (fun c1 => ?_)
  · exact no (fun h => i_lt_le h.1 c1)
  · obtain ⟨k, hk, rfl⟩ := nI_of c1
    refine wp_iload1 5 rfl dX10_back_4 ?_
    refine wp_aload0 6 rfl dX10_back_5 ?_
    refine wp_geti 9 rfl dX10_back_6 fX10_166_10 (md_M hm) ?_
    rw [hP.1]
    refine wp_icmp_le 12 14 rfl rfl dX10_back_9 (fun c9 => ?_) (fun c9 => ?_)
    · have hkn : k ≤ (y_P S).1 := (nI_leI hk (by omega)).mp c9
      unfold y_back
      rw [if_pos ⟨nI_le (Nat.zero_le _) hk, c9⟩, nI_clamp hk]
      refine wp_aload0 15 rfl dX10_back_14 ?_
      refine wp_dup 16 rfl dX10_back_15 rfl ?_
      refine wp_geti 19 rfl dX10_back_16 fX10_166_10 (md_M hm) ?_
      rw [hP.1]
      refine wp_iload1 20 rfl dX10_back_19 ?_
      refine wp_isub 21 rfl dX10_back_20 ?_
      rw [pk_sub hkn]
      refine wp_puti 24 rfl dX10_back_21 pX10_166_10 (md_M hm) ⟨rfl, rfl⟩ ?_
      refine wp_aload0 25 rfl dX10_back_24 ?_
      refine wp_geti 28 rfl dX10_back_25 fX10_166_10 (md_M hm) ?_
      refine wp_iret dX10_back_28 rfl ?_
      have hP2 : mP (sm_u I mM 2 (nI ((y_P S).1 - k))) ((y_P S).1 - k, (y_P S).2) := ⟨by rw [sm_u_eq, pk_us], Nat.le_trans (Nat.sub_le _ _) hl, fun j hj => by
        rw [sm_u_ne _ _ _ (by decide)]
        exact hP.2.2 j (Nat.lt_of_lt_of_le hj (Nat.sub_le _ _))⟩
      exact sm_yi (mFr.of (A := []) (F := [2]) (mf.uM (by decide)) (by decide)) (hZ.tape (mf.uM (by decide)) hP2) hP2.1
    · exact no (fun h => c9 h.2)
theorem q_place (hm : md ρ) (lv : Nat) (S : yS) (hZ : mZ I lv S) : sm_M G xX10_place d [.ref mM] I ρ (yPost I ρ lv (y_p S) S) := by
  show sm_V G xX10_place d 0 [.ref mM] [] I ρ _
  refine wp_aload0 1 rfl dX10_place_0 ?_
  refine wp_geti 4 rfl dX10_place_1 fX10_37_10 (md_M hm) ?_
  refine wp_iret dX10_place_4 rfl ?_
  exact sm_yi mFr.rf hZ hZ.2.2.2.2.2
theorem q_forget (hm : md ρ) (lv : Nat) (S : yS) (hZ : mZ I lv S) : sm_M G xX10_forget d [.ref mM] I ρ (yPost I ρ lv (y_forget S).1 (y_forget S).2) := by
  show sm_V G xX10_forget d 0 [.ref mM, .retAddr 0] [] I ρ _
  refine wp_aload0 1 rfl dX10_forget_0 ?_
  refine wp_geti 4 rfl dX10_forget_1 fX10_254_10 (md_M hm) ?_
  refine wp_istore1 5 rfl dX10_forget_4 (by decide) rfl ?_
  refine wp_aload0 6 rfl dX10_forget_5 ?_
  refine wp_iconst (nI 0) 7 rfl dX10_forget_6 (by decide) ?_
  refine wp_puti 10 rfl dX10_forget_7 pX10_254_10 (md_M hm) ⟨rfl, rfl⟩ ?_
  refine wp_iload1 11 rfl dX10_forget_10 ?_
  refine wp_iret dX10_forget_11 rfl ?_
  have hf : mf [] [60] I (sm_u I mM 60 (nI 0)) := mf.uM (by decide)
  exact sm_yi (mFr.of hf (by decide)) ⟨⟨hZ.1.1.kept hf (by decide) (by decide), hZ.1.2.1, (hf.1 m_now (by decide) (by decide)).trans hZ.1.2.2.1, hZ.1.2.2.2.1, by rw [hf.1 m_row (by decide) (by decide)]; exact hZ.1.2.2.2.2⟩, hZ.2.1.kept hf (by decide) (by decide), ⟨by rw [sm_u_eq, pk_us]; rfl, Nat.zero_le _, fun i d p v h => by cases h⟩, hZ.2.2.2.1.kept hf (by decide), hZ.2.2.2.2.1.kept hf (by decide) (by decide), (hf.2 17 (by decide)).trans hZ.2.2.2.2.2⟩ hZ.2.2.1.1
theorem q_tell (hm : md ρ) (lv : Nat) (S : yS) (hZ : mZ I lv S) (x p v : Int32) : sm_M G xX10_tell (d + 2) [.ref mM, .int x, .int p, .int v] I ρ (yPost I ρ lv (y_tell S x p v).1 (y_tell S x p v).2) := by
  show sm_V G xX10_tell (d + 2) 0 [.ref mM, .int x, .int p, .int v] [] I ρ _
  have hS := hZ.1
  have h1 := hS.2.1.1
  obtain ⟨hD, hK, hP, hp⟩ := hZ.2.2
  obtain ⟨a1, a2, a3⟩ := hD
  have no : y_tell S x p v = (-1, S) → sm_V G xX10_tell (d + 2) 33 [.ref mM, .int x, .int p, .int v] [] I ρ (yPost I ρ lv (y_tell S x p v).1 (y_tell S x p v).2) := by
    intro e
    rw [e]
    refine wp_iconst (-1) 34 rfl dX10_tell_33 (by decide) ?_
    refine wp_iret dX10_tell_34 rfl ?_
    exact sm_yi mFr.rf hZ rfl
  have e9 : ∀ dd k, dd < tx_D (y_T S) → k < 4 → y_tell S (nI dd) (nI k) v = if ((-1 : Int32) ≤ v ∧ v ≤ nI 1) ∧ (y_D S).length < 20 then (nI (y_D S).length, y_told S (y_D S ++ [(dd, k, v)])) else (-1, S) := fun dd k hd hk => by
    unfold y_tell
    rw [z_ix_n hd (by omega), z_ix_n hk (by omega)]
  have e8 : ((y_D S).length = 20 ∨ ¬ (∃ j, j < tx_D (y_T S) ∧ x = nI j) ∨ ¬ (∃ j, j < 4 ∧ p = nI j) ∨ ¬ ((-1 : Int32) ≤ v ∧ v ≤ nI 1)) → y_tell S x p v = (-1, S) := by
    intro hno
    by_cases hx : ∃ j, j < tx_D (y_T S) ∧ x = nI j
    · by_cases hy : ∃ j, j < 4 ∧ p = nI j
      · obtain ⟨dd, hd, rfl⟩ := hx
        obtain ⟨k, hk, rfl⟩ := hy
        rw [e9 dd k hd hk]
        refine if_neg (fun h => ?_)
        rcases hno with q | q | q | q
        · omega
        · exact q ⟨dd, hd, rfl⟩
        · exact q ⟨k, hk, rfl⟩
        · exact q h.1
      · obtain ⟨dd, hd, rfl⟩ := hx
        unfold y_tell
        rw [z_ix_n hd (by omega), z_ix_no (by omega) hy]
    · unfold y_tell
      rw [z_ix_no (by omega) hx]
  refine wp_aload0 1 rfl dX10_tell_0 ?_
  refine wp_geti 4 rfl dX10_tell_1 fX10_254_10 (md_M hm) ?_
  rw [a1]
  by_cases h20 : (y_D S).length = 20
  · refine wp_bipush (nI 20) 6 rfl dX10_tell_4 (by decide) ?_
    refine wp_icmp_eq 9 33 rfl rfl dX10_tell_6 (fun c6 => ?_) (fun c6 => absurd (by rw [h20]) c6)
    exact no (e8 (Or.inl h20))
  · refine wp_bipush (nI 20) 6 rfl dX10_tell_4 (by decide) ?_
    refine wp_icmp_eq 9 33 rfl rfl dX10_tell_6 (fun c6 => absurd c6 (fun h => h20 ((nI_eq (by omega) (by decide)).mp h))) (fun c6 => ?_)
    refine wp_aload0 10 rfl dX10_tell_9 ?_
    refine wp_iload1 11 rfl dX10_tell_10 ?_
    refine wp_Ve1 14 rfl dX10_tell_11 kX10_isDoor lX10_387 (md_M hm) (nl rfl) (nl rfl) (s_isDoor hm lv x hS.1.1.1 hS.1.1.2) ?_
    rw [hS.1.2.1.1]
    refine wp_if_eq 17 33 rfl rfl dX10_tell_14 (fun c14 => ?_) (fun c14 => ?_)
    · exact no (e8 (Or.inr (Or.inl (fun h => z_b_eq.mp c14 ((z_in_iff (by omega)).mpr h)))))
    · obtain ⟨dd, hd, rfl⟩ := (z_in_iff (by omega)).mp (z_b_ne.mp c14)
      refine wp_iload2 18 rfl dX10_tell_17 ?_
      refine wp_Se1 21 rfl dX10_tell_18 kX10_isPart lX10_408 (nl rfl) (nl rfl) (s_isPart _) ?_
      refine wp_if_eq 24 33 rfl rfl dX10_tell_21 (fun c21 => ?_) (fun c21 => ?_)
      · exact no (e8 (Or.inr (Or.inr (Or.inl (fun h => z_b_eq.mp c21 ((z_in_lo rfl (by omega)).mpr h))))))
      · obtain ⟨k, hk, rfl⟩ := (z_in_lo rfl (by omega)).mp (z_b_ne.mp c21)
        refine wp_iload3 25 rfl dX10_tell_24 ?_
        refine wp_iconst (-1) 26 rfl dX10_tell_25 (by decide) ?_
        refine wp_iconst (nI 1) 27 rfl dX10_tell_26 (by decide) ?_
        refine wp_Se3 30 rfl dX10_tell_27 kX10_in lX10_313 (nl rfl) (nl rfl) (s_in _ _ _) ?_
        refine wp_if_ne 33 35 rfl rfl dX10_tell_30 (fun c30 => ?_) (fun c30 => ?_)
        · rw [e9 dd k hd hk, if_pos ⟨z_b_ne.mp c30, by omega⟩]
          obtain ⟨n, hn⟩ : ∃ n, n = (y_D S).length := ⟨_, rfl⟩
          rw [← hn] at a1 a2 h20 ⊢
          refine wp_aload0 36 rfl dX10_tell_35 ?_
          refine wp_getr 39 rfl dX10_tell_36 fX10_137_10 (md_M hm) (mp_toldDoor hm) ?_
          refine wp_aload0 40 rfl dX10_tell_39 ?_
          refine wp_geti 43 rfl dX10_tell_40 fX10_254_10 (md_M hm) ?_
          refine wp_iload1 44 rfl dX10_tell_43 ?_
          refine wp_iast 45 rfl dX10_tell_44 (ms_toldDoor hm) (n) (a1) (⟨by omega, by decide⟩) ?_
          refine wp_aload0 46 rfl dX10_tell_45 ?_
          refine wp_getr 49 rfl dX10_tell_46 fX10_140_10 (md_M hm) (mp_toldPart hm) ?_
          refine wp_aload0 50 rfl dX10_tell_49 ?_
          refine wp_geti 53 rfl dX10_tell_50 fX10_254_10 (md_M hm) ?_
          refine wp_iload2 54 rfl dX10_tell_53 ?_
          refine wp_iast 55 rfl dX10_tell_54 (ms_toldPart hm) (n) (a1) (⟨by omega, by decide⟩) ?_
          refine wp_aload0 56 rfl dX10_tell_55 ?_
          refine wp_getr 59 rfl dX10_tell_56 fX10_143_10 (md_M hm) (mp_toldWay hm) ?_
          refine wp_aload0 60 rfl dX10_tell_59 ?_
          refine wp_geti 63 rfl dX10_tell_60 fX10_254_10 (md_M hm) ?_
          refine wp_iload3 64 rfl dX10_tell_63 ?_
          refine wp_iast 65 rfl dX10_tell_64 (ms_toldWay hm) (n) (a1) (⟨by omega, by decide⟩) ?_
          refine wp_aload0 66 rfl dX10_tell_65 ?_
          refine wp_dup 67 rfl dX10_tell_66 rfl ?_
          refine wp_geti 70 rfl dX10_tell_67 fX10_254_10 (md_M hm) ?_
          refine wp_iconst (nI 1) 71 rfl dX10_tell_70 (by decide) ?_
          refine wp_iadd 72 rfl dX10_tell_71 ?_
          refine wp_puti 75 rfl dX10_tell_72 pX10_254_10 (md_M hm) ⟨rfl, rfl⟩ ?_
          refine wp_aload0 76 rfl dX10_tell_75 ?_
          refine wp_geti 79 rfl dX10_tell_76 fX10_254_10 (md_M hm) ?_
          refine wp_iconst (nI 1) 80 rfl dX10_tell_79 (by decide) ?_
          refine wp_isub 81 rfl dX10_tell_80 ?_
          refine wp_iret dX10_tell_81 rfl ?_
          have hf : mf [m_toldDoor, m_toldPart, m_toldWay] [60] I (sm_u (sm_u (sm_u (sm_u I m_toldDoor n (nI dd)) m_toldPart n (nI k)) m_toldWay n v) mM 60 (I mM 60 + nI 1)) := (((mf.u (by decide) (by decide)).tr (mf.u (by decide) (by decide))).tr (mf.u (by decide) (by decide))).tr (mf.uM (by decide))
          have h60 : sm_u (sm_u (sm_u (sm_u I m_toldDoor n (nI dd)) m_toldPart n (nI k)) m_toldWay n v) mM 60 (I mM 60 + nI 1) mM 60 = nI (n + 1) := by
            rw [sm_u_eq, pk_us, a1]
            exact nI_add _ 1
          have g1 : sm_u (sm_u (sm_u (sm_u I m_toldDoor n (nI dd)) m_toldPart n (nI k)) m_toldWay n v) mM 60 (I mM 60 + nI 1) m_toldDoor = upd (I m_toldDoor) n (nI dd) := rfl
          have g2 : sm_u (sm_u (sm_u (sm_u I m_toldDoor n (nI dd)) m_toldPart n (nI k)) m_toldWay n v) mM 60 (I mM 60 + nI 1) m_toldPart = upd (I m_toldPart) n (nI k) := rfl
          have g3 : sm_u (sm_u (sm_u (sm_u I m_toldDoor n (nI dd)) m_toldPart n (nI k)) m_toldWay n v) mM 60 (I mM 60 + nI 1) m_toldWay = upd (I m_toldWay) n v := rfl
          show yPost I ρ lv (nI n) (y_told S (y_D S ++ [(dd, k, v)])) (.inl (some (.int (sm_u (sm_u (sm_u (sm_u I m_toldDoor n (nI dd)) m_toldPart n (nI k)) m_toldWay n v) mM 60 (I mM 60 + nI 1) mM 60 - nI 1)))) (sm_u (sm_u (sm_u (sm_u I m_toldDoor n (nI dd)) m_toldPart n (nI k)) m_toldWay n v) mM 60 (I mM 60 + nI 1)) ρ
          generalize sm_u (sm_u (sm_u (sm_u I m_toldDoor n (nI dd)) m_toldPart n (nI k)) m_toldWay n v) mM 60 (I mM 60 + nI 1) = J at hf h60 g1 g2 g3 ⊢
          refine sm_yi (mFr.of hf (by decide)) ⟨⟨hS.1.kept hf (by decide) (by decide), hS.2.1, (hf.1 m_now (by decide) (by decide)).trans hS.2.2.1, hS.2.2.2.1, by rw [hf.1 m_row (by decide) (by decide)]; exact hS.2.2.2.2⟩, hZ.2.1.kept hf (by decide) (by decide), ⟨?_, ?_, fun i d' p' v' hi => ?_⟩, hK.kept hf (by decide), hP.kept hf (by decide) (by decide), (hf.2 17 (by decide)).trans hp⟩ (by rw [h60, pk_sub (by omega)]; rfl)
          · show J mM 60 = nI (y_D S ++ [(dd, k, v)]).length
            rw [h60, List.length_append, ← hn]
            rfl
          · show (y_D S ++ [(dd, k, v)]).length ≤ 20
            rw [List.length_append, ← hn]
            show n + 1 ≤ 20
            omega
          · have hi : (y_D S ++ [(dd, k, v)])[i]? = some (d', p', v') := hi
            rw [g1, g2, g3]
            by_cases e : i < (y_D S).length
            · rw [List.getElem?_append_left e] at hi
              rw [pk_un (by omega), pk_un (by omega), pk_un (by omega)]
              exact a3 i d' p' v' hi
            · rw [List.getElem?_append_right (by omega)] at hi
              have hi0 : i = n := by
                have := (List.getElem?_eq_some_iff.mp hi).1
                simp only [List.length_cons, List.length_nil] at this
                omega
              rw [hi0, ← hn, Nat.sub_self] at hi
              cases hi
              rw [hi0, pk_us, pk_us, pk_us]
              exact ⟨⟨hd, hk⟩, rfl, rfl, rfl⟩
        · exact no (e8 (Or.inr (Or.inr (Or.inr (z_b_eq.mp c30)))))
theorem q_hold (hm : md ρ) (lv : Nat) (S : yS) (hZ : mZ I lv S) (x : Int32) : sm_M G xX10_hold (d + 1) [.ref mM, .int x] I ρ (yPost I ρ lv (y_hold S x).1 (y_hold S x).2) := by
  show sm_V G xX10_hold (d + 1) 0 [.ref mM, .int x, .retAddr 0] [] I ρ _
  have hS := hZ.1
  obtain ⟨hD, hK, hP, hp⟩ := hZ.2.2
  refine wp_iload1 1 rfl dX10_hold_0 ?_
  refine wp_iconst (nI 0) 2 rfl dX10_hold_1 (by decide) ?_
  refine wp_iconst (nI 2) 3 rfl dX10_hold_2 (by decide) ?_
  refine wp_Se3 6 rfl dX10_hold_3 kX10_in lX10_313 (nl rfl) (nl rfl) (s_in _ _ _) ?_
  refine wp_if_ne 9 11 rfl rfl dX10_hold_6 (fun c6 => ?_) (fun c6 => ?_)
  · obtain ⟨s, hs, rfl⟩ := (z_in_lo rfl (by omega)).mp (z_b_ne.mp c6)
    have e9 : y_hold S (nI s) = (nI 1, y_held S (fun i => if i = s then some (y_w S) else y_K S i)) := by
      unfold y_hold
      rw [z_ix_n hs (by omega)]
    rw [e9]
    refine wp_aload0 12 rfl dX10_hold_11 ?_
    refine wp_getr 15 rfl dX10_hold_12 fX10_146_10 (md_M hm) (mp_isHeld hm) ?_
    refine wp_iload1 16 rfl dX10_hold_15 ?_
    refine wp_iconst (nI 1) 17 rfl dX10_hold_16 (by decide) ?_
    refine wp_zast 18 rfl dX10_hold_17 (ms_isHeld hm) (s) (by first | rfl | simp only [pk_mul, nI_add]) (⟨by omega, by decide⟩) ?_
    refine wp_iconst (nI 0) 19 rfl dX10_hold_18 (by decide) ?_
    refine wp_istore2 20 rfl dX10_hold_19 (by decide) rfl ?_
    rw [show vp_nar .boolean (nI 1) = nI 1 from by decide +kernel]
    refine sm_for (P := fun p => ∀ J : sm_I, mf [m_isHeld, m_heldRows] [] I J → J m_isHeld = upd (I m_isHeld) s (nI 1) → (∀ j, j < p → J m_heldRows (70 * s + j) = y_w S j) → (∀ j, (j < 70 * s ∨ 70 * s + 70 ≤ j) → J m_heldRows j = I m_heldRows j) → sm_V G xX10_hold (d + 1) 20 [.ref mM, .int (nI s), .int (nI p)] [] J ρ _) 0 70 (by decide) ?_ (fun p _ hp70 ih => ?_) _ (mf.u (by decide) (by decide)) (sm_u_eq _ _ _ _) (fun j h => absurd h (Nat.not_lt_zero _)) (fun j _ => by rw [sm_u_ne _ _ _ (by decide)])
    · intro J hf hh hz1 hz2
      refine wp_iload2 21 rfl dX10_hold_20 ?_
      refine wp_bipush (nI 70) 23 rfl dX10_hold_21 (by decide) ?_
      refine wp_icmp_ge 26 49 rfl rfl dX10_hold_23 (fun c23 => ?_) (fun c23 => absurd (by decide) c23)
      refine wp_iconst (nI 1) 50 rfl dX10_hold_49 (by decide) ?_
      refine wp_zret dX10_hold_50 rfl (rfl) ?_
      refine sm_yi (mFr.of hf (by decide)) ⟨⟨hS.1.kept hf (by decide) (by decide), hS.2.1, (hf.1 m_now (by decide) (by decide)).trans hS.2.2.1, hS.2.2.2.1, by rw [hf.1 m_row (by decide) (by decide)]; exact hS.2.2.2.2⟩, hZ.2.1.kept hf (by decide) (by decide), hD.kept hf (by decide) (by decide), fun i hi => ?_, hP.kept hf (by decide) (by decide), (hf.2 17 (by decide)).trans hp⟩ rfl
      show ((if i = s then some (y_w S) else y_K S i) = none → _) ∧ ∀ r, (if i = s then some (y_w S) else y_K S i) = some r → _
      by_cases e : i = s
      · rw [if_pos e]
        refine ⟨fun h => (by cases h), fun r h => ?_⟩
        cases h
        rw [hh, e, pk_us]
        exact ⟨rfl, hS.2.2.2.1, hz1⟩
      · rw [if_neg e, hh, pk_un e]
        refine ⟨(hK i hi).1, fun r h => ?_⟩
        obtain ⟨q1, q2, q3⟩ := (hK i hi).2 r h
        exact ⟨q1, q2, fun j hj => (hz2 _ (by omega)).trans (q3 j hj)⟩
    · intro J hf hh hz1 hz2
      have en : J m_now = y_w S := (hf.1 m_now (by decide) (by decide)).trans hS.2.2.1
      refine wp_iload2 21 rfl dX10_hold_20 ?_
      refine wp_bipush (nI 70) 23 rfl dX10_hold_21 (by decide) ?_
      refine wp_icmp_ge 26 49 rfl rfl dX10_hold_23 (fun c23 => absurd c23 (nI_ge hp70 (by decide))) (fun c23 => ?_)
      refine wp_aload0 27 rfl dX10_hold_26 ?_
      refine wp_getr 30 rfl dX10_hold_27 fX10_149_10 (md_M hm) (mp_heldRows hm) ?_
      refine wp_bipush (nI 70) 32 rfl dX10_hold_30 (by decide) ?_
      refine wp_iload1 33 rfl dX10_hold_32 ?_
      refine wp_imul 34 rfl dX10_hold_33 ?_
      refine wp_iload2 35 rfl dX10_hold_34 ?_
      refine wp_iadd 36 rfl dX10_hold_35 ?_
      refine wp_aload0 37 rfl dX10_hold_36 ?_
      refine wp_getr 40 rfl dX10_hold_37 fX10_119_10 (md_M hm) (mp_now hm) ?_
      refine wp_iload2 41 rfl dX10_hold_40 ?_
      refine wp_iald 42 rfl dX10_hold_41 (ms_now hm) (p) (by first | rfl | simp only [pk_mul, nI_add]) (⟨by omega, by decide⟩) ?_
      refine wp_iast 43 rfl dX10_hold_42 (ms_heldRows hm) (70 * s + p) (by first | rfl | simp only [pk_mul, nI_add]) (⟨by omega, by decide⟩) ?_
      refine wp_iincN2 46 rfl dX10_hold_43 (by decide) rfl ?_
      refine wp_goto 20 rfl dX10_hold_46 ?_
      refine ih _ (hf.tr (mf.u (by decide) (by decide))) (by rw [sm_u_ne _ _ _ (by decide)]; exact hh) (fun j hj => ?_) (fun j hj => ?_)
      · rw [sm_u_eq]
        by_cases e : j = p
        · rw [e, pk_us, en]
        · rw [pk_un (by omega)]
          exact hz1 j (by omega)
      · rw [sm_u_eq, pk_un (by omega)]
        exact hz2 j hj
  · have e9 : y_hold S x = (nI 0, S) := by
      unfold y_hold
      rw [z_ix_no (by omega) (fun h => z_b_eq.mp c6 ((z_in_lo rfl (by omega)).mpr h))]
    rw [e9]
    refine wp_iconst (nI 0) 10 rfl dX10_hold_9 (by decide) ?_
    refine wp_zret dX10_hold_10 rfl (rfl) ?_
    exact sm_yi mFr.rf hZ rfl
theorem q_restore (hm : md ρ) (lv : Nat) (S : yS) (hZ : mZ I lv S) (x : Int32) : sm_M G xX10_restore (d + 1) [.ref mM, .int x] I ρ (yPost I ρ lv (y_restore S x).1 (y_restore S x).2) := by
  show sm_V G xX10_restore (d + 1) 0 [.ref mM, .int x, .retAddr 0] [] I ρ _
  have hS := hZ.1
  have hK := hZ.2.2.2.1
  have no : y_restore S x = (nI 0, S) → sm_V G xX10_restore (d + 1) 18 [.ref mM, .int x, .retAddr 0] [] I ρ (yPost I ρ lv (y_restore S x).1 (y_restore S x).2) := by
    intro e
    rw [e]
    refine wp_iconst (nI 0) 19 rfl dX10_restore_18 (by decide) ?_
    refine wp_zret dX10_restore_19 rfl (rfl) ?_
    exact sm_yi mFr.rf hZ rfl
  refine wp_iload1 1 rfl dX10_restore_0 ?_
  refine wp_iconst (nI 0) 2 rfl dX10_restore_1 (by decide) ?_
  refine wp_iconst (nI 2) 3 rfl dX10_restore_2 (by decide) ?_
  refine wp_Se3 6 rfl dX10_restore_3 kX10_in lX10_313 (nl rfl) (nl rfl) (s_in _ _ _) ?_
  refine wp_if_eq 9 18 rfl rfl dX10_restore_6 (fun c6 => ?_) (fun c6 => ?_)
  · refine no ?_
    unfold y_restore
    rw [z_ix_no (by omega) (fun h => z_b_eq.mp c6 ((z_in_lo rfl (by omega)).mpr h))]
  · obtain ⟨s, hs, rfl⟩ := (z_in_lo rfl (by omega)).mp (z_b_ne.mp c6)
    refine wp_aload0 10 rfl dX10_restore_9 ?_
    refine wp_getr 13 rfl dX10_restore_10 fX10_146_10 (md_M hm) (mp_isHeld hm) ?_
    refine wp_iload1 14 rfl dX10_restore_13 ?_
    refine wp_zald 15 rfl dX10_restore_14 (ms_isHeld hm) (s) (by first | rfl | simp only [pk_mul, nI_add]) (⟨by omega, by decide⟩) ?_
    cases hk : y_K S s with
    | none =>
      refine wp_if_ne 18 20 rfl rfl dX10_restore_15 (fun c15 => absurd ((hK s hs).1 hk) c15) (fun c15 => ?_)
      refine no ?_
      unfold y_restore
      rw [z_ix_n hs (by omega)]
      show (match y_K S s with
        | none => (nI 0, S)
        | some r => (nI 1, y_set S r [])) = _
      rw [hk]
    | some r =>
      obtain ⟨b1, b70, b2⟩ := (hK s hs).2 r hk
      have e9 : y_restore S (nI s) = (nI 1, y_set S r []) := by
        unfold y_restore
        rw [z_ix_n hs (by omega)]
        show (match y_K S s with
          | none => (nI 0, S)
          | some r => (nI 1, y_set S r [])) = _
        rw [hk]
      rw [e9]
      refine wp_if_ne 18 20 rfl rfl dX10_restore_15 (fun c15 => ?_) (fun c15 => absurd c15 (by rw [b1]; decide))
      refine wp_iconst (nI 0) 21 rfl dX10_restore_20 (by decide) ?_
      refine wp_istore2 22 rfl dX10_restore_21 (by decide) rfl ?_
      refine sm_for (P := fun p => ∀ J : sm_I, mf [m_now] [] I J → (∀ j, j < p → J m_now j = r j) → (∀ j, 70 ≤ j → J m_now j = nI 0) → sm_V G xX10_restore (d + 1) 22 [.ref mM, .int (nI s), .int (nI p)] [] J ρ _) 0 70 (by decide) ?_ (fun p _ hp ih => ?_) I mf.rf (fun j h => absurd h (Nat.not_lt_zero _)) (fun j hj => by rw [hS.2.2.1]; exact hS.2.2.2.1 j hj)
      · intro J hf hz1 hz2
        refine wp_iload2 23 rfl dX10_restore_22 ?_
        refine wp_bipush (nI 70) 25 rfl dX10_restore_23 (by decide) ?_
        refine wp_icmp_ge 28 51 rfl rfl dX10_restore_25 (fun c25 => ?_) (fun c25 => absurd (by decide) c25)
        refine wp_aload0 52 rfl dX10_restore_51 ?_
        refine wp_iconst (nI 0) 53 rfl dX10_restore_52 (by decide) ?_
        refine wp_puti 56 rfl dX10_restore_53 pX10_251_10 (md_M hm) ⟨rfl, rfl⟩ ?_
        refine wp_iconst (nI 1) 57 rfl dX10_restore_56 (by decide) ?_
        refine wp_zret dX10_restore_57 rfl (rfl) ?_
        have hf2 : mf [m_now] [56] I (sm_u J mM 56 (nI 0)) := (hf.wk (by decide) (by decide)).tr (mf.uM (by decide))
        refine sm_yi (mFr.of hf2 (by decide)) ⟨⟨hS.1.kept hf2 (by decide) (by decide), hS.2.1, ?_, b70, by rw [hf2.1 m_row (by decide) (by decide)]; exact hS.2.2.2.2⟩, ⟨by rw [sm_u_eq, pk_us]; rfl, Nat.zero_le _, fun i q h => by cases h⟩, hZ.2.2.kept hf2 (by decide) (by decide) rfl rfl⟩ rfl
        rw [sm_u_ne _ _ _ (by decide)]
        funext j
        by_cases hj : j < 70
        · exact hz1 j hj
        · exact (hz2 j (by omega)).trans (b70 j (by omega)).symm
      · intro J hf hz1 hz2
        refine wp_iload2 23 rfl dX10_restore_22 ?_
        refine wp_bipush (nI 70) 25 rfl dX10_restore_23 (by decide) ?_
        refine wp_icmp_ge 28 51 rfl rfl dX10_restore_25 (fun c25 => absurd c25 (nI_ge hp (by decide))) (fun c25 => ?_)
        refine wp_aload0 29 rfl dX10_restore_28 ?_
        refine wp_getr 32 rfl dX10_restore_29 fX10_119_10 (md_M hm) (mp_now hm) ?_
        refine wp_iload2 33 rfl dX10_restore_32 ?_
        refine wp_aload0 34 rfl dX10_restore_33 ?_
        refine wp_getr 37 rfl dX10_restore_34 fX10_149_10 (md_M hm) (mp_heldRows hm) ?_
        refine wp_bipush (nI 70) 39 rfl dX10_restore_37 (by decide) ?_
        refine wp_iload1 40 rfl dX10_restore_39 ?_
        refine wp_imul 41 rfl dX10_restore_40 ?_
        refine wp_iload2 42 rfl dX10_restore_41 ?_
        refine wp_iadd 43 rfl dX10_restore_42 ?_
        refine wp_iald 44 rfl dX10_restore_43 (ms_heldRows hm) (70 * s + p) (by first | rfl | simp only [pk_mul, nI_add]) (⟨by omega, by decide⟩) ?_
        refine wp_iast 45 rfl dX10_restore_44 (ms_now hm) (p) (by first | rfl | simp only [pk_mul, nI_add]) (⟨by omega, by decide⟩) ?_
        refine wp_iincN2 48 rfl dX10_restore_45 (by decide) rfl ?_
        refine wp_goto 22 rfl dX10_restore_48 ?_
        refine ih _ (hf.tr (mf.u (by decide) (by decide))) (fun j hj => ?_) (fun j hj => ?_)
        · rw [sm_u_eq]
          by_cases e : j = p
          · rw [e, pk_us, hf.1 m_heldRows (by decide) (by decide)]
            exact b2 p hp
          · rw [pk_un e]
            exact hz1 j (by omega)
        · rw [sm_u_eq, pk_un (by omega)]
          exact hz2 j hj
end M21
