/-! ===== read, the whole ===== -/
set_option maxRecDepth 100000
section M52
variable {G : sm_G} {d : Nat} {I : sm_I} {ρ : sm_R} {QQ : sm_O → sm_I → sm_R → Prop}
/-- nothing wrong: the text is taken -/
theorem rd_good (hm : md ρ) (J : sm_I) (lv s : Nat) (S : yS) (tk : tkf) (x1 : Value) (t : Nat) (w : Nat × Nat) (B : rb) (hw0 : w.1 = 0) (hZ : mZ J lv (y_rest S (y_p S))) (hr : prs J tk (.inr (t, w))) (hB : bR J ρ s t w B)
    (kk : ∀ J1, mZ J1 s (B.1, r_beg B.1, [], [], (fun _ => none), (0, (y_P S).2), -1) → mFr J J1 → QQ (.inl (some (.int (nI 0)))) J1 ρ) : sm_V G xX10_read (d + 7) 134 [.ref mM, x1] [] J ρ QQ := by
  obtain ⟨⟨p1, -, p3, -⟩, h2, h3, h4, h5⟩ := hr
  have z13 : J mM 13 ≤ 0 := by rw [h2]; decide
  have z15 : J mM 15 ≤ 0 := by rw [h4, hw0]; decide
  have h19 : J mM 19 = nI s := hB.1.1.1
  obtain ⟨⟨-, -, zn, zw, z70⟩, -, -, -, zp, -⟩ := hZ
  refine wp_aload0 135 rfl dX10_read_134 ?_
  refine wp_aload0 136 rfl dX10_read_135 ?_
  refine wp_geti 139 rfl dX10_read_136 fX10_203_10 (md_M hm) ?_
  refine wp_if_le 142 149 rfl rfl dX10_read_139 (fun c139 => ?_) (fun c139 => absurd (z13) c139)
  refine wp_aload0 150 rfl dX10_read_149 ?_
  refine wp_geti 153 rfl dX10_read_150 fX10_212_10 (md_M hm) ?_
  refine wp_if_le 156 163 rfl rfl dX10_read_153 (fun c153 => ?_) (fun c153 => absurd (z15) c153)
  refine wp_iconst (-1) 164 rfl dX10_read_163 (by decide) ?_
  refine wp_puti 167 rfl dX10_read_164 pX10_37_10 (md_M hm) ⟨rfl, rfl⟩ ?_
  refine wp_aload0 168 rfl dX10_read_167 ?_
  refine wp_geti 171 rfl dX10_read_168 fX10_203_10 (md_M hm) ?_
  refine wp_if_le 174 179 rfl rfl dX10_read_171 (fun c171 => ?_) (fun c171 => absurd (z13) c171)
  refine wp_aload0 180 rfl dX10_read_179 ?_
  refine wp_geti 183 rfl dX10_read_180 fX10_212_10 (md_M hm) ?_
  refine wp_if_le 186 191 rfl rfl dX10_read_183 (fun c183 => ?_) (fun c183 => absurd (z15) c183)
  refine wp_aload0 192 rfl dX10_read_191 ?_
  refine wp_aload0 193 rfl dX10_read_192 ?_
  refine wp_geti 196 rfl dX10_read_193 fX10_236_10 (md_M hm) ?_
  refine wp_puti 199 rfl dX10_read_196 pX10_233_10 (md_M hm) ⟨rfl, rfl⟩ ?_
  refine wp_aload0 200 rfl dX10_read_199 ?_
  refine wp_Vv0 203 rfl dX10_read_200 kX10_begins lX10_160 (md_M hm) (nl rfl) (nl rfl) (s_begins hm s B.1 (bR.mT hB p1 hw0 ((mf.uM (by decide)).tr (mf.uM (by decide))) (by rw [sm_u_eq, pk_us]; exact h19)).1 (bR.mT (J := sm_u J mM 18 (nI s)) hB p1 hw0 (mf.uM (by decide)) (by rw [sm_u_eq, pk_us])).2 z70) (fun K ρ1 ⟨e1, f1, hrow⟩ => ?_)
  have e1 := e1.symm
  subst e1
  have hT0 := bR.mT (J := sm_u (sm_u J mM 17 (-1)) mM 18 (J mM 19)) hB p1 hw0 ((mf.uM (by decide)).tr (mf.uM (by decide))) (by rw [sm_u_eq, pk_us]; exact h19)
  have hT1 : mT K s B.1 := hT0.1.kept f1 (by decide) (by decide)
  refine wp_aload0 204 rfl dX10_read_203 ?_
  refine wp_Ve0 207 rfl dX10_read_204 kX10_keepsRow lX10_163 (md_M hm) (nl rfl) (nl rfl) (s_keepsRow hm) ?_
  refine wp_aload0 208 rfl dX10_read_207 ?_
  refine wp_iconst (nI 0) 209 rfl dX10_read_208 (by decide) ?_
  refine wp_puti 212 rfl dX10_read_209 pX10_251_10 (md_M hm) ⟨rfl, rfl⟩ ?_
  refine wp_aload0 213 rfl dX10_read_212 ?_
  refine wp_iconst (nI 0) 214 rfl dX10_read_213 (by decide) ?_
  refine wp_puti 217 rfl dX10_read_214 pX10_254_10 (md_M hm) ⟨rfl, rfl⟩ ?_
  refine wp_iconst (nI 0) 218 rfl dX10_read_217 (by decide) ?_
  refine wp_istore1 219 rfl dX10_read_218 (by decide) rfl ?_
  obtain ⟨K2, hK2⟩ : ∃ K2, K2 = sm_u (sm_u (sm_a K m_now (z_cpy (K m_row) (K m_now) 70)) mM 56 (nI 0)) mM 60 (nI 0) := ⟨_, rfl⟩
  show sm_V G xX10_read (d + 7) 219 [.ref mM, .int (nI 0)] [] (sm_u (sm_u (sm_a K m_now (z_cpy (K m_row) (K m_now) 70)) mM 56 (nI 0)) mM 60 (nI 0)) ρ QQ
  rw [← hK2]
  have f2 : mf [m_now] [56, 60] K K2 := by
    rw [hK2]
    exact ((mf.a (by decide) (by decide)).tr (mf.uM (by decide))).tr (mf.uM (by decide))
  have hT2 : mT K2 s B.1 := hT1.kept f2 (by decide) (by decide)
  have w70b : w70 (r_beg B.1) := fun j hj => by
    have hk := hT0.2.1
    unfold r_beg
    rw [if_neg (by omega), if_neg (by omega)]
  have hnow : K2 m_now = r_beg B.1 := by
    rw [hK2, sm_u_ne _ _ _ (by decide), sm_u_ne _ _ _ (by decide), sm_a_eq, hrow]
    refine w70_cpy w70b ?_
    rw [f1.1 m_now (by decide) (by decide), sm_u_ne _ _ _ (by decide), sm_u_ne _ _ _ (by decide), zn]
    exact zw
  have h56 : K2 mM 56 = nI 0 := by rw [hK2, sm_u_eq, pk_un (by decide), sm_u_eq, pk_us]
  have h60 : K2 mM 60 = nI 0 := by rw [hK2, sm_u_eq, pk_us]
  have h2' : K2 mM 2 = nI 0 := by
    rw [f2.2 2 (by decide), f1.2 2 (by decide), sm_u_eq, pk_un (by decide), sm_u_eq, pk_un (by decide)]
    exact zp.1
  have h17 : K2 mM 17 = -1 := by
    rw [f2.2 17 (by decide), f1.2 17 (by decide), sm_u_eq, pk_un (by decide), sm_u_eq, pk_us]
  have hrow2 : K2 m_row = r_beg B.1 := by rw [f2.1 m_row (by decide) (by decide)]; exact hrow
  refine sm_for (P := fun p => ∀ J3 : sm_I, mf [m_isHeld] [] K2 J3 → (∀ q, q < p → J3 m_isHeld q = nI 0) → sm_V G xX10_read (d + 7) 219 [.ref mM, .int (nI p)] [] J3 ρ QQ) 0 3 (by decide) ?_ (fun p _ hp ih => ?_) K2 mf.rf (fun q h => absurd h (Nat.not_lt_zero _))
  · intro J3 f3 z3
    refine wp_iload1 220 rfl dX10_read_219 ?_
    refine wp_iconst (nI 3) 221 rfl dX10_read_220 (by decide) ?_
    refine wp_icmp_ge 224 237 rfl rfl dX10_read_221 (fun c221 => ?_) (fun c221 => absurd (by decide) c221)
    refine wp_iconst (nI 0) 238 rfl dX10_read_237 (by decide) ?_
    refine wp_iret dX10_read_238 rfl ?_
    refine kk J3 ⟨⟨hT2.kept f3 (by decide) (by decide), hT0.2, ?_, w70b, ?_⟩, ⟨(f3.2 56 (by decide)).trans h56, Nat.zero_le _, fun i r h => by cases h⟩, ⟨(f3.2 60 (by decide)).trans h60, Nat.zero_le _, fun i a b v h => by cases h⟩, fun q hq => ⟨fun _ => z3 q hq, fun r h => by cases h⟩, ⟨(f3.2 2 (by decide)).trans h2', Nat.zero_le _, fun j hj => absurd hj (Nat.not_lt_zero _)⟩, (f3.2 17 (by decide)).trans h17⟩ (mFr.tr (mFr.of (A := []) (F := [17, 18]) ((mf.uM (by decide)).tr (mf.uM (by decide))) (by decide)) (mFr.tr (mFr.of f1 (by decide)) (mFr.tr (mFr.of f2 (by decide)) (mFr.of f3 (by decide)))))
    · rw [f3.1 m_now (by decide) (by decide)]
      exact hnow
    · rw [f3.1 m_row (by decide) (by decide), hrow2]
      exact w70b
  · intro J3 f3 z3
    refine wp_iload1 220 rfl dX10_read_219 ?_
    refine wp_iconst (nI 3) 221 rfl dX10_read_220 (by decide) ?_
    refine wp_icmp_ge 224 237 rfl rfl dX10_read_221 (fun c221 => absurd c221 (nI_ge hp (by decide))) (fun c221 => ?_)
    refine wp_aload0 225 rfl dX10_read_224 ?_
    refine wp_getr 228 rfl dX10_read_225 fX10_146_10 (md_M hm) (mp_isHeld hm) ?_
    refine wp_iload1 229 rfl dX10_read_228 ?_
    refine wp_iconst (nI 0) 230 rfl dX10_read_229 (by decide) ?_
    refine wp_zast 231 rfl dX10_read_230 (ms_isHeld hm) (p) (by first | rfl | simp only [pk_mul, nI_add]) (⟨by omega, by decide⟩) ?_
    refine wp_iincN1 234 rfl dX10_read_231 (by decide) rfl ?_
    refine wp_goto 219 rfl dX10_read_234 ?_
    refine ih _ (f3.tr (mf.u (by decide) (by decide))) (fun q hq => ?_)
    by_cases e : q = p
    · rw [e, sm_u_eq, pk_us]
      rfl
    · rw [sm_u_off e]
      exact z3 q (by omega)
theorem q_read (hm : md ρ) (hy : mKy ρ) (lv : Nat) (S : yS) (hZ : mZ I lv S) : sm_M G xX10_read (d + 7) [.ref mM] I ρ (sm_Qi (fun r I1 ρ1 => kyF [m_tName, m_nameOf] ρ ρ1 ∧ (∃ lv', mZ I1 lv' (y_read S).2) ∧ r = (y_read S).1 ∧ mFr I I1)) := by
  show sm_V G xX10_read (d + 7) 0 [.ref mM, .retAddr 0] [] I ρ _
  obtain ⟨P1, P3, P4⟩ := hZ.2.2.2.2.1
  obtain ⟨h18, hlv⟩ := hZ.1.1.1
  obtain ⟨n, hn⟩ : ∃ n, n = (y_P S).1 := ⟨_, rfl⟩
  rw [← hn] at P1 P3 P4
  obtain ⟨bt, hbt⟩ : ∃ bt : Nat → Int32, bt = fun j => vp_nar .byte ((y_P S).2 j) := ⟨_, rfl⟩
  refine wp_aload0 1 rfl dX10_read_0 ?_
  refine wp_aload0 2 rfl dX10_read_1 ?_
  refine wp_geti 5 rfl dX10_read_2 fX10_166_10 (md_M hm) ?_
  refine wp_puti 8 rfl dX10_read_5 pX10_172_10 (md_M hm) ⟨rfl, rfl⟩ ?_
  refine wp_iconst (nI 0) 9 rfl dX10_read_8 (by decide) ?_
  refine wp_istore1 10 rfl dX10_read_9 (by decide) rfl ?_
  rw [P1]
  refine sm_for (P := fun p => ∀ J : sm_I, mf [m_text] [4] I J → J mM 4 = nI n → (∀ j, j < p → J m_text j = bt j) → sm_V G xX10_read (d + 7) 10 [.ref mM, .int (nI p)] [] J ρ _) 0 n (Nat.zero_le _) ?_ (fun p _ hp ih => ?_) _ (mf.uM (by decide)) (by rw [sm_u_eq, pk_us]) (fun j h => absurd h (Nat.not_lt_zero _))
  · intro J f1 h4 hx
    have h4' : sm_u J mM 2 (nI 0) mM 4 = nI n := by rw [sm_u_eq, pk_un (by decide)]; exact h4
    refine wp_iload1 11 rfl dX10_read_10 ?_
    refine wp_aload0 12 rfl dX10_read_11 ?_
    refine wp_geti 15 rfl dX10_read_12 fX10_172_10 (md_M hm) ?_
    refine wp_icmp_ge 18 36 rfl rfl dX10_read_15 (fun c15 => ?_) (fun c15 => absurd (by rw [h4]; exact nI_le (Nat.le_refl _) (by omega)) c15)
    refine wp_aload0 37 rfl dX10_read_36 ?_
    refine wp_iconst (nI 0) 38 rfl dX10_read_37 (by decide) ?_
    refine wp_puti 41 rfl dX10_read_38 pX10_166_10 (md_M hm) ⟨rfl, rfl⟩ ?_
    refine wp_aload0 42 rfl dX10_read_41 ?_
    refine wp_Vv0 45 rfl dX10_read_42 kX10_cut lX10_227 (md_M hm) (nl rfl) (nl rfl) (s_cut (I := sm_u J mM 2 (nI 0)) hm hy n bt h4' P3 hx) (fun J1 ρ1 ⟨f2, g2, K, hK, hR, hK2⟩ => ?_)
    have hm1 : md ρ1 := g2.mdl hm
    have hm := hm1
    obtain ⟨tk, htk⟩ : ∃ tk, tk = ky_tk n bt := ⟨_, rfl⟩
    have hq1 : tq J1 ρ1 tk := by rw [htk]; exact ky_tq hR hK2
    have hw : tw tk := by rw [htk]; exact ky_tw P3
    have etk : tk = ky_tk (y_P S).1 (y_P S).2 := by rw [htk, hbt, ky_tk_nar, hn]
    obtain ⟨s, hs⟩ : ∃ s, s + lv = 1 := ⟨1 - lv, by omega⟩
    have fI1 : mf [m_text, m_tKind, m_tPlace, m_tValue] [2, 4, 10] I J1 := ((f1.wk (by decide) (by decide)).tr (mf.uM (by decide))).tr (f2.wk (by decide) (by decide))
    have h18' : J1 mM 18 = nI lv := (fI1.2 18 (by decide)).trans h18
    have hside : nI 1 - nI lv = nI s := by
      have : lv = 0 ∨ lv = 1 := by omega
      rcases this with e | e
      · subst e
        obtain rfl : s = 1 := by omega
        decide
      · subst e
        obtain rfl : s = 0 := by omega
        decide
    obtain ⟨J2, hJ2⟩ : ∃ J2, J2 = sm_u (sm_u (sm_u (sm_u (sm_u (sm_u J1 mM 11 (nI 0)) mM 12 (nI 0)) mM 13 (nI 0)) mM 15 (nI 0)) mM 19 (nI s)) mM 20 (nI 0) := ⟨_, rfl⟩
    have v11 : J2 mM 11 = nI 0 := by rw [hJ2]; rfl
    have v12 : J2 mM 12 = nI 0 := by rw [hJ2]; rfl
    have v13 : J2 mM 13 = nI 0 := by rw [hJ2]; rfl
    have v15 : J2 mM 15 = nI 0 := by rw [hJ2]; rfl
    have v19 : J2 mM 19 = nI s := by rw [hJ2]; rfl
    have v20 : J2 mM 20 = nI 0 := by rw [hJ2]; rfl
    have fJ2 : mf [] [11, 12, 13, 15, 19, 20] J1 J2 := by
      rw [hJ2]
      exact (((((mf.uM (by decide)).tr (mf.uM (by decide))).tr (mf.uM (by decide))).tr (mf.uM (by decide))).tr (mf.uM (by decide))).tr (mf.uM (by decide))
    refine wp_aload0 46 rfl dX10_read_45 ?_
    refine wp_iconst (nI 0) 47 rfl dX10_read_46 (by decide) ?_
    refine wp_puti 50 rfl dX10_read_47 pX10_206_10 (md_M hm) ⟨rfl, rfl⟩ ?_
    refine wp_aload0 51 rfl dX10_read_50 ?_
    refine wp_iconst (nI 0) 52 rfl dX10_read_51 (by decide) ?_
    refine wp_puti 55 rfl dX10_read_52 pX10_230_10 (md_M hm) ⟨rfl, rfl⟩ ?_
    refine wp_aload0 56 rfl dX10_read_55 ?_
    refine wp_iconst (nI 0) 57 rfl dX10_read_56 (by decide) ?_
    refine wp_puti 60 rfl dX10_read_57 pX10_203_10 (md_M hm) ⟨rfl, rfl⟩ ?_
    refine wp_aload0 61 rfl dX10_read_60 ?_
    refine wp_iconst (nI 0) 62 rfl dX10_read_61 (by decide) ?_
    refine wp_puti 65 rfl dX10_read_62 pX10_212_10 (md_M hm) ⟨rfl, rfl⟩ ?_
    refine wp_aload0 66 rfl dX10_read_65 ?_
    refine wp_iconst (nI 1) 67 rfl dX10_read_66 (by decide) ?_
    refine wp_aload0 68 rfl dX10_read_67 ?_
    refine wp_geti 71 rfl dX10_read_68 fX10_233_10 (md_M hm) ?_
    show sm_V G xX10_read (d + 7) 71 [.ref mM, .int (nI n)] [.int (J1 mM 18), .int (nI 1), .ref mM] _ ρ1 _
    rw [h18']
    refine wp_isub 72 rfl dX10_read_71 ?_
    rw [hside]
    refine wp_puti 75 rfl dX10_read_72 pX10_236_10 (md_M hm) ⟨rfl, rfl⟩ ?_
    refine wp_aload0 76 rfl dX10_read_75 ?_
    refine wp_iconst (nI 0) 77 rfl dX10_read_76 (by decide) ?_
    refine wp_puti 80 rfl dX10_read_77 pX10_239_10 (md_M hm) ⟨rfl, rfl⟩ ?_
    refine wp_aload0 81 rfl dX10_read_80 ?_
    refine wp_aload0 82 rfl dX10_read_81 ?_
    refine wp_geti 85 rfl dX10_read_82 fX10_236_10 (md_M hm) ?_
    show sm_V G xX10_read (d + 7) 85 [.ref mM, .int (nI n)] [.int (nI s), .ref mM] (sm_u (sm_u (sm_u (sm_u (sm_u (sm_u J1 mM 11 (nI 0)) mM 12 (nI 0)) mM 13 (nI 0)) mM 15 (nI 0)) mM 19 (nI s)) mM 20 (nI 0)) ρ1 _
    rw [← hJ2]
    clear hJ2
    refine wp_Vv1 88 rfl dX10_read_85 kX10_plain lX10_152 (md_M hm) (nl rfl) (nl rfl) (s_plain hm1 s (by omega)) (fun J3 ρ2 ⟨e3, f3, q1, q2, q3, q4⟩ => ?_)
    have e3 := e3.symm
    subst e3
    have w19 : J3 mM 19 = nI s := (f3.2 19 (by decide)).trans v19
    refine wp_aload0 89 rfl dX10_read_88 ?_
    refine wp_sipush (nI 130) 92 rfl dX10_read_89 (by decide) ?_
    refine wp_aload0 93 rfl dX10_read_92 ?_
    refine wp_geti 96 rfl dX10_read_93 fX10_236_10 (md_M hm) ?_
    rw [w19]
    refine wp_imul 97 rfl dX10_read_96 ?_
    rw [pk_mul]
    refine wp_puti 100 rfl dX10_read_97 pX10_242_10 (md_M hm) ⟨rfl, rfl⟩ ?_
    refine wp_aload0 101 rfl dX10_read_100 ?_
    refine wp_sipush (nI 420) 104 rfl dX10_read_101 (by decide) ?_
    refine wp_aload0 105 rfl dX10_read_104 ?_
    refine wp_geti 108 rfl dX10_read_105 fX10_236_10 (md_M hm) ?_
    show sm_V G xX10_read (d + 7) 108 [.ref mM, .int (nI n)] [.int (J3 mM 19), .int (nI 420), .ref mM] _ ρ1 _
    rw [w19]
    refine wp_imul 109 rfl dX10_read_108 ?_
    rw [pk_mul]
    refine wp_puti 112 rfl dX10_read_109 pX10_245_10 (md_M hm) ⟨rfl, rfl⟩ ?_
    obtain ⟨J4, hJ4⟩ : ∃ J4, J4 = sm_u (sm_u J3 mM 37 (nI (130 * s))) mM 43 (nI (420 * s)) := ⟨_, rfl⟩
    show sm_V G xX10_read (d + 7) 112 [.ref mM, .int (nI n)] [] (sm_u (sm_u J3 mM 37 (nI (130 * s))) mM 43 (nI (420 * s))) ρ1 _
    rw [← hJ4]
    have f4 : mf [] [37, 43] J3 J4 := by
      rw [hJ4]
      exact (mf.uM (by decide)).tr (mf.uM (by decide))
    have u37 : J4 mM 37 = nI (130 * s) := by rw [hJ4, sm_u_eq, pk_un (by decide), sm_u_eq, pk_us]
    have u43 : J4 mM 43 = nI (420 * s) := by rw [hJ4, sm_u_eq, pk_us]
    clear hJ4
    have fF : mf plA [37, 43] J2 J4 := (f3.wk (by decide) (by decide)).tr (f4.wk (by decide) (by decide))
    have sm : ∀ a, a ≠ mM → J4 a = J3 a := fun a ha => f4.1 a List.not_mem_nil ha
    have hr0 : prs J4 tk (.inr (0, 0, 0)) := ⟨⟨Nat.zero_le _, fun j h => absurd h (Nat.not_lt_zero _), Nat.zero_le _, Nat.zero_le _⟩, (fF.2 13 (by decide)).trans v13, (fF.2 11 (by decide)).trans v11, (fF.2 15 (by decide)).trans v15, fun h => absurd rfl h⟩
    have hB0 : bR J4 ρ1 s 0 (0, 0) (x_0, []) := by
      refine ⟨⟨⟨(fF.2 19 (by decide)).trans v19, by omega⟩, ?_, ⟨Nat.zero_le _, Nat.zero_le _, Nat.zero_le _⟩, ⟨(fF.2 20 (by decide)).trans v20, fun i x h => by cases h⟩, rfl, fun x h => absurd h List.not_mem_nil⟩, ⟨130 * s, 420 * s, ⟨u37, Nat.le_refl _, by omega⟩, ⟨u43, Nat.le_refl _, Nat.le_refl _⟩, (fF.2 12 (by decide)).trans v12, fun k hk => ?_⟩, fun _ => ⟨⟨fun j hj => ?_, fun j hj => ?_, fun r hr => ?_, ?_⟩, tok_0⟩⟩
      · rw [sm _ (by decide), sm _ (by decide), sm _ (by decide)]
        exact ⟨q1.1, q1.2.1, q1.2.2.1⟩
      · show J4 m_lawFirst (3 * s + k) = J4 m_lawLast (3 * s + k)
        rw [sm _ (by decide), sm _ (by decide), (q3 k hk).1, (q3 k hk).2]
      · have hj : j < 4 * 0 := hj
        omega
      · have hj : j < 4 * 0 := hj
        omega
      · have hr : r < 0 := hr
        omega
      · rw [sm _ (by decide), sm _ (by decide), sm _ (by decide)]
        exact ⟨q1.2.2.2.1, q1.2.2.2.2.1, q1.2.2.2.2.2⟩
    have hZ2 : mZ J2 lv (y_rest S (y_p S)) := hZ.rest (A := [m_text, m_tKind, m_tPlace, m_tValue]) (F := [2, 4, 10, 11, 12, 13, 15, 19, 20]) ((fI1.wk (by decide) (by decide)).tr (fJ2.wk (by decide) (by decide))) (by decide) (by decide) (by
      rw [fJ2.2 2 (by decide), f2.2 2 (by decide), sm_u_eq, pk_us])
    have hrF : rF s J2 J4 := by
      refine rF.of fF (by decide) (by decide) (fun x hx hA j hj => ?_)
      have hc1 : ∀ x ∈ rdW, x.1 ∈ plA → x = (m_doors, 1) ∨ x = (m_callers, 1) ∨ x = (m_rounds, 1) ∨ x = (m_wind, 1) ∨ x = (m_near, 1) ∨ x = (m_seed, 1) ∨ x = (m_lawFirst, 3) ∨ x = (m_lawLast, 3) := by decide
      rcases hc1 x hx hA with e | e | e | e | e | e | e | e
      · subst e
        rw [sm _ (by decide)]
        exact (q2 j (by omega)).1
      · subst e
        rw [sm _ (by decide)]
        exact (q2 j (by omega)).2.1
      · subst e
        rw [sm _ (by decide)]
        exact (q2 j (by omega)).2.2.1
      · subst e
        rw [sm _ (by decide)]
        exact (q2 j (by omega)).2.2.2.1
      · subst e
        rw [sm _ (by decide)]
        exact (q2 j (by omega)).2.2.2.2.1
      · subst e
        rw [sm _ (by decide)]
        exact (q2 j (by omega)).2.2.2.2.2
      · subst e
        rw [sm _ (by decide)]
        exact (q4 j hj).1
      · subst e
        rw [sm _ (by decide)]
        exact (q4 j hj).2
    have hq4 : tq J4 ρ1 tk := (hq1.kept fJ2 (fun a _ => List.not_mem_nil) rfl).kept fF (by decide) rfl
    refine rd_loop tk hw s _ 402 J4 ρ1 (.inr (0, 0, 0)) (x_0, []) hm1 hq4 hr0 (fun t w e => ?_) (fun J5 ρ5 r5 g5 p5 b5 => ?_)
    · cases e
      exact ⟨hB0, by omega⟩
    · have hZ5 : mZ J5 lv (y_rest S (y_p S)) := (hZ2.r hrF hs).r r5 hs
      have hm5 : md ρ5 := g5.mdl hm1
      have F5 : mFr I J5 := ((mFr.of fI1 (by decide)).tr (mFr.of fJ2 (by decide))).tr ((mFr.of fF (by decide)).tr (mFr.of r5.1 (by decide)))
      have gk : kyF [m_tName, m_nameOf] ρ ρ5 := by
        refine ⟨g5.1.trans g2.1, fun a ha => ?_⟩
        have n1 : a ∉ [m_nameOf] := fun q => ha (List.mem_cons_of_mem _ q)
        have n2 : a ∉ [m_tName] := fun q => ha (by
          have : a = m_tName := by simpa using q
          rw [this]
          exact List.mem_cons_self)
        rw [g5.2 a n1, g2.2 a n2]
      have eread : g_read (y_P S) = g_all tk 402 (.inr (0, 0, 0)) (x_0, []) := by rw [etk]; rfl
      cases hg : g_all tk 402 (.inr (0, 0, 0)) (x_0, []) with
      | mk r1 B1 =>
        rw [hg] at p5 b5 eread
        have er : y_read S = match (r1, B1) with
            | (.inl (m, j), _) => (nI m, y_rest S (nI (ky_tk (y_P S).1 (y_P S).2 j).2.1))
            | (.inr (_, w), B) => if w.1 = 0 then (nI 0, (B.1, r_beg B.1, [], [], (fun _ => none), (0, (y_P S).2), -1)) else (nI w.1, y_rest S (nI (ky_tk (y_P S).1 (y_P S).2 w.2).2.1)) := by
          unfold y_read
          rw [eread]
          rfl
        match r1, p5, b5, er with
        | .inl (m, j), p5, b5, er =>
          refine rd_fault hm5 J5 lv S tk _ m j hZ5 p5 (fun J6 h6 k6 => ⟨_, rfl, gk, ⟨lv, ?_⟩, ?_, F5.tr k6⟩)
          · rw [er]
            rw [etk] at h6
            exact h6
          · rw [er]
        | .inr (t, w), p5, b5, er =>
          by_cases hw0 : w.1 = 0
          · have er : y_read S = (nI 0, (B1.1, r_beg B1.1, [], [], (fun _ => none), (0, (y_P S).2), -1)) := er.trans (if_pos hw0)
            refine rd_good hm5 J5 lv s S tk _ t w B1 hw0 hZ5 p5 (b5 t w rfl) (fun J6 h6 k6 => ⟨_, rfl, gk, ⟨s, ?_⟩, ?_, F5.tr k6⟩)
            · rw [er]
              exact h6
            · rw [er]
          · have er : y_read S = (nI w.1, y_rest S (nI (ky_tk (y_P S).1 (y_P S).2 w.2).2.1)) := er.trans (if_neg hw0)
            refine rd_worst hm5 J5 lv S tk _ t w hw0 hZ5 p5 (fun J6 h6 k6 => ⟨_, rfl, gk, ⟨lv, ?_⟩, ?_, F5.tr k6⟩)
            · rw [er]
              rw [etk] at h6
              exact h6
            · rw [er]
  · intro J f1 h4 hx
    refine wp_iload1 11 rfl dX10_read_10 ?_
    refine wp_aload0 12 rfl dX10_read_11 ?_
    refine wp_geti 15 rfl dX10_read_12 fX10_172_10 (md_M hm) ?_
    refine wp_icmp_ge 18 36 rfl rfl dX10_read_15 (fun c15 => absurd c15 (by rw [h4]; exact nI_ge hp (by omega))) (fun c15 => ?_)
    refine wp_aload0 19 rfl dX10_read_18 ?_
    refine wp_getr 22 rfl dX10_read_19 fX10_17_10 (md_M hm) (mp_text hm) ?_
    refine wp_iload1 23 rfl dX10_read_22 ?_
    refine wp_aload0 24 rfl dX10_read_23 ?_
    refine wp_getr 27 rfl dX10_read_24 fX10_13_10 (md_M hm) (mp_tape hm) ?_
    refine wp_iload1 28 rfl dX10_read_27 ?_
    refine wp_bald 29 rfl dX10_read_28 (ms_tape hm) (p) (by first | rfl | simp only [pk_mul, nI_add]) (⟨by omega, by decide⟩) ?_
    refine wp_bast 30 rfl dX10_read_29 (ms_text hm) (p) (by first | rfl | simp only [pk_mul, nI_add]) (⟨by omega, by decide⟩) ?_
    refine wp_iincN1 33 rfl dX10_read_30 (by decide) rfl ?_
    refine wp_goto 10 rfl dX10_read_33 ?_
    refine ih _ (f1.tr (mf.u (by decide) (by decide))) (by rw [sm_u_ne _ _ _ (by decide)]; exact h4) (fun j hj => ?_)
    by_cases e : j = p
    · rw [e, sm_u_eq, pk_us, hbt, f1.1 m_tape (by decide) (by decide), P4 p hp]
    · rw [sm_u_off e]
      exact hx j (by omega)
end M52
