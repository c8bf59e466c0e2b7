/-! ===== reading: term, tellLaw ===== -/
set_option maxRecDepth 100000
theorem sm_u_off {I : sm_I} {a i a' j : Nat} {v : Int32} (h : ¬ j = i) : sm_u I a i v a' j = I a' j := by
  by_cases e : a' = a
  · rw [e, sm_u_eq, pk_un h]
  · rw [sm_u_ne _ _ _ e]
theorem g_pass_inv {r : pR} {t' : Nat} {w' : Nat × Nat} (h : g_pass r = .inr (t', w')) : ∃ t, r = .inr (t, w') ∧ t' = t + 1 ∧ ¬ t = 400 := by
  cases r with
  | inl e => cases h
  | inr q =>
    obtain ⟨t, w⟩ := q
    have h : (if t = 400 then (.inl (2, t) : pR) else .inr (t + 1, w)) = .inr (t', w') := h
    by_cases h4 : t = 400
    · rw [if_pos h4] at h
      cases h
    · rw [if_neg h4] at h
      cases h
      exact ⟨t, rfl, rfl, h4⟩
theorem g_must_inv {tk : tkf} {k : Nat} {r : pR} {t' : Nat} {w' : Nat × Nat} (h : g_must tk k r = .inr (t', w')) : ∃ t, r = .inr (t, w') ∧ (tk t).1 = k ∧ t' = t + 1 ∧ ¬ t = 400 := by
  cases r with
  | inl e => cases h
  | inr q =>
    obtain ⟨t, w⟩ := q
    have h : (if (tk t).1 = k then g_pass (.inr (t, w)) else .inl (1, t)) = .inr (t', w') := h
    by_cases hk : (tk t).1 = k
    · rw [if_pos hk] at h
      obtain ⟨t0, e0, e1, e2⟩ := g_pass_inv h
      cases e0
      exact ⟨t, rfl, hk, e1, e2⟩
    · rw [if_neg hk] at h
      cases h
theorem g_ex_inv {tk : tkf} {r : pR} {t' : Nat} {w' : Nat × Nat} (h : (g_ex tk r).1 = .inr (t', w')) : ∃ t, r = .inr (t, w') ∧ (t ≤ 400 → ps_ok tk t (g_ex tk r).2 t') := by
  cases r with
  | inl e => cases h
  | inr q =>
    obtain ⟨t, w⟩ := q
    have hw : w' = w := by
      cases hx : ps tk 4000 3 0 t [] with
      | inl x =>
        rw [g_ex_l hx] at h
        cases h
      | inr q =>
        rw [g_ex_r (u := q.1) (t' := q.2) hx] at h
        cases h
        rfl
    subst hw
    exact ⟨t, rfl, fun ht => (g_ex_ok ht h).2⟩
/-- what reading a law's terms may change: from c and b on, of the side -/
def tF (s c b : Nat) (I J : sm_I) : Prop := mf [m_code, m_codeInt, m_waits, m_hasTest, m_testFrom, m_testMid, m_testTo, m_termTo] [11, 12, 13, 14, 15, 16, 37, 43, 47] I J ∧ (∀ j, (j < c ∨ 420 * s + 420 ≤ j) → J m_code j = I m_code j ∧ J m_codeInt j = I m_codeInt j) ∧ ∀ j, (j < b ∨ 130 * s + 130 ≤ j) → J m_hasTest j = I m_hasTest j ∧ J m_testFrom j = I m_testFrom j ∧ J m_testMid j = I m_testMid j ∧ J m_testTo j = I m_testTo j ∧ J m_termTo j = I m_termTo j
theorem tF.rf {s c b : Nat} {I : sm_I} : tF s c b I I := ⟨mf.rf, fun _ _ => ⟨rfl, rfl⟩, fun _ _ => ⟨rfl, rfl, rfl, rfl, rfl⟩⟩
theorem tF.tr {s c b c' b' : Nat} {I J K : sm_I} (h : tF s c b I J) (h2 : tF s c' b' J K) (hc : c ≤ c') (hb : b ≤ b') : tF s c b I K := by
  refine ⟨h.1.tr h2.1, fun j hj => ?_, fun j hj => ?_⟩
  · obtain ⟨a1, a2⟩ := h.2.1 j hj
    obtain ⟨b1, b2⟩ := h2.2.1 j (by omega)
    exact ⟨b1.trans a1, b2.trans a2⟩
  · obtain ⟨a1, a2, a3, a4, a5⟩ := h.2.2 j hj
    obtain ⟨b1, b2, b3, b4, b5⟩ := h2.2.2 j (by omega)
    exact ⟨b1.trans a1, b2.trans a2, b3.trans a3, b4.trans a4, b5.trans a5⟩
theorem tF.of {A F : List Nat} {s c b : Nat} {I J : sm_I} (h : mf A F I J) (hA : ∀ a ∈ A, a ∈ [m_waits]) (hF : ∀ k ∈ F, k ∈ [11, 12, 13, 14, 15, 16, 37, 43, 47]) : tF s c b I J := by
  have e : ∀ a, a ∈ [m_code, m_codeInt, m_hasTest, m_testFrom, m_testMid, m_testTo, m_termTo] → J a = I a := fun a ha => h.1 a (fun q => by
    have h1 := hA a q
    rw [List.mem_singleton.mp h1] at ha
    revert ha
    decide) (fun q => by
    rw [q] at ha
    revert ha
    decide)
  refine ⟨h.wk (fun a ha => ?_) hF, fun j _ => ?_, fun j _ => ?_⟩
  · rw [List.mem_singleton.mp (hA a ha)]
    decide
  · rw [e m_code (by decide), e m_codeInt (by decide)]
    exact ⟨rfl, rfl⟩
  · rw [e m_hasTest (by decide), e m_testFrom (by decide), e m_testMid (by decide), e m_testTo (by decide), e m_termTo (by decide)]
    exact ⟨rfl, rfl, rfl, rfl, rfl⟩
theorem xF.t {s c b : Nat} {I J : sm_I} (h : xF c (420 * s + 420) I J) : tF s c b I J := by
  refine ⟨h.1.wk (by decide) (by decide), h.2, fun j _ => ?_⟩
  rw [h.1.1 m_hasTest (by decide) (by decide), h.1.1 m_testFrom (by decide) (by decide), h.1.1 m_testMid (by decide) (by decide), h.1.1 m_testTo (by decide) (by decide), h.1.1 m_termTo (by decide) (by decide)]
  exact ⟨rfl, rfl, rfl, rfl, rfl⟩
theorem tF.u {s c b i a : Nat} {v : Int32} {I : sm_I} (ha : a ∈ [m_hasTest, m_testFrom, m_testMid, m_testTo, m_termTo]) (h1 : b ≤ i) (h2 : i < 130 * s + 130) : tF s c b I (sm_u I a i v) := by
  have hM : a ≠ mM := fun e => by
    rw [e] at ha
    revert ha
    decide
  have hc : m_code ≠ a := fun e => by
    rw [← e] at ha
    revert ha
    decide
  have hd : m_codeInt ≠ a := fun e => by
    rw [← e] at ha
    revert ha
    decide
  have hin : ∀ x ∈ [m_hasTest, m_testFrom, m_testMid, m_testTo, m_termTo], x ∈ [m_code, m_codeInt, m_waits, m_hasTest, m_testFrom, m_testMid, m_testTo, m_termTo] := by decide
  refine ⟨mf.u (hin a ha) hM, fun j _ => ?_, fun j hj => ?_⟩
  · rw [sm_u_ne _ _ _ hc, sm_u_ne _ _ _ hd]
    exact ⟨rfl, rfl⟩
  · exact ⟨sm_u_off (by omega), sm_u_off (by omega), sm_u_off (by omega), sm_u_off (by omega), sm_u_off (by omega)⟩
theorem ex_at.kp {I J : sm_I} {p : Nat} {u : ex} (h : ex_at I p u) {q : Nat} (hq : p + u.length ≤ q) (hf : ∀ j, j < q → J m_code j = I m_code j ∧ J m_codeInt j = I m_codeInt j) : ex_at J p u := fun i k v hi => by
  have hlt := (List.getElem?_eq_some_iff.mp hi).1
  obtain ⟨a, b⟩ := hf (p + i) (by omega)
  rw [a, b]
  exact h i k v hi
theorem tF.ex {s c b : Nat} {I J : sm_I} (h : tF s c b I J) {p : Nat} {u : ex} (hu : ex_at I p u) (hq : p + u.length ≤ c) : ex_at J p u := hu.kp hq (fun j hj => h.2.1 j (Or.inl hj))
section M38
variable {G : sm_G} {d : Nat} {I : sm_I} {ρ : sm_R} {QQ : sm_O → sm_I → sm_R → Prop}
abbrev tmA : List Nat := [m_code, m_codeInt, m_waits, m_testTo, m_termTo]
abbrev tmF : List Nat := [11, 12, 13, 14, 15, 16, 37, 43, 47]
theorem s_term (hm : md ρ) (tk : tkf) (hw : tw tk) (hq : tq I ρ tk) (r : pR) (hr : prs I tk r) (s b c : Nat) (hs : s < 2) (hb : 130 * s ≤ b ∧ b < 130 * s + 130) (h37 : I mM 37 = nI b) (h : ∀ t w, r = .inr (t, w) → I mM 12 = nI 0 ∧ I mM 43 = nI c ∧ c + (401 - t) ≤ 420 * s + 420) :
    sm_M G xX10_term (d + 4) [.ref mM] I ρ (sm_Qv (fun I1 ρ1 => ρ1 = ρ ∧ tF s c b I I1 ∧ mf tmA tmF I I1 ∧ prs I1 tk (g_ex tk r).1 ∧ I1 mM 37 = nI (b + 1) ∧ ∀ t w, (g_ex tk r).1 = .inr (t, w) → I1 mM 12 = nI 0 ∧ I1 mM 43 = nI (c + (g_ex tk r).2.length) ∧ I1 m_testTo b = nI c ∧ I1 m_termTo b = nI (c + (g_ex tk r).2.length) ∧ ex_at I1 c (g_ex tk r).2)) := by
  show sm_V G xX10_term (d + 4) 0 [.ref mM] [] I ρ _
  refine wp_aload0 1 rfl dX10_term_0 ?_
  refine wp_getr 4 rfl dX10_term_1 fX10_98_10 (md_M hm) (mp_testTo hm) ?_
  refine wp_aload0 5 rfl dX10_term_4 ?_
  refine wp_geti 8 rfl dX10_term_5 fX10_242_10 (md_M hm) ?_
  refine wp_aload0 9 rfl dX10_term_8 ?_
  refine wp_geti 12 rfl dX10_term_9 fX10_245_10 (md_M hm) ?_
  refine wp_iast 13 rfl dX10_term_12 (ms_testTo hm) (b) (h37) (⟨by omega, by decide⟩) ?_
  have hfJ : mf [m_testTo] [] I (sm_u I m_testTo b (I mM 43)) := mf.u (by decide) (by decide)
  have htJ : tF s c b I (sm_u I m_testTo b (I mM 43)) := tF.u (by decide) (Nat.le_refl _) hb.2
  have e1 : sm_u I m_testTo b (I mM 43) m_testTo b = I mM 43 := by rw [sm_u_eq, pk_us]
  generalize sm_u I m_testTo b (I mM 43) = J at hfJ htJ e1 ⊢
  have h37J : J mM 37 = nI b := (hfJ.2 37 (by decide)).trans h37
  have h12J : J mM 12 = I mM 12 := hfJ.2 12 (by decide)
  have h43J : J mM 43 = I mM 43 := hfJ.2 43 (by decide)
  have hrJ := hr.kept hfJ (by decide)
  have hqJ : tq J ρ tk := hq.kept hfJ (by decide) rfl
  have fin : ∀ K : sm_I, tF s c b I K → mf tmA tmF I K → K mM 37 = nI b → prs K tk (g_ex tk r).1 → (∀ t w, (g_ex tk r).1 = .inr (t, w) → K mM 12 = nI 0 ∧ K mM 43 = nI (c + (g_ex tk r).2.length) ∧ K m_testTo b = nI c ∧ ex_at K c (g_ex tk r).2) → sm_V G xX10_term (d + 4) 24 [.ref mM] [] K ρ (sm_Qv (fun I1 ρ1 => ρ1 = ρ ∧ tF s c b I I1 ∧ mf tmA tmF I I1 ∧ prs I1 tk (g_ex tk r).1 ∧ I1 mM 37 = nI (b + 1) ∧ ∀ t w, (g_ex tk r).1 = .inr (t, w) → I1 mM 12 = nI 0 ∧ I1 mM 43 = nI (c + (g_ex tk r).2.length) ∧ I1 m_testTo b = nI c ∧ I1 m_termTo b = nI (c + (g_ex tk r).2.length) ∧ ex_at I1 c (g_ex tk r).2)) := by
    intro K ht hf k37 hp ho
    refine wp_aload0 25 rfl dX10_term_24 ?_
    refine wp_getr 28 rfl dX10_term_25 fX10_101_10 (md_M hm) (mp_termTo hm) ?_
    refine wp_aload0 29 rfl dX10_term_28 ?_
    refine wp_geti 32 rfl dX10_term_29 fX10_242_10 (md_M hm) ?_
    refine wp_aload0 33 rfl dX10_term_32 ?_
    refine wp_geti 36 rfl dX10_term_33 fX10_245_10 (md_M hm) ?_
    refine wp_iast 37 rfl dX10_term_36 (ms_termTo hm) (b) (k37) (⟨by omega, by decide⟩) ?_
    refine wp_aload0 38 rfl dX10_term_37 ?_
    refine wp_dup 39 rfl dX10_term_38 rfl ?_
    refine wp_geti 42 rfl dX10_term_39 fX10_242_10 (md_M hm) ?_
    refine wp_iconst (nI 1) 43 rfl dX10_term_42 (by decide) ?_
    refine wp_iadd 44 rfl dX10_term_43 ?_
    refine wp_puti 47 rfl dX10_term_44 pX10_242_10 (md_M hm) ⟨rfl, rfl⟩ ?_
    rw [show sm_u K m_termTo b (K mM 43) mM 37 = nI b from k37]
    obtain ⟨K2, hK2⟩ : ∃ K2, K2 = sm_u (sm_u K m_termTo b (K mM 43)) mM 37 (nI b + nI 1) := ⟨_, rfl⟩
    rw [← hK2]
    have g1 : tF s c b K K2 := by
      rw [hK2]
      exact (tF.u (s := s) (c := c) (b := b) (by decide) (Nat.le_refl _) hb.2).tr (tF.of (mf.uM (A := []) (F := [37]) (by decide)) (by decide) (by decide)) (Nat.le_refl _) (Nat.le_refl _)
    have g2 : mf [m_termTo] [37] K K2 := by
      rw [hK2]
      exact (mf.u (by decide) (by decide)).tr (mf.uM (by decide))
    have g3 : K2 mM 37 = nI (b + 1) := by rw [hK2, sm_u_eq, pk_us]; exact nI_add b 1
    have g4 : K2 m_termTo b = K mM 43 := by rw [hK2, sm_u_ne _ _ _ (by decide), sm_u_eq, pk_us]
    refine wp_vret dX10_term_47 rfl ?_
    refine ⟨rfl, rfl, ht.tr g1 (Nat.le_refl _) (Nat.le_refl _), hf.tr (g2.wk (by decide) (by decide)), hp.kept g2 (by decide), g3, fun t w ho2 => ?_⟩
    obtain ⟨o1, o2, o3, o4⟩ := ho t w ho2
    refine ⟨(g2.2 12 (by decide)).trans o1, (g2.2 43 (by decide)).trans o2, ?_, g4.trans o2, ?_⟩
    · rw [g2.1 m_testTo (by decide) (by decide)]
      exact o3
    · intro i k v hi
      rw [g2.1 m_code (by decide) (by decide), g2.1 m_codeInt (by decide) (by decide)]
      exact o4 i k v hi
  cases r with
  | inl x =>
    obtain ⟨n, j⟩ := x
    have hn := hr.1
    refine wp_aload0 14 rfl dX10_term_13 ?_
    refine wp_geti 17 rfl dX10_term_14 fX10_203_10 (md_M hm) ?_
    rw [hrJ.2.1]
    refine wp_if_ne 20 24 rfl rfl dX10_term_17 (fun c17 => ?_) (fun c17 => absurd c17 (nI_ne0 (by omega) (by omega)))
    exact fin J htJ (hfJ.wk (by decide) (by decide)) h37J hrJ (fun t w hh => by cases hh)
  | inr q =>
    obtain ⟨t, w⟩ := q
    obtain ⟨z12, z43, zl⟩ := h t w rfl
    refine wp_aload0 14 rfl dX10_term_13 ?_
    refine wp_geti 17 rfl dX10_term_14 fX10_203_10 (md_M hm) ?_
    rw [hrJ.2.1]
    refine wp_if_ne 20 24 rfl rfl dX10_term_17 (fun c17 => absurd (rfl) c17) (fun c17 => ?_)
    refine wp_aload0 21 rfl dX10_term_20 ?_
    refine wp_Vv0 24 rfl dX10_term_21 kX10_expression lX10_290 (md_M hm) (nl rfl) (nl rfl) (s_expression hm tk hw hqJ _ hrJ c (420 * s + 420) (by omega) (fun t' w' e => by cases e; exact ⟨h12J.trans z12, h43J.trans z43, zl⟩)) (fun K ρ1 hq1 => ?_)
    obtain ⟨rfl, hx, hp, ho⟩ := hq1
    refine fin K (htJ.tr hx.t (Nat.le_refl _) (Nat.le_refl _)) ((hfJ.wk (by decide) (by decide)).tr (hx.1.wk (by decide) (by decide))) ((hx.1.2 37 (by decide)).trans h37J) hp (fun t' w' ho2 => ?_)
    obtain ⟨o1, o2, o3⟩ := ho t' w' ho2
    refine ⟨o1, o2, ?_, o3⟩
    rw [hx.1.1 m_testTo (by decide) (by decide), e1]
    exact z43
/-- an if of a law: its pieces -/
theorem tl_body (hm : md ρ) (tk : tkf) (hw : tw tk) (J : sm_I) (hq : tq J ρ tk) (r : pR) (hr : prs J tk r) (s b c : Nat) (hs : s < 2) (hb : 130 * s ≤ b ∧ b < 130 * s + 130) (h37 : J mM 37 = nI b) (h : ∀ t w, r = .inr (t, w) → J mM 12 = nI 0 ∧ J mM 43 = nI c ∧ c + (401 - t) ≤ 420 * s + 420) (a1 a2 a3 : Value)
    (r3 r5 r7 : pR) (u v x : ex) (hr3 : r3 = g_must tk 13 (g_ex tk r).1) (hr5 : r5 = g_must tk 30 (g_ex tk r3).1) (hr7 : r7 = g_must tk 31 (g_ex tk r5).1) (hu : u = (g_ex tk r).2) (hv : v = (g_ex tk r3).2) (hx : x = (g_ex tk r5).2)
    (kk : ∀ J1, tF s c b J J1 → prs J1 tk r7 → J1 mM 37 = nI (b + 1) → (∀ t w, r7 = .inr (t, w) → J1 mM 12 = nI 0 ∧ J1 mM 43 = nI (c + u.length + v.length + x.length) ∧ J1 m_hasTest b = nI 1 ∧ J1 m_testFrom b = nI c ∧ J1 m_testMid b = nI (c + u.length) ∧ J1 m_testTo b = nI (c + u.length + v.length) ∧ J1 m_termTo b = nI (c + u.length + v.length + x.length) ∧ ex_at J1 c u ∧ ex_at J1 (c + u.length) v ∧ ex_at J1 (c + u.length + v.length) x) → sm_V G xX10_tellLaw (d + 5) 12 [.ref mM, a1, a2, a3] [] J1 ρ QQ) :
    sm_V G xX10_tellLaw (d + 5) 53 [.ref mM, a1, a2, a3] [] J ρ QQ := by
  refine wp_aload0 54 rfl dX10_tellLaw_53 ?_
  refine wp_getr 57 rfl dX10_tellLaw_54 fX10_88_10 (md_M hm) (mp_hasTest hm) ?_
  refine wp_aload0 58 rfl dX10_tellLaw_57 ?_
  refine wp_geti 61 rfl dX10_tellLaw_58 fX10_242_10 (md_M hm) ?_
  refine wp_iconst (nI 1) 62 rfl dX10_tellLaw_61 (by decide) ?_
  refine wp_zast 63 rfl dX10_tellLaw_62 (ms_hasTest hm) (b) (h37) (⟨by omega, by decide⟩) ?_
  rw [show vp_nar .boolean (nI 1) = nI 1 from by decide +kernel]
  refine wp_aload0 64 rfl dX10_tellLaw_63 ?_
  refine wp_getr 67 rfl dX10_tellLaw_64 fX10_92_10 (md_M hm) (mp_testFrom hm) ?_
  refine wp_aload0 68 rfl dX10_tellLaw_67 ?_
  refine wp_geti 71 rfl dX10_tellLaw_68 fX10_242_10 (md_M hm) ?_
  refine wp_aload0 72 rfl dX10_tellLaw_71 ?_
  refine wp_geti 75 rfl dX10_tellLaw_72 fX10_245_10 (md_M hm) ?_
  refine wp_iast 76 rfl dX10_tellLaw_75 (ms_testFrom hm) (b) (h37) (⟨by omega, by decide⟩) ?_
  obtain ⟨J2, hJ2⟩ : ∃ J2, J2 = sm_u (sm_u J m_hasTest b (nI 1)) m_testFrom b (J mM 43) := ⟨_, rfl⟩
  show sm_V G xX10_tellLaw (d + 5) 76 [.ref mM, a1, a2, a3] [] (sm_u (sm_u J m_hasTest b (nI 1)) m_testFrom b (J mM 43)) ρ QQ
  rw [← hJ2]
  have f2 : mf [m_hasTest, m_testFrom] [] J J2 := by
    rw [hJ2]
    exact (mf.u (by decide) (by decide)).tr (mf.u (by decide) (by decide))
  have t2 : tF s c b J J2 := by
    rw [hJ2]
    exact (tF.u (s := s) (c := c) (b := b) (by decide) (Nat.le_refl _) hb.2).tr (tF.u (s := s) (c := c) (b := b) (by decide) (Nat.le_refl _) hb.2) (Nat.le_refl _) (Nat.le_refl _)
  have e2h : J2 m_hasTest b = nI 1 := by rw [hJ2, sm_u_ne _ _ _ (by decide), sm_u_eq, pk_us]
  have e2f : J2 m_testFrom b = J mM 43 := by rw [hJ2, sm_u_eq, pk_us]
  have hr2 := hr.kept f2 (by decide)
  have hq2 : tq J2 ρ tk := hq.kept f2 (by decide) rfl
  have b2 : J2 mM 37 = nI b := (f2.2 37 (by decide)).trans h37
  refine wp_aload0 77 rfl dX10_tellLaw_76 ?_
  refine wp_Vv0 80 rfl dX10_tellLaw_77 kX10_expression lX10_290 (md_M hm) (nl rfl) (nl rfl) (s_expression hm tk hw hq2 _ hr2 c (420 * s + 420) (by omega) (fun t w e => by obtain ⟨z1, z2, z3⟩ := h t w e; exact ⟨(f2.2 12 (by decide)).trans z1, (f2.2 43 (by decide)).trans z2, z3⟩)) (fun J3 ρ3 hq3 => ?_)
  obtain ⟨rfl, x3, p3, o3⟩ := hq3
  have hq3 : tq J3 ρ3 tk := hq2.kept x3.1 (by decide) rfl
  have b3 : J3 mM 37 = nI b := (x3.1.2 37 (by decide)).trans b2
  rw [← hu] at o3
  refine wp_aload0 81 rfl dX10_tellLaw_80 ?_
  refine wp_bipush (nI 13) 83 rfl dX10_tellLaw_81 (by decide) ?_
  refine wp_Vv1 86 rfl dX10_tellLaw_83 kX10_must lX10_261 (md_M hm) (nl rfl) (nl rfl) (s_must hm tk hq3 hw _ p3 13 (by decide)) (fun J4 ρ4 hq4 => ?_)
  obtain ⟨rfl, f4, p4⟩ := hq4
  rw [← hr3] at p4
  have hq4 : tq J4 ρ4 tk := hq3.kept f4 (by decide) rfl
  have b4 : J4 mM 37 = nI b := (f4.2 37 (by decide)).trans b3
  refine wp_aload0 87 rfl dX10_tellLaw_86 ?_
  refine wp_getr 90 rfl dX10_tellLaw_87 fX10_95_10 (md_M hm) (mp_testMid hm) ?_
  refine wp_aload0 91 rfl dX10_tellLaw_90 ?_
  refine wp_geti 94 rfl dX10_tellLaw_91 fX10_242_10 (md_M hm) ?_
  refine wp_aload0 95 rfl dX10_tellLaw_94 ?_
  refine wp_geti 98 rfl dX10_tellLaw_95 fX10_245_10 (md_M hm) ?_
  refine wp_iast 99 rfl dX10_tellLaw_98 (ms_testMid hm) (b) (b4) (⟨by omega, by decide⟩) ?_
  obtain ⟨J5, hJ5⟩ : ∃ J5, J5 = sm_u J4 m_testMid b (J4 mM 43) := ⟨_, rfl⟩
  rw [← hJ5]
  have f5 : mf [m_testMid] [] J4 J5 := by rw [hJ5]; exact mf.u (by decide) (by decide)
  have t5 : tF s c b J4 J5 := by rw [hJ5]; exact tF.u (by decide) (Nat.le_refl _) hb.2
  have e5 : J5 m_testMid b = J4 mM 43 := by rw [hJ5, sm_u_eq, pk_us]
  have p5 := p4.kept f5 (by decide)
  have hq5 : tq J5 ρ4 tk := hq4.kept f5 (by decide) rfl
  have b5 : J5 mM 37 = nI b := (f5.2 37 (by decide)).trans b4
  have T5 : tF s c b J J5 := ((t2.tr x3.t (Nat.le_refl _) (Nat.le_refl _)).tr (tF.of f4 (by decide) (by decide)) (Nat.le_refl _) (Nat.le_refl _)).tr t5 (Nat.le_refl _) (Nat.le_refl _)
  -- the state behind the first term
  have s5 : ∀ t w, r3 = .inr (t, w) → (J5 mM 12 = nI 0 ∧ J5 mM 43 = nI (c + u.length) ∧ c + u.length + (401 - t) ≤ 420 * s + 420) ∧ J5 m_hasTest b = nI 1 ∧ J5 m_testFrom b = nI c ∧ J5 m_testMid b = nI (c + u.length) ∧ ex_at J5 c u := fun t w e => by
    rw [hr3] at e
    obtain ⟨t1, e1, k1, q1, n1⟩ := g_must_inv e
    obtain ⟨t0, e0, ok⟩ := g_ex_inv e1
    have ht0 : t0 ≤ 400 := by
      rw [e0] at hr
      exact hr.1.1
    obtain ⟨i1, i2, i3, i4, i5⟩ := ok ht0
    rw [← hu] at i3
    obtain ⟨z1, z2, z3⟩ := h t0 w e0
    obtain ⟨v1, v2, v3⟩ := o3 t1 w e1
    have w43 : J4 mM 43 = nI (c + u.length) := (f4.2 43 (by decide)).trans v2
    refine ⟨⟨(f5.2 12 (by decide)).trans ((f4.2 12 (by decide)).trans v1), (f5.2 43 (by decide)).trans w43, by omega⟩, ?_, ?_, e5.trans w43, ?_⟩
    · rw [f5.1 m_hasTest (by decide) (by decide), f4.1 m_hasTest (by decide) (by decide), x3.1.1 m_hasTest (by decide) (by decide)]
      exact e2h
    · rw [f5.1 m_testFrom (by decide) (by decide), f4.1 m_testFrom (by decide) (by decide), x3.1.1 m_testFrom (by decide) (by decide), e2f]
      exact z2
    · intro i k v' hi
      rw [f5.1 m_code (by decide) (by decide), f5.1 m_codeInt (by decide) (by decide), f4.1 m_code (by decide) (by decide), f4.1 m_codeInt (by decide) (by decide)]
      exact v3 i k v' hi
  -- from the second term on
  have go : ∀ J6 : sm_I, xF (c + u.length) (420 * s + 420) J5 J6 → prs J6 tk (g_ex tk r3).1 → (∀ t w, (g_ex tk r3).1 = .inr (t, w) → J6 mM 12 = nI 0 ∧ J6 mM 43 = nI (c + u.length + v.length) ∧ ex_at J6 (c + u.length) v) → sm_V G xX10_tellLaw (d + 5) 110 [.ref mM, a1, a2, a3] [] J6 ρ4 QQ := by
    intro J6 x6 p6 o6
    have hq6 : tq J6 ρ4 tk := hq5.kept x6.1 (by decide) rfl
    have b6 : J6 mM 37 = nI b := (x6.1.2 37 (by decide)).trans b5
    refine wp_aload0 111 rfl dX10_tellLaw_110 ?_
    refine wp_bipush (nI 30) 113 rfl dX10_tellLaw_111 (by decide) ?_
    refine wp_Vv1 116 rfl dX10_tellLaw_113 kX10_must lX10_261 (md_M hm) (nl rfl) (nl rfl) (s_must hm tk hq6 hw _ p6 30 (by decide)) (fun J7 ρ7 hq7 => ?_)
    obtain ⟨rfl, f7, p7⟩ := hq7
    rw [← hr5] at p7
    have hq7 : tq J7 ρ7 tk := hq6.kept f7 (by decide) rfl
    have b7 : J7 mM 37 = nI b := (f7.2 37 (by decide)).trans b6
    have T7 : tF s c b J J7 := (T5.tr x6.t (Nat.le_add_right _ _) (Nat.le_refl _)).tr (tF.of f7 (by decide) (by decide)) (Nat.le_refl _) (Nat.le_refl _)
    have s7 : ∀ t w, r5 = .inr (t, w) → (J7 mM 12 = nI 0 ∧ J7 mM 43 = nI (c + u.length + v.length) ∧ c + u.length + v.length + (401 - t) ≤ 420 * s + 420) ∧ J7 m_hasTest b = nI 1 ∧ J7 m_testFrom b = nI c ∧ J7 m_testMid b = nI (c + u.length) ∧ ex_at J7 c u ∧ ex_at J7 (c + u.length) v := fun t w e => by
      rw [hr5] at e
      obtain ⟨t1, e1, k1, q1, n1⟩ := g_must_inv e
      obtain ⟨t0, e0, ok⟩ := g_ex_inv e1
      have ht0 : t0 ≤ 400 := by
        rw [e0] at p5
        exact p5.1.1
      obtain ⟨i1, i2, i3, i4, i5⟩ := ok ht0
      rw [← hv] at i3
      obtain ⟨⟨z1, z2, z3⟩, z4, z5, z6, z7⟩ := s5 t0 w e0
      obtain ⟨v1, v2, v3⟩ := o6 t1 w e1
      refine ⟨⟨(f7.2 12 (by decide)).trans v1, (f7.2 43 (by decide)).trans v2, by omega⟩, ?_, ?_, ?_, ?_, ?_⟩
      · rw [f7.1 m_hasTest (by decide) (by decide), x6.1.1 m_hasTest (by decide) (by decide)]
        exact z4
      · rw [f7.1 m_testFrom (by decide) (by decide), x6.1.1 m_testFrom (by decide) (by decide)]
        exact z5
      · rw [f7.1 m_testMid (by decide) (by decide), x6.1.1 m_testMid (by decide) (by decide)]
        exact z6
      · refine (z7.kp (Nat.le_refl _) (fun j hj => x6.2 j (Or.inl hj))).kp (J := J7) (Nat.le_refl _) (fun j _ => ?_)
        rw [f7.1 m_code (by decide) (by decide), f7.1 m_codeInt (by decide) (by decide)]
        exact ⟨rfl, rfl⟩
      · refine v3.kp (J := J7) (Nat.le_refl _) (fun j _ => ?_)
        rw [f7.1 m_code (by decide) (by decide), f7.1 m_codeInt (by decide) (by decide)]
        exact ⟨rfl, rfl⟩
    refine wp_aload0 117 rfl dX10_tellLaw_116 ?_
    refine wp_Vv0 120 rfl dX10_tellLaw_117 kX10_term lX10_293 (md_M hm) (nl rfl) (nl rfl) (s_term hm tk hw hq7 _ p7 s b (c + u.length + v.length) hs hb b7 (fun t w e => (s7 t w e).1)) (fun J8 ρ8 hq8 => ?_)
    obtain ⟨rfl, t8, f8, p8, b8, o8⟩ := hq8
    rw [← hx] at o8
    have hq8 : tq J8 ρ8 tk := hq7.kept f8 (by decide) rfl
    refine wp_aload0 121 rfl dX10_tellLaw_120 ?_
    refine wp_bipush (nI 31) 123 rfl dX10_tellLaw_121 (by decide) ?_
    refine wp_Vv1 126 rfl dX10_tellLaw_123 kX10_must lX10_261 (md_M hm) (nl rfl) (nl rfl) (s_must hm tk hq8 hw _ p8 31 (by decide)) (fun J9 ρ9 hq9 => ?_)
    refine wp_goto 12 rfl dX10_tellLaw_126 ?_
    obtain ⟨rfl, f9, p9⟩ := hq9
    rw [← hr7] at p9
    refine kk J9 ((T7.tr t8 (by omega) (Nat.le_refl _)).tr (tF.of f9 (by decide) (by decide)) (Nat.le_refl _) (Nat.le_refl _)) p9 ((f9.2 37 (by decide)).trans b8) (fun t w e => ?_)
    rw [hr7] at e
    obtain ⟨t1, e1, k1, q1, n1⟩ := g_must_inv e
    obtain ⟨t0, e0, ok⟩ := g_ex_inv e1
    obtain ⟨⟨z1, z2, z3⟩, z4, z5, z6, z7, z8⟩ := s7 t0 w e0
    obtain ⟨v1, v2, v3, v4, v5⟩ := o8 t1 w e1
    have cc : ∀ j, J9 m_code j = J8 m_code j ∧ J9 m_codeInt j = J8 m_codeInt j := fun j => by
      rw [f9.1 m_code (by decide) (by decide), f9.1 m_codeInt (by decide) (by decide)]
      exact ⟨rfl, rfl⟩
    refine ⟨(f9.2 12 (by decide)).trans v1, (f9.2 43 (by decide)).trans v2, ?_, ?_, ?_, ?_, ?_, ?_, ?_, ?_⟩
    · rw [f9.1 m_hasTest (by decide) (by decide), f8.1 m_hasTest (by decide) (by decide)]
      exact z4
    · rw [f9.1 m_testFrom (by decide) (by decide), f8.1 m_testFrom (by decide) (by decide)]
      exact z5
    · rw [f9.1 m_testMid (by decide) (by decide), f8.1 m_testMid (by decide) (by decide)]
      exact z6
    · rw [f9.1 m_testTo (by decide) (by decide)]
      exact v3
    · rw [f9.1 m_termTo (by decide) (by decide)]
      exact v4
    · exact (t8.ex z7 (by omega)).kp (Nat.le_refl _) (fun j _ => cc j)
    · exact (t8.ex z8 (by omega)).kp (Nat.le_refl _) (fun j _ => cc j)
    · exact v5.kp (Nat.le_refl _) (fun j _ => cc j)
  refine wp_aload0 100 rfl dX10_tellLaw_99 ?_
  refine wp_geti 103 rfl dX10_tellLaw_100 fX10_203_10 (md_M hm) ?_
  cases r3 with
  | inl y =>
    obtain ⟨n, j⟩ := y
    have hn := p5.1
    rw [p5.2.1]
    refine wp_if_ne 106 110 rfl rfl dX10_tellLaw_103 (fun c103 => ?_) (fun c103 => absurd c103 (nI_ne0 (by omega) (by omega)))
    exact go J5 xF.rf p5 (fun t w e => by cases e)
  | inr y =>
    obtain ⟨t, w⟩ := y
    rw [p5.2.1]
    refine wp_if_ne 106 110 rfl rfl dX10_tellLaw_103 (fun c103 => absurd (rfl) c103) (fun c103 => ?_)
    refine wp_aload0 107 rfl dX10_tellLaw_106 ?_
    refine wp_Vv0 110 rfl dX10_tellLaw_107 kX10_expression lX10_290 (md_M hm) (nl rfl) (nl rfl) (s_expression hm tk hw hq5 _ p5 (c + u.length) (420 * s + 420) (by omega) (fun t' w' e => (s5 t' w' e).1)) (fun J6 ρ6 hq6 => ?_)
    obtain ⟨rfl, x6, p6, o6⟩ := hq6
    rw [← hv] at o6
    exact go J6 x6 p6 o6
end M38
