/-! ===== reading: expression, by the descent ===== -/
set_option maxRecDepth 100000
def xS (I : sm_I) (tk : tkf) (w : Nat × Nat) (c0 c1 : Nat) (J : sm_I) (t op : Nat) (W : List Nat) (e : ex) : Prop := xF c0 c1 I J ∧ prs J tk (.inr (t, w)) ∧ J mM 12 = nI op ∧ wtR J W ∧ cdR J c0 c1 e ∧ c0 + e.length + W.length + (401 - t) ≤ c1 ∧ W.length ≤ 3 * op + 2 ∧ op ≤ 6
theorem wtR.push {I J : sm_I} {k : Nat} {s : List Nat} (h : wtR I s) (hl : s.length < 60) (hk : k < 100) (h47 : J mM 47 = nI (s.length + 1)) (hw : J m_waits = upd (I m_waits) s.length (nI k)) : wtR J (k :: s) := by
  refine ⟨h47, hl, fun i q hi => ?_⟩
  rw [hw]
  cases i with
  | zero =>
    cases hi
    refine ⟨hk, ?_⟩
    rw [show (k :: s).length - 1 - 0 = s.length by simp only [List.length_cons]; omega, pk_us]
  | succ i =>
    have hi : s[i]? = some q := hi
    obtain ⟨a, b⟩ := h.2.2 i q hi
    have hlt := (List.getElem?_eq_some_iff.mp hi).1
    refine ⟨a, ?_⟩
    rw [show (k :: s).length - 1 - (i + 1) = s.length - 1 - i by simp only [List.length_cons]; omega, pk_un (by omega)]
    exact b
section M33
variable {G : sm_G} {d : Nat} {I : sm_I} {ρ : sm_R} {QQ : sm_O → sm_I → sm_R → Prop}
theorem xS.tq {tk : tkf} {w : Nat × Nat} {c0 c1 : Nat} {J : sm_I} {t op : Nat} {W : List Nat} {e : ex} (h : xS I tk w c0 c1 J t op W e) (hq : tq I ρ tk) : tq J ρ tk := hq.kept h.1.1 (by decide) rfl
theorem wtR.kept {A F : List Nat} {I J : sm_I} {s : List Nat} (h : wtR I s) (hf : mf A F I J) (hA : m_waits ∉ A) (hF : 47 ∉ F) : wtR J s := ⟨(hf.2 47 hF).trans h.1, h.2.1, fun i k hi => by
  rw [hf.1 m_waits hA (by decide)]
  exact h.2.2 i k hi⟩
/-- a fault ahead of a unit: the end -/
theorem ex_23f (hm : md ρ) (tk : tkf) (hw : tw tk) (J : sm_I) (hq : tq J ρ tk) (n j : Nat) (hr : prs J tk (.inl (n, j))) (c0 c1 : Nat) (a b : Value)
    (kk : ∀ J1, xF c0 c1 J J1 → prs J1 tk (.inl (n, j)) → QQ (.inl none) J1 ρ) : sm_V G xX10_expression (d + 3) 23 [.ref mM, a, b] [] J ρ QQ := by
  refine wp_aload0 24 rfl dX10_expression_23 ?_
  refine wp_bipush (nI 6) 26 rfl dX10_expression_24 (by decide) ?_
  refine wp_Vi1 29 rfl dX10_expression_26 kX10_is lX10_221 (md_M hm) (nl rfl) (nl rfl) (s_is hm tk hq hw _ hr 6 (by decide)) (fun v J1 ρ1 hq1 => ?_)
  obtain ⟨rfl, rfl, h01, hv⟩ := hq1
  rw [h01.resolve_right (fun h => hv.mp h)]
  refine wp_if_eq 32 84 rfl rfl dX10_expression_29 (fun c29 => ?_) (fun c29 => absurd (rfl) c29)
  refine wp_aload0 85 rfl dX10_expression_84 ?_
  refine wp_Vv0 88 rfl dX10_expression_85 kX10_unit lX10_302 (md_M hm) (nl rfl) (nl rfl) (s_unit0 hm tk hq hw _ hr (fun t w e => by cases e)) (fun J2 ρ2 hq2 => ?_)
  obtain ⟨rfl, hf2, hp2⟩ := hq2
  have hp2 : prs J2 tk (.inl (n, j)) := hp2
  have h12 := hp2.1
  refine wp_aload0 89 rfl dX10_expression_88 ?_
  refine wp_geti 92 rfl dX10_expression_89 fX10_203_10 (md_M hm) ?_
  rw [hp2.2.1]
  refine wp_if_le 95 96 rfl rfl dX10_expression_92 (fun c92 => absurd c92 (nI_nle (by omega) (by omega))) (fun c92 => ?_)
  refine wp_vret dX10_expression_95 rfl ?_
  exact kk J2 (hf2.x (by decide)) hp2
/-- a bracket opens -/
theorem ex_open (hm : md ρ) (tk : tkf) (hw : tw tk) (hq0 : tq I ρ tk) (w : Nat × Nat) (c0 c1 : Nat) (J : sm_I) (t op : Nat) (W : List Nat) (e : ex) (h : xS I tk w c0 c1 J t op W e) (k6 : (tk t).1 = 6)
    (kf : (op = 6 ∨ t = 400) → ∀ J1, xF c0 c1 I J1 → prs J1 tk (.inl (2, t)) → QQ (.inl none) J1 ρ)
    (kk : ¬ (op = 6 ∨ t = 400) → ∀ J1, xS I tk w c0 c1 J1 (t + 1) (op + 1) (6 :: W) e → sm_V G xX10_expression (d + 3) 23 [.ref mM, .int (nI 0), .int (nI 1)] [] J1 ρ QQ) : sm_V G xX10_expression (d + 3) 23 [.ref mM, .int (nI 0), .int (nI 1)] [] J ρ QQ := by
  have hq : tq J ρ tk := h.tq hq0
  obtain ⟨hx, hr, h12, hwt, hc, b1, b2, b3⟩ := h
  have push : ∀ (K : sm_I) (r : pR), xF c0 c1 I K → prs K tk r → K mM 12 = nI (op + 1) → wtR K W → cdR K c0 c1 e → ((∃ t', r = .inr (t', w) ∧ t' = t + 1 ∧ ¬ (op = 6 ∨ t = 400)) ∨ (r = .inl (2, t) ∧ (op = 6 ∨ t = 400))) → sm_V G xX10_expression (d + 3) 60 [.ref mM, .int (nI 0), .int (nI 1)] [] K ρ QQ := by
    intro K r hxK hrK h12K hwK hcK hcase
    have hqK : tq K ρ tk := hq0.kept hxK.1 (by decide) rfl
    obtain ⟨L, hL⟩ : ∃ L, L = W.length := ⟨_, rfl⟩
    have h47 : K mM 47 = nI L := by rw [hL]; exact hwK.1
    refine wp_aload0 61 rfl dX10_expression_60 ?_
    refine wp_getr 64 rfl dX10_expression_61 fX10_110_10 (md_M hm) (mp_waits hm) ?_
    refine wp_aload0 65 rfl dX10_expression_64 ?_
    refine wp_geti 68 rfl dX10_expression_65 fX10_296_10 (md_M hm) ?_
    refine wp_bipush (nI 6) 70 rfl dX10_expression_68 (by decide) ?_
    refine wp_iast 71 rfl dX10_expression_70 (ms_waits hm) (L) (h47) (⟨by omega, by decide⟩) ?_
    refine wp_aload0 72 rfl dX10_expression_71 ?_
    refine wp_dup 73 rfl dX10_expression_72 rfl ?_
    refine wp_geti 76 rfl dX10_expression_73 fX10_296_10 (md_M hm) ?_
    refine wp_iconst (nI 1) 77 rfl dX10_expression_76 (by decide) ?_
    refine wp_iadd 78 rfl dX10_expression_77 ?_
    refine wp_puti 81 rfl dX10_expression_78 pX10_296_10 (md_M hm) ⟨rfl, rfl⟩ ?_
    refine wp_goto 23 rfl dX10_expression_81 ?_
    rw [show sm_u K m_waits L (nI 6) mM 47 = nI L from h47]
    obtain ⟨K2, hK2⟩ : ∃ K2, K2 = sm_u (sm_u K m_waits L (nI 6)) mM 47 (nI L + nI 1) := ⟨_, rfl⟩
    have hf : mf [m_waits] [47] K K2 := by rw [hK2]; exact (mf.u (by decide) (by decide)).tr (mf.uM (by decide))
    have hx2 : xF c0 c1 K K2 := ⟨hf.wk (by decide) (by decide), fun j _ => by rw [hf.1 m_code (by decide) (by decide), hf.1 m_codeInt (by decide) (by decide)]; exact ⟨rfl, rfl⟩⟩
    have g47 : K2 mM 47 = nI (L + 1) := by rw [hK2, sm_u_eq, pk_us]; exact nI_add L 1
    have gw : K2 m_waits = upd (K m_waits) L (nI 6) := by rw [hK2]; rfl
    show sm_V G xX10_expression (d + 3) 23 [.ref mM, .int (nI 0), .int (nI 1)] [] (sm_u (sm_u K m_waits L (nI 6)) mM 47 (nI L + nI 1)) ρ QQ
    rw [← hK2]
    have hrK2 := hrK.kept hf (by decide)
    rcases hcase with ⟨t', rfl, rfl, hno⟩ | ⟨rfl, hyes⟩
    · have t4 : t < 400 := by
        have := hrK.1.1
        omega
      refine kk hno K2 ⟨hxK.tr hx2, hrK2, (hf.2 12 (by decide)).trans h12K, hwK.push (by omega) (by decide) (by rw [← hL]; exact g47) (by rw [← hL]; exact gw), ?_, ?_, ?_, ?_⟩
      · refine ⟨(hf.2 43 (by decide)).trans hcK.1, fun i k v hi => ?_, hcK.2.2.1, hcK.2.2.2⟩
        rw [hf.1 m_code (by decide) (by decide), hf.1 m_codeInt (by decide) (by decide)]
        exact hcK.2.1 i k v hi
      · simp only [List.length_cons]
        omega
      · simp only [List.length_cons]
        omega
      · omega
    · exact ex_23f hm tk hw K2 (hqK.kept hf (by decide) rfl) 2 t hrK2 c0 c1 _ _ (fun J1 hx1 hr1 => kf hyes J1 ((hxK.tr hx2).tr hx1) hr1)
  have k0 : ¬ (tk t).1 = 0 := by omega
  have inc : ∀ (K : sm_I) (r : pR), mf [] mPF J K → prs K tk r → (∀ t' w', r = .inr (t', w') → t' = t) → (r = .inr (t, w) ∧ ¬ op = 6 ∨ r = .inl (2, t) ∧ op = 6) → sm_V G xX10_expression (d + 3) 46 [.ref mM, .int (nI 0), .int (nI 1)] [] K ρ QQ := by
    intro K r hfK hrK hrt hcase
    have h12K : K mM 12 = nI op := (hfK.2 12 (by decide)).trans h12
    refine wp_aload0 47 rfl dX10_expression_46 ?_
    refine wp_dup 48 rfl dX10_expression_47 rfl ?_
    refine wp_geti 51 rfl dX10_expression_48 fX10_230_10 (md_M hm) ?_
    rw [h12K]
    refine wp_iconst (nI 1) 52 rfl dX10_expression_51 (by decide) ?_
    refine wp_iadd 53 rfl dX10_expression_52 ?_
    rw [nI_add]
    refine wp_puti 56 rfl dX10_expression_53 pX10_230_10 (md_M hm) ⟨rfl, rfl⟩ ?_
    obtain ⟨K1, hK1⟩ : ∃ K1, K1 = sm_u K mM 12 (nI (op + 1)) := ⟨_, rfl⟩
    rw [← hK1]
    have hf1 : mf [] [12] K K1 := by rw [hK1]; exact mf.uM (by decide)
    have g12 : K1 mM 12 = nI (op + 1) := by rw [hK1, sm_u_eq, pk_us]
    have hq1 : tq K1 ρ tk := (hq.kept hfK (by decide) rfl).kept hf1 (by decide) rfl
    have hr1 := hrK.kept hf1 (by decide)
    refine wp_aload0 57 rfl dX10_expression_56 ?_
    refine wp_Vv0 60 rfl dX10_expression_57 kX10_goesOn lX10_224 (md_M hm) (nl rfl) (nl rfl) (s_goesOn hm tk hq1 _ hr1 (fun t' w' e => by rw [hrt t' w' e]; exact k0)) (fun K2 ρ2 hq2 => ?_)
    obtain ⟨rfl, hf2, hp2⟩ := hq2
    refine push K2 _ (((hx.tr (hfK.x (by decide))).tr (hf1.x (by decide))).tr (hf2.x (by decide))) hp2 ((hf2.2 12 (by decide)).trans g12) (((hwt.kept hfK (by decide) (by decide)).kept hf1 (by decide) (by decide)).kept hf2 (by decide) (by decide)) (((hc.kept hfK (by decide)).kept hf1 (by decide)).kept hf2 (by decide)) ?_
    rcases hcase with ⟨rfl, h6⟩ | ⟨rfl, h6⟩
    · by_cases h4 : t = 400
      · exact Or.inr ⟨if_pos h4, Or.inr h4⟩
      · exact Or.inl ⟨t + 1, if_neg h4, rfl, fun h => h.elim h6 h4⟩
    · exact Or.inr ⟨rfl, Or.inl h6⟩
  refine wp_aload0 24 rfl dX10_expression_23 ?_
  refine wp_bipush (nI 6) 26 rfl dX10_expression_24 (by decide) ?_
  refine wp_Vi1 29 rfl dX10_expression_26 kX10_is lX10_221 (md_M hm) (nl rfl) (nl rfl) (s_is hm tk hq hw _ hr 6 (by decide)) (fun v J1 ρ1 hq1 => ?_)
  obtain ⟨rfl, rfl, h01, hv⟩ := hq1
  rw [hv.mpr k6]
  refine wp_if_eq 32 84 rfl rfl dX10_expression_29 (fun c29 => absurd c29 (by decide)) (fun c29 => ?_)
  refine wp_aload0 33 rfl dX10_expression_32 ?_
  refine wp_geti 36 rfl dX10_expression_33 fX10_230_10 (md_M hm) ?_
  rw [h12]
  by_cases h6 : op = 6
  · refine wp_bipush (nI 6) 38 rfl dX10_expression_36 (by decide) ?_
    refine wp_icmp_ne 41 46 rfl rfl dX10_expression_38 (fun c38 => absurd (by rw [h6]) c38) (fun c38 => ?_)
    refine wp_aload0 42 rfl dX10_expression_41 ?_
    refine wp_iconst (nI 2) 43 rfl dX10_expression_42 (by decide) ?_
    refine wp_Vv1 46 rfl dX10_expression_43 kX10_fail lX10_218 (md_M hm) (nl rfl) (nl rfl) (s_fail hm tk hq _ hr 2 (Or.inr rfl)) (fun J2 ρ2 hq2 => ?_)
    obtain ⟨rfl, hf2, hp2⟩ := hq2
    exact inc J2 _ hf2 hp2 (fun t' w' e => by cases e) (Or.inr ⟨rfl, h6⟩)
  · refine wp_bipush (nI 6) 38 rfl dX10_expression_36 (by decide) ?_
    refine wp_icmp_ne 41 46 rfl rfl dX10_expression_38 (fun c38 => ?_) (fun c38 => absurd c38 (fun h => h6 ((nI_eq (by omega) (by decide)).mp h)))
    exact inc J1 _ mf.rf hr (fun t' w' e => by cases e; rfl) (Or.inl ⟨rfl, h6⟩)
/-- a unit of one token -/
theorem ex_unit (hm : md ρ) (tk : tkf) (hw : tw tk) (hq0 : tq I ρ tk) (w : Nat × Nat) (c0 c1 : Nat) (J : sm_I) (t op : Nat) (W : List Nat) (e : ex) (h : xS I tk w c0 c1 J t op W e) (k6 : ¬ (tk t).1 = 6)
    (kf1 : ¬ g_isU tk t → ∀ J1, xF c0 c1 I J1 → prs J1 tk (.inl (1, t)) → QQ (.inl none) J1 ρ)
    (kf2 : g_isU tk t → t = 400 → ∀ J1, xF c0 c1 I J1 → prs J1 tk (.inl (2, t)) → QQ (.inl none) J1 ρ)
    (kk : g_isU tk t → ¬ t = 400 → ∀ J1, xS I tk w c0 c1 J1 (t + 1) op W (e ++ [g_u tk t]) → sm_V G xX10_expression (d + 3) 96 [.ref mM, .int (nI 0), .int (nI 1)] [] J1 ρ QQ) : sm_V G xX10_expression (d + 3) 23 [.ref mM, .int (nI 0), .int (nI 1)] [] J ρ QQ := by
  have hq : tq J ρ tk := h.tq hq0
  obtain ⟨hx, hr, h12, hwt, hc, b1, b2, b3⟩ := h
  have t4 : t ≤ 400 := hr.1.1
  refine wp_aload0 24 rfl dX10_expression_23 ?_
  refine wp_bipush (nI 6) 26 rfl dX10_expression_24 (by decide) ?_
  refine wp_Vi1 29 rfl dX10_expression_26 kX10_is lX10_221 (md_M hm) (nl rfl) (nl rfl) (s_is hm tk hq hw _ hr 6 (by decide)) (fun v J1 ρ1 hq1 => ?_)
  obtain ⟨rfl, rfl, h01, hv⟩ := hq1
  rw [h01.resolve_right (fun h => k6 (hv.mp h))]
  by_cases hu : g_isU tk t
  · refine wp_if_eq 32 84 rfl rfl dX10_expression_29 (fun c29 => ?_) (fun c29 => absurd (rfl) c29)
    refine wp_aload0 85 rfl dX10_expression_84 ?_
    refine wp_Vv0 88 rfl dX10_expression_85 kX10_unit lX10_302 (md_M hm) (nl rfl) (nl rfl) (s_unit1 hm tk hq hw t w hr c0 c1 e hc (by omega) hu) (fun J2 ρ2 hq2 => ?_)
    obtain ⟨rfl, hx2, ⟨g12, g47, gw⟩, hp2, hc2⟩ := hq2
    by_cases h4 : t = 400
    · have hp3 : prs J2 tk (.inl (2, t)) := by
        have e3 : g_pass (.inr (t, w)) = .inl (2, t) := if_pos h4
        rw [e3] at hp2
        exact hp2
      refine wp_aload0 89 rfl dX10_expression_88 ?_
      refine wp_geti 92 rfl dX10_expression_89 fX10_203_10 (md_M hm) ?_
      rw [hp3.2.1]
      refine wp_if_le 95 96 rfl rfl dX10_expression_92 (fun c92 => absurd c92 (by decide)) (fun c92 => ?_)
      refine wp_vret dX10_expression_95 rfl ?_
      exact kf2 hu h4 J2 (hx.tr hx2) hp3
    · have hp3 : prs J2 tk (.inr (t + 1, w)) := by
        have e3 : g_pass (.inr (t, w)) = .inr (t + 1, w) := if_neg h4
        rw [e3] at hp2
        exact hp2
      refine wp_aload0 89 rfl dX10_expression_88 ?_
      refine wp_geti 92 rfl dX10_expression_89 fX10_203_10 (md_M hm) ?_
      rw [hp3.2.1]
      refine wp_if_le 95 96 rfl rfl dX10_expression_92 (fun c92 => ?_) (fun c92 => absurd (by decide) c92)
      refine kk hu h4 J2 ⟨hx.tr hx2, hp3, g12.trans h12, ⟨g47.trans hwt.1, hwt.2.1, fun i k hi => by rw [gw]; exact hwt.2.2 i k hi⟩, hc2, ?_, b2, b3⟩
      rw [List.length_append]
      simp only [List.length_cons, List.length_nil]
      omega
  · refine wp_if_eq 32 84 rfl rfl dX10_expression_29 (fun c29 => ?_) (fun c29 => absurd (rfl) c29)
    refine wp_aload0 85 rfl dX10_expression_84 ?_
    refine wp_Vv0 88 rfl dX10_expression_85 kX10_unit lX10_302 (md_M hm) (nl rfl) (nl rfl) (s_unit0 hm tk hq hw _ hr (fun t' w' e => by cases e; exact hu)) (fun J2 ρ2 hq2 => ?_)
    obtain ⟨rfl, hf2, hp2⟩ := hq2
    have hp2 : prs J2 tk (.inl (1, t)) := hp2
    refine wp_aload0 89 rfl dX10_expression_88 ?_
    refine wp_geti 92 rfl dX10_expression_89 fX10_203_10 (md_M hm) ?_
    rw [hp2.2.1]
    refine wp_if_le 95 96 rfl rfl dX10_expression_92 (fun c92 => absurd c92 (by decide)) (fun c92 => ?_)
    refine wp_vret dX10_expression_95 rfl ?_
    exact kf1 hu J2 (hx.tr (hf2.x (by decide))) hp2
end M33
