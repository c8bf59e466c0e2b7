/-! ===== reading: a law ===== -/
set_option maxRecDepth 100000
def g_i3 (tk : tkf) (r : pR) : pR := g_must tk 13 (g_ex tk r).1
def g_i5 (tk : tkf) (r : pR) : pR := g_must tk 30 (g_ex tk (g_i3 tk r)).1
def g_i7 (tk : tkf) (r : pR) : pR := g_must tk 31 (g_ex tk (g_i5 tk r)).1
def g_it (tk : tkf) (r : pR) : ex × ex × ex := ((g_ex tk r).2, (g_ex tk (g_i3 tk r)).2, (g_ex tk (g_i5 tk r)).2)
/-- at most n ifs, and what else -/
def g_ifs (tk : tkf) : Nat → pR → pR × lwt × ex
  | _, .inl e => (.inl e, [], [])
  | 0, .inr (t, w) => if (tk t).1 = 29 then (.inl (2, t), [], []) else ((g_ex tk (.inr (t, w))).1, [], (g_ex tk (.inr (t, w))).2)
  | n + 1, .inr (t, w) => if (tk t).1 = 29 then ((g_ifs tk n (g_i7 tk (g_pass (.inr (t, w))))).1, g_it tk (g_pass (.inr (t, w))) :: (g_ifs tk n (g_i7 tk (g_pass (.inr (t, w))))).2.1, (g_ifs tk n (g_i7 tk (g_pass (.inr (t, w))))).2.2) else ((g_ex tk (.inr (t, w))).1, [], (g_ex tk (.inr (t, w))).2)
theorem g_ifs_l (tk : tkf) (n : Nat) (e : Nat × Nat) : g_ifs tk n (.inl e) = (.inl e, [], []) := by
  cases n <;> rfl
theorem g_ifs_n {tk : tkf} {n t : Nat} {w : Nat × Nat} (h : ¬ (tk t).1 = 29) : g_ifs tk n (.inr (t, w)) = ((g_ex tk (.inr (t, w))).1, [], (g_ex tk (.inr (t, w))).2) := by
  cases n with
  | zero =>
    unfold g_ifs
    rw [if_neg h]
  | succ n =>
    unfold g_ifs
    rw [if_neg h]
theorem g_ifs_0 {tk : tkf} {t : Nat} {w : Nat × Nat} (h : (tk t).1 = 29) : g_ifs tk 0 (.inr (t, w)) = (.inl (2, t), [], []) := by
  unfold g_ifs
  rw [if_pos h]
theorem g_ifs_s {tk : tkf} {n t : Nat} {w : Nat × Nat} (h : (tk t).1 = 29) : g_ifs tk (n + 1) (.inr (t, w)) = ((g_ifs tk n (g_i7 tk (g_pass (.inr (t, w))))).1, g_it tk (g_pass (.inr (t, w))) :: (g_ifs tk n (g_i7 tk (g_pass (.inr (t, w))))).2.1, (g_ifs tk n (g_i7 tk (g_pass (.inr (t, w))))).2.2) := by
  conv => lhs; unfold g_ifs
  rw [if_pos h]
def lw_len : lwt → ex → Nat
  | [], e => e.length
  | (u, v, x) :: r, e => u.length + v.length + x.length + lw_len r e
def lw_w2 (ts : lwt) (e : ex) : Prop := ex_wf e 0 ∧ ∀ t ∈ ts, ex_wf t.1 0 ∧ ex_wf t.2.1 0 ∧ ex_wf t.2.2 0
/-- an if that was read -/
theorem g_i7_ok {tk : tkf} {r : pR} {t' : Nat} {w' : Nat × Nat} (h : g_i7 tk r = .inr (t', w')) : ∃ t, r = .inr (t, w') ∧ (t ≤ 400 → t' ≤ 400 ∧ t + 6 ≤ t' ∧ (g_it tk r).1.length + (g_it tk r).2.1.length + (g_it tk r).2.2.length ≤ t' - t ∧ ((g_it tk r).1.length ≤ 400 ∧ (g_it tk r).2.1.length ≤ 400 ∧ (g_it tk r).2.2.length ≤ 400) ∧ ex_wf (g_it tk r).1 0 ∧ ex_wf (g_it tk r).2.1 0 ∧ ex_wf (g_it tk r).2.2 0) := by
  obtain ⟨t1, e1, k1, q1, n1⟩ := g_must_inv h
  obtain ⟨t2, e2, ok2⟩ := g_ex_inv e1
  obtain ⟨t3, e3, k3, q3, n3⟩ := g_must_inv e2
  obtain ⟨t4, e4, ok4⟩ := g_ex_inv e3
  obtain ⟨t5, e5, k5, q5, n5⟩ := g_must_inv e4
  obtain ⟨t6, e6, ok6⟩ := g_ex_inv e5
  refine ⟨t6, e6, fun ht => ?_⟩
  obtain ⟨a1, a2, a3, a4, a5⟩ := ok6 ht
  obtain ⟨b1, b2, b3, b4, b5⟩ := ok4 (by omega)
  obtain ⟨c1, c2, c3, c4, c5⟩ := ok2 (by omega)
  have l1 : (g_it tk r).1.length ≤ t5 - t6 := a3
  have l2 : (g_it tk r).2.1.length ≤ t3 - t4 := b3
  have l3 : (g_it tk r).2.2.length ≤ t1 - t2 := c3
  exact ⟨by omega, by omega, by omega, ⟨by omega, by omega, by omega⟩, a4.wf, b4.wf, c4.wf⟩
theorem g_ifs_ok (tk : tkf) : ∀ (n : Nat) (r : pR) (t' : Nat) (w' : Nat × Nat), (g_ifs tk n r).1 = .inr (t', w') → ∃ t, r = .inr (t, w') ∧ (t ≤ 400 → t' ≤ 400 ∧ t + 4 * (g_ifs tk n r).2.1.length + 1 ≤ t' ∧ lw_len (g_ifs tk n r).2.1 (g_ifs tk n r).2.2 ≤ t' - t ∧ lw_w2 (g_ifs tk n r).2.1 (g_ifs tk n r).2.2) := by
  have plain : ∀ (n t : Nat) (w : Nat × Nat) (t' : Nat) (w' : Nat × Nat), ¬ (tk t).1 = 29 → (g_ifs tk n (.inr (t, w))).1 = .inr (t', w') → ∃ t0, (.inr (t, w) : pR) = .inr (t0, w') ∧ (t0 ≤ 400 → t' ≤ 400 ∧ t0 + 4 * (g_ifs tk n (.inr (t, w))).2.1.length + 1 ≤ t' ∧ lw_len (g_ifs tk n (.inr (t, w))).2.1 (g_ifs tk n (.inr (t, w))).2.2 ≤ t' - t0 ∧ lw_w2 (g_ifs tk n (.inr (t, w))).2.1 (g_ifs tk n (.inr (t, w))).2.2) := by
    intro n t w t' w' h29 h
    rw [g_ifs_n h29] at h ⊢
    have h : (g_ex tk (.inr (t, w))).1 = .inr (t', w') := h
    obtain ⟨t0, e0, ok⟩ := g_ex_inv h
    refine ⟨t0, e0, fun ht => ?_⟩
    obtain ⟨a1, a2, a3, a4, a5⟩ := ok ht
    refine ⟨a2, ?_, a3, a4.wf, fun t ht => by cases ht⟩
    show t0 + 4 * 0 + 1 ≤ t'
    omega
  intro n
  induction n with
  | zero =>
    intro r t' w' h
    cases r with
    | inl e =>
      rw [g_ifs_l] at h
      cases h
    | inr q =>
      obtain ⟨t, w⟩ := q
      by_cases h29 : (tk t).1 = 29
      · rw [g_ifs_0 h29] at h
        cases h
      · exact plain 0 t w t' w' h29 h
  | succ n ih =>
    intro r t' w' h
    cases r with
    | inl e =>
      rw [g_ifs_l] at h
      cases h
    | inr q =>
      obtain ⟨t, w⟩ := q
      by_cases h29 : (tk t).1 = 29
      · rw [g_ifs_s h29] at h ⊢
        have h : (g_ifs tk n (g_i7 tk (g_pass (.inr (t, w))))).1 = .inr (t', w') := h
        obtain ⟨t7, e7, ok7⟩ := ih _ t' w' h
        obtain ⟨t1, e1, ok1⟩ := g_i7_ok e7
        obtain ⟨t0, e0, q0, n0⟩ := g_pass_inv e1
        refine ⟨t0, e0, fun ht => ?_⟩
        obtain ⟨a1, a2, a3, a4, a5⟩ := ok1 (by omega)
        obtain ⟨b1, b2, b3, b4⟩ := ok7 a1
        refine ⟨b1, ?_, ?_, b4.1, fun y hy => ?_⟩
        · show t0 + 4 * ((g_ifs tk n (g_i7 tk (g_pass (.inr (t, w))))).2.1.length + 1) + 1 ≤ t'
          omega
        · show (g_it tk (g_pass (.inr (t, w)))).1.length + (g_it tk (g_pass (.inr (t, w)))).2.1.length + (g_it tk (g_pass (.inr (t, w)))).2.2.length + lw_len (g_ifs tk n (g_i7 tk (g_pass (.inr (t, w))))).2.1 (g_ifs tk n (g_i7 tk (g_pass (.inr (t, w))))).2.2 ≤ t' - t0
          omega
        · rcases List.mem_cons.mp hy with hh | hh
          · rw [hh]
            exact a5
          · exact b4.2 y hh
      · exact plain (n + 1) t w t' w' h29 h
theorem ex_ok.kp {lo hi p : Nat} {e : ex} {I J : sm_I} (h : ex_ok lo hi I p e) {hi' : Nat} (hh : hi ≤ hi') (hc : ∀ j, lo ≤ j → j < hi → J m_code j = I m_code j ∧ J m_codeInt j = I m_codeInt j) : ex_ok lo hi' J p e := by
  obtain ⟨h1, ⟨h2, h3, h4⟩, h5, h6⟩ := h
  refine ⟨h1, ⟨h2, h3, by omega⟩, h5, fun i k v hi => ?_⟩
  have hlt := (List.getElem?_eq_some_iff.mp hi).1
  obtain ⟨a, b⟩ := hc (p + i) (by omega) (by omega)
  rw [a, b]
  exact h6 i k v hi
theorem lw_at2.kp {lo hi : Nat} {e : ex} {I J : sm_I} {hi' : Nat} (hh : hi ≤ hi') (hc : ∀ j, lo ≤ j → j < hi → J m_code j = I m_code j ∧ J m_codeInt j = I m_codeInt j) : ∀ {ts : lwt} {b : Nat}, lw_at2 lo hi I ts e b → (∀ j, b ≤ j → j < b + ts.length + 1 → J m_hasTest j = I m_hasTest j ∧ J m_testFrom j = I m_testFrom j ∧ J m_testMid j = I m_testMid j ∧ J m_testTo j = I m_testTo j ∧ J m_termTo j = I m_termTo j) → lw_at2 lo hi' J ts e b
  | [], b, hk, ht => by
    obtain ⟨h1, p, h2, h3, h4⟩ := hk
    obtain ⟨a1, a2, a3, a4, a5⟩ := ht b (Nat.le_refl _) (by show b < b + 0 + 1; omega)
    exact ⟨a1.trans h1, p, a4.trans h2, a5.trans h3, h4.kp hh hc⟩
  | (u, v, w) :: r, b, hk, ht => by
    obtain ⟨h1, ⟨p, h2, h3, h4, h5, h6, h7, h8⟩, h9⟩ := hk
    obtain ⟨a1, a2, a3, a4, a5⟩ := ht b (Nat.le_refl _) (by omega)
    exact ⟨a1.trans h1, ⟨p, a2.trans h2, a3.trans h3, a4.trans h4, a5.trans h5, h6.kp hh hc, h7.kp hh hc, h8.kp hh hc⟩, lw_at2.kp hh hc h9 (fun j h1 h2 => ht j (by omega) (by simp only [List.length_cons]; omega))⟩
section M39
variable {G : sm_G} {d : Nat} {I : sm_I} {ρ : sm_R} {QQ : sm_O → sm_I → sm_R → Prop}
/-- what else -/
theorem tl_end (hm : md ρ) (tk : tkf) (hw : tw tk) (J : sm_I) (hq : tq J ρ tk) (r : pR) (hr : prs J tk r) (s b c : Nat) (hs : s < 2) (hb : 130 * s ≤ b ∧ b < 130 * s + 130) (h37 : J mM 37 = nI b) (h : ∀ t w, r = .inr (t, w) → J mM 12 = nI 0 ∧ J mM 43 = nI c ∧ c + (401 - t) ≤ 420 * s + 420) (hc : 420 * s ≤ c) (a1 a2 a3 : Value)
    (kk : ∀ J1, tF s c b J J1 → prs J1 tk (g_ex tk r).1 → (∀ t w, (g_ex tk r).1 = .inr (t, w) → J1 mM 12 = nI 0 ∧ J1 mM 43 = nI (c + (g_ex tk r).2.length) ∧ J1 mM 37 = nI (b + 1) ∧ lw_at2 (420 * s) (c + (g_ex tk r).2.length) J1 [] (g_ex tk r).2 b) → sm_V G xX10_tellLaw (d + 5) 143 [.ref mM, a1, a2, a3] [] J1 ρ QQ) :
    sm_V G xX10_tellLaw (d + 5) 129 [.ref mM, a1, a2, a3] [] J ρ QQ := by
  refine wp_aload0 130 rfl dX10_tellLaw_129 ?_
  refine wp_getr 133 rfl dX10_tellLaw_130 fX10_88_10 (md_M hm) (mp_hasTest hm) ?_
  refine wp_aload0 134 rfl dX10_tellLaw_133 ?_
  refine wp_geti 137 rfl dX10_tellLaw_134 fX10_242_10 (md_M hm) ?_
  refine wp_iconst (nI 0) 138 rfl dX10_tellLaw_137 (by decide) ?_
  refine wp_zast 139 rfl dX10_tellLaw_138 (ms_hasTest hm) (b) (h37) (⟨by omega, by decide⟩) ?_
  rw [show vp_nar .boolean (nI 0) = nI 0 from by decide +kernel]
  obtain ⟨J2, hJ2⟩ : ∃ J2, J2 = sm_u J m_hasTest b (nI 0) := ⟨_, rfl⟩
  rw [← hJ2]
  have f2 : mf [m_hasTest] [] J J2 := by rw [hJ2]; exact mf.u (by decide) (by decide)
  have t2 : tF s c b J J2 := by rw [hJ2]; exact tF.u (by decide) (Nat.le_refl _) hb.2
  have e2 : J2 m_hasTest b = nI 0 := by rw [hJ2, sm_u_eq, pk_us]
  have hq2 : tq J2 ρ tk := hq.kept f2 (by decide) rfl
  refine wp_aload0 140 rfl dX10_tellLaw_139 ?_
  refine wp_Vv0 143 rfl dX10_tellLaw_140 kX10_term lX10_293 (md_M hm) (nl rfl) (nl rfl) (s_term hm tk hw hq2 _ (hr.kept f2 (by decide)) s b c hs hb ((f2.2 37 (by decide)).trans h37) (fun t w e => by obtain ⟨z1, z2, z3⟩ := h t w e; exact ⟨(f2.2 12 (by decide)).trans z1, (f2.2 43 (by decide)).trans z2, z3⟩)) (fun J3 ρ3 hq3 => ?_)
  obtain ⟨rfl, t3, f3, p3, b3, o3⟩ := hq3
  refine kk J3 (t2.tr t3 (Nat.le_refl _) (Nat.le_refl _)) p3 (fun t w e => ?_)
  obtain ⟨v1, v2, v3, v4, v5⟩ := o3 t w e
  obtain ⟨t0, e0, ok⟩ := g_ex_inv e
  have ht0 : t0 ≤ 400 := by
    rw [e0] at hr
    exact hr.1.1
  obtain ⟨i1, i2, i3, i4, i5⟩ := ok ht0
  obtain ⟨z1, z2, z3⟩ := h t0 w e0
  refine ⟨v1, v2, b3, ?_, c, v3, v4, by omega, ⟨by omega, hc, Nat.le_refl _⟩, i4.wf, v5⟩
  rw [f3.1 m_hasTest (by decide) (by decide)]
  exact e2
/-- a law's loop -/
theorem tl_head (hm : md ρ) (tk : tkf) (hw : tw tk) (J : sm_I) (hq : tq J ρ tk) (r : pR) (hr : prs J tk r) (s b c n : Nat) (hn : n ≤ 4) (hs : s < 2) (hb : 130 * s ≤ b ∧ b < 130 * s + 130) (h37 : J mM 37 = nI b) (h : ∀ t w, r = .inr (t, w) → J mM 12 = nI 0 ∧ J mM 43 = nI c ∧ c + (401 - t) ≤ 420 * s + 420) (hc : 420 * s ≤ c) (x1 x2 : Int32)
    (hif : ∀ t w, r = .inr (t, w) → (tk t).1 = 29 → ¬ n = 0 → ∀ J1, mf [] mPF J J1 → prs J1 tk (g_pass (.inr (t, w))) → sm_V G xX10_tellLaw (d + 5) 53 [.ref mM, .int x1, .int x2, .int (nI (4 - n + 1))] [] J1 ρ QQ)
    (kr : ∀ J1 x, (g_ifs tk n r).1 = .inl x → tF s c b J J1 → prs J1 tk (.inl x) → QQ (.inl none) J1 ρ)
    (kk : ∀ J1 a3, tF s c b J J1 → prs J1 tk (g_ifs tk n r).1 → (∀ t w, (g_ifs tk n r).1 = .inr (t, w) → J1 mM 12 = nI 0 ∧ J1 mM 43 = nI (c + lw_len (g_ifs tk n r).2.1 (g_ifs tk n r).2.2) ∧ J1 mM 37 = nI (b + (g_ifs tk n r).2.1.length + 1) ∧ lw_at2 (420 * s) (c + lw_len (g_ifs tk n r).2.1 (g_ifs tk n r).2.2) J1 (g_ifs tk n r).2.1 (g_ifs tk n r).2.2 b) → sm_V G xX10_tellLaw (d + 5) 143 [.ref mM, .int x1, .int x2, a3] [] J1 ρ QQ) :
    sm_V G xX10_tellLaw (d + 5) 12 [.ref mM, .int x1, .int x2, .int (nI (4 - n))] [] J ρ QQ := by
  refine wp_aload0 13 rfl dX10_tellLaw_12 ?_
  refine wp_geti 16 rfl dX10_tellLaw_13 fX10_203_10 (md_M hm) ?_
  cases r with
  | inl x =>
    obtain ⟨m, j⟩ := x
    have hm12 := hr.1
    rw [hr.2.1]
    refine wp_if_ne 19 129 rfl rfl dX10_tellLaw_16 (fun c16 => ?_) (fun c16 => absurd c16 (nI_ne0 (by omega) (by omega)))
    rw [g_ifs_l] at kk
    exact tl_end hm tk hw J hq _ hr s b c hs hb h37 h hc _ _ _ (fun J1 t1 p1 o1 => kk J1 _ t1 p1 (fun t w e => by cases e))
  | inr q =>
    obtain ⟨t, w⟩ := q
    rw [hr.2.1]
    refine wp_if_ne 19 129 rfl rfl dX10_tellLaw_16 (fun c16 => absurd (rfl) c16) (fun c16 => ?_)
    refine wp_aload0 20 rfl dX10_tellLaw_19 ?_
    refine wp_bipush (nI 29) 22 rfl dX10_tellLaw_20 (by decide) ?_
    refine wp_Vi1 25 rfl dX10_tellLaw_22 kX10_is lX10_221 (md_M hm) (nl rfl) (nl rfl) (s_is hm tk hq hw _ hr 29 (by decide)) (fun v J1 ρ1 hq1 => ?_)
    obtain ⟨rfl, rfl, h01, hv⟩ := hq1
    by_cases h29 : (tk t).1 = 29
    · rw [hv.mpr h29]
      by_cases h0 : n = 0
      · subst h0
        rw [g_ifs_0 h29] at kr
        refine wp_if_eq 28 129 rfl rfl dX10_tellLaw_25 (fun c25 => absurd c25 (by decide)) (fun c25 => ?_)
        refine wp_iload3 29 rfl dX10_tellLaw_28 ?_
        refine wp_iconst (nI 4) 30 rfl dX10_tellLaw_29 (by decide) ?_
        refine wp_icmp_ne 33 38 rfl rfl dX10_tellLaw_30 (fun c30 => absurd (rfl) c30) (fun c30 => ?_)
        refine wp_aload0 34 rfl dX10_tellLaw_33 ?_
        refine wp_iconst (nI 2) 35 rfl dX10_tellLaw_34 (by decide) ?_
        refine wp_Vv1 38 rfl dX10_tellLaw_35 kX10_fail lX10_218 (md_M hm) (nl rfl) (nl rfl) (s_fail hm tk hq _ hr 2 (Or.inr rfl)) (fun J2 ρ2 hq2 => ?_)
        obtain ⟨rfl, f2, p2⟩ := hq2
        have p2 : prs J2 tk (.inl (2, t)) := p2
        refine wp_aload0 39 rfl dX10_tellLaw_38 ?_
        refine wp_geti 42 rfl dX10_tellLaw_39 fX10_203_10 (md_M hm) ?_
        rw [p2.2.1]
        refine wp_if_le 45 46 rfl rfl dX10_tellLaw_42 (fun c42 => absurd c42 (by decide)) (fun c42 => ?_)
        refine wp_vret dX10_tellLaw_45 rfl ?_
        exact kr J2 _ rfl (tF.of f2 (by decide) (by decide)) p2
      · refine wp_if_eq 28 129 rfl rfl dX10_tellLaw_25 (fun c25 => absurd c25 (by decide)) (fun c25 => ?_)
        refine wp_iload3 29 rfl dX10_tellLaw_28 ?_
        refine wp_iconst (nI 4) 30 rfl dX10_tellLaw_29 (by decide) ?_
        refine wp_icmp_ne 33 38 rfl rfl dX10_tellLaw_30 (fun c30 => ?_) (fun c30 => absurd c30 (fun hh => by have := (nI_eq (by omega) (by decide)).mp hh; omega))
        refine wp_aload0 39 rfl dX10_tellLaw_38 ?_
        refine wp_geti 42 rfl dX10_tellLaw_39 fX10_203_10 (md_M hm) ?_
        rw [hr.2.1]
        refine wp_if_le 45 46 rfl rfl dX10_tellLaw_42 (fun c42 => ?_) (fun c42 => absurd (by decide) c42)
        refine wp_iincN3 49 rfl dX10_tellLaw_46 (by decide) rfl ?_
        refine wp_aload0 50 rfl dX10_tellLaw_49 ?_
        refine wp_Vv0 53 rfl dX10_tellLaw_50 kX10_goesOn lX10_224 (md_M hm) (nl rfl) (nl rfl) (s_goesOn hm tk hq _ hr (fun t' w' e => by cases e; omega)) (fun J2 ρ2 hq2 => ?_)
        obtain ⟨rfl, f2, p2⟩ := hq2
        exact hif t w rfl h29 h0 J2 f2 p2
    · rw [h01.resolve_right (fun hh => h29 (hv.mp hh))]
      refine wp_if_eq 28 129 rfl rfl dX10_tellLaw_25 (fun c25 => ?_) (fun c25 => absurd (rfl) c25)
      rw [g_ifs_n h29] at kk
      exact tl_end hm tk hw J1 hq _ hr s b c hs hb h37 h hc _ _ _ (fun J2 t1 p1 o1 => kk J2 _ t1 p1 o1)
theorem tl_loop (hm : md ρ) (tk : tkf) (hw : tw tk) (s : Nat) (hs : s < 2) (x1 x2 : Int32) : ∀ (n : Nat) (J : sm_I) (r : pR) (b c : Nat), tq J ρ tk → prs J tk r → n ≤ 4 → 130 * s ≤ b → b + n < 130 * s + 129 → J mM 37 = nI b → (∀ t w, r = .inr (t, w) → J mM 12 = nI 0 ∧ J mM 43 = nI c ∧ c + (401 - t) ≤ 420 * s + 420) → 420 * s ≤ c →
    (∀ J1 x, (g_ifs tk n r).1 = .inl x → tF s c b J J1 → prs J1 tk (.inl x) → QQ (.inl none) J1 ρ) →
    (∀ J1 a3, tF s c b J J1 → prs J1 tk (g_ifs tk n r).1 → (∀ t w, (g_ifs tk n r).1 = .inr (t, w) → J1 mM 12 = nI 0 ∧ J1 mM 43 = nI (c + lw_len (g_ifs tk n r).2.1 (g_ifs tk n r).2.2) ∧ J1 mM 37 = nI (b + (g_ifs tk n r).2.1.length + 1) ∧ lw_at2 (420 * s) (c + lw_len (g_ifs tk n r).2.1 (g_ifs tk n r).2.2) J1 (g_ifs tk n r).2.1 (g_ifs tk n r).2.2 b) → sm_V G xX10_tellLaw (d + 5) 143 [.ref mM, .int x1, .int x2, a3] [] J1 ρ QQ) →
    sm_V G xX10_tellLaw (d + 5) 12 [.ref mM, .int x1, .int x2, .int (nI (4 - n))] [] J ρ QQ := by
  intro n
  induction n with
  | zero =>
    intro J r b c hq hr hn hb1 hb2 h37 h hc kr kk
    exact tl_head hm tk hw J hq r hr s b c 0 hn hs ⟨hb1, by omega⟩ h37 h hc x1 x2 (fun t w e h29 h0 => absurd rfl h0) kr kk
  | succ n ih =>
    intro J r b c hq hr hn hb1 hb2 h37 h hc kr kk
    refine tl_head hm tk hw J hq r hr s b c (n + 1) hn hs ⟨hb1, by omega⟩ h37 h hc x1 x2 (fun t w e h29 h0 J1 f1 p1 => ?_) kr kk
    subst e
    rw [g_ifs_s h29] at kr kk
    rw [show 4 - (n + 1) + 1 = 4 - n by omega]
    have hq1 : tq J1 ρ tk := hq.kept f1 (by decide) rfl
    obtain ⟨z1, z2, z3⟩ := h t w rfl
    have ht4 : t ≤ 400 := hr.1.1
    have T1 : tF s c b J J1 := tF.of f1 (by decide) (by decide)
    obtain ⟨r1, hr1⟩ : ∃ r1, r1 = g_pass (.inr (t, w)) := ⟨_, rfl⟩
    rw [← hr1] at p1 kr kk
    have hz : ∀ t' w', r1 = .inr (t', w') → t' = t + 1 ∧ ¬ t = 400 := fun t' w' e => by
      rw [hr1] at e
      obtain ⟨t0, e0, q0, n0⟩ := g_pass_inv e
      cases e0
      exact ⟨q0, n0⟩
    refine tl_body hm tk hw J1 hq1 r1 p1 s b c hs ⟨hb1, by omega⟩ ((f1.2 37 (by decide)).trans h37) (fun t' w' e => ?_) _ _ _ (g_i3 tk r1) (g_i5 tk r1) (g_i7 tk r1) (g_it tk r1).1 (g_it tk r1).2.1 (g_it tk r1).2.2 rfl rfl rfl rfl rfl rfl (fun J7 t7 p7 b7 o7 => ?_)
    · obtain ⟨q0, n0⟩ := hz t' w' e
      exact ⟨(f1.2 12 (by decide)).trans z1, (f1.2 43 (by decide)).trans z2, by omega⟩
    · have hq7 : tq J7 ρ tk := hq1.kept t7.1 (by decide) rfl
      have T7 : tF s c b J J7 := T1.tr t7 (Nat.le_refl _) (Nat.le_refl _)
      have hz7 : ∀ t' w', g_i7 tk r1 = .inr (t', w') → (g_it tk r1).1.length + (g_it tk r1).2.1.length + (g_it tk r1).2.2.length + (401 - t') ≤ 401 - t ∧ ((g_it tk r1).1.length ≤ 400 ∧ (g_it tk r1).2.1.length ≤ 400 ∧ (g_it tk r1).2.2.length ≤ 400) ∧ ex_wf (g_it tk r1).1 0 ∧ ex_wf (g_it tk r1).2.1 0 ∧ ex_wf (g_it tk r1).2.2 0 := fun t' w' e => by
        obtain ⟨t1, e1, ok⟩ := g_i7_ok e
        obtain ⟨q0, n0⟩ := hz t1 w' e1
        obtain ⟨m1, m2, m3, m4, m5⟩ := ok (by omega)
        exact ⟨by omega, m4, m5⟩
      refine ih J7 (g_i7 tk r1) (b + 1) (c + (g_it tk r1).1.length + (g_it tk r1).2.1.length + (g_it tk r1).2.2.length) hq7 p7 (by omega) (by omega) (by omega) b7 (fun t' w' e => ?_) (by omega) (fun J8 x e8 t8 p8 => kr J8 x e8 (T7.tr t8 (by omega) (by omega)) p8) (fun J8 a3 t8 p8 o8 => kk J8 a3 (T7.tr t8 (by omega) (by omega)) p8 (fun t' w' e => ?_))
      · obtain ⟨v1, v2, -⟩ := o7 t' w' e
        have := (hz7 t' w' e).1
        exact ⟨v1, v2, by omega⟩
      · have e : (g_ifs tk n (g_i7 tk r1)).1 = .inr (t', w') := e
        obtain ⟨y1, y2, y3, y4⟩ := o8 t' w' e
        obtain ⟨t9, e9, -⟩ := g_ifs_ok tk n _ t' w' e
        obtain ⟨v1, v2, v3, v4, v5, v6, v7, v8, v9, v10⟩ := o7 t9 w' e9
        obtain ⟨m1, ⟨m2, m3, m4⟩, m5, m6, m7⟩ := hz7 t9 w' e9
        obtain ⟨q1, q2, q3, q4, q5⟩ := t8.2.2 b (Or.inl (by omega))
        have eL : c + ((g_it tk r1).1.length + (g_it tk r1).2.1.length + (g_it tk r1).2.2.length + lw_len (g_ifs tk n (g_i7 tk r1)).2.1 (g_ifs tk n (g_i7 tk r1)).2.2) = c + (g_it tk r1).1.length + (g_it tk r1).2.1.length + (g_it tk r1).2.2.length + lw_len (g_ifs tk n (g_i7 tk r1)).2.1 (g_ifs tk n (g_i7 tk r1)).2.2 := by omega
        show J8 mM 12 = nI 0 ∧ J8 mM 43 = nI (c + ((g_it tk r1).1.length + (g_it tk r1).2.1.length + (g_it tk r1).2.2.length + lw_len (g_ifs tk n (g_i7 tk r1)).2.1 (g_ifs tk n (g_i7 tk r1)).2.2)) ∧ J8 mM 37 = nI (b + ((g_ifs tk n (g_i7 tk r1)).2.1.length + 1) + 1) ∧ lw_at2 (420 * s) (c + ((g_it tk r1).1.length + (g_it tk r1).2.1.length + (g_it tk r1).2.2.length + lw_len (g_ifs tk n (g_i7 tk r1)).2.1 (g_ifs tk n (g_i7 tk r1)).2.2)) J8 (((g_it tk r1).1, (g_it tk r1).2.1, (g_it tk r1).2.2) :: (g_ifs tk n (g_i7 tk r1)).2.1) (g_ifs tk n (g_i7 tk r1)).2.2 b
        rw [eL]
        refine ⟨y1, y2, ?_, q1.trans v3, ⟨c, q2.trans v4, q3.trans v5, q4.trans v6, q5.trans v7, ⟨by omega, ⟨m2, hc, by omega⟩, m5, t8.ex v8 (by omega)⟩, ⟨by omega, ⟨m3, by omega, by omega⟩, m6, t8.ex v9 (by omega)⟩, ⟨by omega, ⟨m4, by omega, by omega⟩, m7, t8.ex v10 (by omega)⟩⟩, y4⟩
        rw [y3]
        congr 1
        omega
/-- a law -/
def g_law (tk : tkf) (r : pR) : pR × lwt × ex := g_ifs tk 4 (g_must tk 5 r)
theorem s_tellLaw (hm : md ρ) (tk : tkf) (hw : tw tk) (hq : tq I ρ tk) (r : pR) (hr : prs I tk r) (s b c k : Nat) (hs : s < 2) (hk : k < 3) (h19 : I mM 19 = nI s) (hb : 130 * s ≤ b ∧ b < 130 * s + 125) (h37 : I mM 37 = nI b) (h : ∀ t w, r = .inr (t, w) → I mM 12 = nI 0 ∧ I mM 43 = nI c ∧ c + (401 - t) ≤ 420 * s + 420) (hc : 420 * s ≤ c) :
    sm_M G xX10_tellLaw (d + 5) [.ref mM, .int (nI k)] I ρ (sm_Qv (fun I1 ρ1 => ρ1 = ρ ∧ prs I1 tk (g_must tk 4 (g_law tk r).1) ∧ ((∃ x, g_must tk 4 (g_law tk r).1 = .inl x ∧ tF s c b I I1) ∨ ∃ t w J0, g_must tk 4 (g_law tk r).1 = .inr (t, w) ∧ tF s c b I J0 ∧ I1 = sm_u (sm_u J0 m_lawFirst (3 * s + k) (nI b)) m_lawLast (3 * s + k) (nI (b + (g_law tk r).2.1.length + 1)) ∧ J0 mM 12 = nI 0 ∧ J0 mM 43 = nI (c + lw_len (g_law tk r).2.1 (g_law tk r).2.2) ∧ J0 mM 37 = nI (b + (g_law tk r).2.1.length + 1) ∧ lw_at2 (420 * s) (c + lw_len (g_law tk r).2.1 (g_law tk r).2.2) J0 (g_law tk r).2.1 (g_law tk r).2.2 b))) := by
  show sm_V G xX10_tellLaw (d + 5) 0 [.ref mM, .int (nI k), .retAddr 0, .retAddr 0] [] I ρ _
  refine wp_aload0 1 rfl dX10_tellLaw_0 ?_
  refine wp_iconst (nI 5) 2 rfl dX10_tellLaw_1 (by decide) ?_
  refine wp_Vv1 5 rfl dX10_tellLaw_2 kX10_must lX10_261 (md_M hm) (nl rfl) (nl rfl) (s_must hm tk hq hw _ hr 5 (by decide)) (fun J1 ρ1 hq1 => ?_)
  obtain ⟨rfl, f1, p1⟩ := hq1
  have hq1 : tq J1 ρ1 tk := hq.kept f1 (by decide) rfl
  have b1 : J1 mM 37 = nI b := (f1.2 37 (by decide)).trans h37
  have T1 : tF s c b I J1 := tF.of f1 (by decide) (by decide)
  have z1 : ∀ t w, g_must tk 5 r = .inr (t, w) → J1 mM 12 = nI 0 ∧ J1 mM 43 = nI c ∧ c + (401 - t) ≤ 420 * s + 420 := fun t w e => by
    obtain ⟨t0, e0, k0, q0, n0⟩ := g_must_inv e
    obtain ⟨y1, y2, y3⟩ := h t0 w e0
    exact ⟨(f1.2 12 (by decide)).trans y1, (f1.2 43 (by decide)).trans y2, by omega⟩
  refine wp_aload0 6 rfl dX10_tellLaw_5 ?_
  refine wp_geti 9 rfl dX10_tellLaw_6 fX10_242_10 (md_M hm) ?_
  rw [b1]
  refine wp_istore2 10 rfl dX10_tellLaw_9 (by decide) rfl ?_
  refine wp_iconst (nI 0) 11 rfl dX10_tellLaw_10 (by decide) ?_
  refine wp_istore3 12 rfl dX10_tellLaw_11 (by decide) rfl ?_
  refine tl_loop hm tk hw s hs _ _ 4 J1 (g_must tk 5 r) b c hq1 p1 (by decide) hb.1 (by omega) b1 z1 hc (fun J2 x e2 t2 p2 => ?_) (fun J2 a3 t2 p2 o2 => ?_)
  · have e2 : (g_law tk r).1 = .inl x := e2
    rw [e2]
    exact ⟨rfl, rfl, p2, Or.inl ⟨x, rfl, T1.tr t2 (Nat.le_refl _) (Nat.le_refl _)⟩⟩
  · have T2 := T1.tr t2 (Nat.le_refl _) (Nat.le_refl _)
    have p2 : prs J2 tk (g_law tk r).1 := p2
    have hq2 : tq J2 ρ1 tk := hq1.kept t2.1 (by decide) rfl
    refine wp_aload0 144 rfl dX10_tellLaw_143 ?_
    refine wp_iconst (nI 4) 145 rfl dX10_tellLaw_144 (by decide) ?_
    refine wp_Vv1 148 rfl dX10_tellLaw_145 kX10_must lX10_261 (md_M hm) (nl rfl) (nl rfl) (s_must hm tk hq2 hw _ p2 4 (by decide)) (fun J3 ρ3 hq3 => ?_)
    obtain ⟨rfl, f3, p3⟩ := hq3
    have T3 : tF s c b I J3 := T2.tr (tF.of f3 (by decide) (by decide)) (Nat.le_refl _) (Nat.le_refl _)
    refine wp_aload0 149 rfl dX10_tellLaw_148 ?_
    refine wp_geti 152 rfl dX10_tellLaw_149 fX10_203_10 (md_M hm) ?_
    generalize hg : g_must tk 4 (g_law tk r).1 = r9 at p3 ⊢
    cases r9 with
    | inl x =>
      obtain ⟨m, j⟩ := x
      have hm12 := p3.1
      rw [p3.2.1]
      refine wp_if_le 155 156 rfl rfl dX10_tellLaw_152 (fun c152 => absurd c152 (nI_nle (by omega) (by omega))) (fun c152 => ?_)
      refine wp_vret dX10_tellLaw_155 rfl ?_
      exact ⟨rfl, rfl, p3, Or.inl ⟨_, rfl, T3⟩⟩
    | inr q =>
      obtain ⟨t, w⟩ := q
      rw [p3.2.1]
      obtain ⟨t0, e0, k0, q0, n0⟩ := g_must_inv hg
      obtain ⟨y1, y2, y3, y4⟩ := o2 t0 w e0
      have y3 : J2 mM 37 = nI (b + (g_law tk r).2.1.length + 1) := y3
      have h19J : J3 mM 19 = nI s := (T3.1.2 19 (by decide)).trans h19
      have g37 : J3 mM 37 = nI (b + (g_law tk r).2.1.length + 1) := (f3.2 37 (by decide)).trans y3
      refine wp_if_le 155 156 rfl rfl dX10_tellLaw_152 (fun c152 => ?_) (fun c152 => absurd (by decide) c152)
      refine wp_aload0 157 rfl dX10_tellLaw_156 ?_
      refine wp_getr 160 rfl dX10_tellLaw_157 fX10_82_10 (md_M hm) (mp_lawFirst hm) ?_
      refine wp_iconst (nI 3) 161 rfl dX10_tellLaw_160 (by decide) ?_
      refine wp_aload0 162 rfl dX10_tellLaw_161 ?_
      refine wp_geti 165 rfl dX10_tellLaw_162 fX10_236_10 (md_M hm) ?_
      rw [h19J]
      refine wp_imul 166 rfl dX10_tellLaw_165 ?_
      refine wp_iload1 167 rfl dX10_tellLaw_166 ?_
      refine wp_iadd 168 rfl dX10_tellLaw_167 ?_
      refine wp_iload2 169 rfl dX10_tellLaw_168 ?_
      refine wp_iast 170 rfl dX10_tellLaw_169 (ms_lawFirst hm) (3 * s + k) (by first | rfl | simp only [pk_mul, nI_add]) (⟨by omega, by decide⟩) ?_
      refine wp_aload0 171 rfl dX10_tellLaw_170 ?_
      refine wp_getr 174 rfl dX10_tellLaw_171 fX10_85_10 (md_M hm) (mp_lawLast hm) ?_
      refine wp_iconst (nI 3) 175 rfl dX10_tellLaw_174 (by decide) ?_
      refine wp_aload0 176 rfl dX10_tellLaw_175 ?_
      refine wp_geti 179 rfl dX10_tellLaw_176 fX10_236_10 (md_M hm) ?_
      rw [show sm_u J3 m_lawFirst (3 * s + k) (nI b) mM 19 = nI s from h19J]
      refine wp_imul 180 rfl dX10_tellLaw_179 ?_
      refine wp_iload1 181 rfl dX10_tellLaw_180 ?_
      refine wp_iadd 182 rfl dX10_tellLaw_181 ?_
      refine wp_aload0 183 rfl dX10_tellLaw_182 ?_
      refine wp_geti 186 rfl dX10_tellLaw_183 fX10_242_10 (md_M hm) ?_
      rw [show sm_u J3 m_lawFirst (3 * s + k) (nI b) mM 37 = nI (b + (g_law tk r).2.1.length + 1) from g37]
      refine wp_iast 187 rfl dX10_tellLaw_186 (ms_lawLast hm) (3 * s + k) (by first | rfl | simp only [pk_mul, nI_add]) (⟨by omega, by decide⟩) ?_
      refine wp_vret dX10_tellLaw_187 rfl ?_
      refine ⟨rfl, rfl, ?_, Or.inr ⟨t, w, J3, rfl, T3, rfl, (f3.2 12 (by decide)).trans y1, (f3.2 43 (by decide)).trans y2, g37, ?_⟩⟩
      · refine (p3.kept (mf.u (A := [m_lawFirst]) (F := []) (by decide) (by decide)) (by decide)).kept (mf.u (A := [m_lawLast]) (F := []) (by decide) (by decide)) (by decide)
      · refine lw_at2.kp (Nat.le_refl _) (fun j _ _ => ?_) y4 (fun j _ _ => ?_)
        · rw [f3.1 m_code (by decide) (by decide), f3.1 m_codeInt (by decide) (by decide)]
          exact ⟨rfl, rfl⟩
        · rw [f3.1 m_hasTest (by decide) (by decide), f3.1 m_testFrom (by decide) (by decide), f3.1 m_testMid (by decide) (by decide), f3.1 m_testTo (by decide) (by decide), f3.1 m_termTo (by decide) (by decide)]
          exact ⟨rfl, rfl, rfl, rfl, rfl⟩
end M39
