/-! ===== reading: faults, the place in the row of tokens ===== -/
set_option maxRecDepth 100000
abbrev tkf : Type := Nat → Nat × Nat × Nat × Nat
/-- a fault (number, token), or the token that stands next and the worst that was told (number, token) -/
abbrev pR : Type := Sum (Nat × Nat) (Nat × Nat × Nat)
def g_pass : pR → pR
  | .inl e => .inl e
  | .inr (t, w) => if t = 400 then .inl (2, t) else .inr (t + 1, w)
def g_fail (n : Nat) : pR → pR
  | .inl e => .inl e
  | .inr (t, _) => .inl (n, t)
def g_must (tk : tkf) (k : Nat) : pR → pR
  | .inl e => .inl e
  | .inr (t, w) => if (tk t).1 = k then g_pass (.inr (t, w)) else .inl (1, t)
def g_tell (w : Nat × Nat) (n j : Nat) : Nat × Nat := if ¬ w.1 = 0 ∧ (w.2 < j ∨ j = w.2 ∧ w.1 ≤ n) then w else (n, j)
/-- the tokens as the model has them -/
def tq (I : sm_I) (ρ : sm_R) (tk : tkf) : Prop := ∀ k, k ≤ 400 → (∀ j, j < k → ¬ (tk j).1 = 0) → I m_tKind k = nI (tk k).1 ∧ I m_tPlace k = nI (tk k).2.1 ∧ I m_tValue k = nI (tk k).2.2.1 ∧ ρ.1 m_tName k = lN (tk k).2.2.2
def tw (tk : tkf) : Prop := (∀ k, (tk k).1 < 100 ∧ (tk k).2.1 ≤ 2000 ∧ (tk k).2.2.1 < 10000 ∧ (tk k).2.2.2 < 2 ^ 62) ∧ ∀ i j, i < j → (∀ q, q < j → ¬ (tk q).1 = 0) → (tk i).2.1 < (tk j).2.1
def pv (tk : tkf) (t : Nat) (w : Nat × Nat) : Prop := t ≤ 400 ∧ (∀ j, j < t → ¬ (tk j).1 = 0) ∧ w.1 ≤ 5 ∧ w.2 ≤ t
def prs (I : sm_I) (tk : tkf) : pR → Prop
  | .inl (n, j) => (n = 1 ∨ n = 2) ∧ I mM 13 = nI n ∧ I mM 14 = nI (tk j).2.1 ∧ ∃ t, t ≤ 400 ∧ I mM 11 = nI t
  | .inr (t, w) => pv tk t w ∧ I mM 13 = nI 0 ∧ I mM 11 = nI t ∧ I mM 15 = nI w.1 ∧ (¬ w.1 = 0 → I mM 16 = nI (tk w.2).2.1)
abbrev mPF : List Nat := [11, 13, 14, 15, 16]
theorem tq.kept {A F : List Nat} {I J : sm_I} {ρ σ : sm_R} {tk : tkf} (h : tq I ρ tk) (hf : mf A F I J) (hA : ∀ a ∈ mTk, a ∉ A) (hL : σ.1 m_tName = ρ.1 m_tName) : tq J σ tk := fun k hk hj => by
  rw [hf.1 m_tKind (hA _ (by decide)) (by decide), hf.1 m_tPlace (hA _ (by decide)) (by decide), hf.1 m_tValue (hA _ (by decide)) (by decide), hL]
  exact h k hk hj
section M27
variable {G : sm_G} {d : Nat} {I : sm_I} {ρ : sm_R}
def g_is (tk : tkf) (k : Nat) : pR → Prop
  | .inl _ => False
  | .inr (t, _) => (tk t).1 = k
theorem s_is (hm : md ρ) (tk : tkf) (hq : tq I ρ tk) (hw : tw tk) (r : pR) (hr : prs I tk r) (k : Nat) (hk : k < 100) : sm_M G xX10_is d [.ref mM, .int (nI k)] I ρ (sm_Qi (fun v I1 ρ1 => ρ1 = ρ ∧ I1 = I ∧ (v = nI 0 ∨ v = nI 1) ∧ (v = nI 1 ↔ g_is tk k r))) := by
  show sm_V G xX10_is d 0 [.ref mM, .int (nI k)] [] I ρ _
  cases r with
  | inl e =>
    obtain ⟨n, j⟩ := e
    obtain ⟨h12, h13, -⟩ := hr
    refine wp_aload0 1 rfl dX10_is_0 ?_
    refine wp_geti 4 rfl dX10_is_1 fX10_203_10 (md_M hm) ?_
    rw [h13]
    refine wp_if_ne 7 24 rfl rfl dX10_is_4 (fun c4 => ?_) (fun c4 => absurd c4 (nI_ne0 (by omega) (by omega)))
    refine wp_iconst (nI 0) 25 rfl dX10_is_24 (by decide) ?_
    refine wp_zret dX10_is_25 rfl (rfl) ?_
    exact ⟨_, rfl, rfl, rfl, Or.inl rfl, ⟨fun h => absurd h (by decide), fun h => h.elim⟩⟩
  | inr e =>
    obtain ⟨t, w⟩ := e
    obtain ⟨⟨p1, p2, p3, p4⟩, h13, h11, -⟩ := hr
    obtain ⟨q1, -⟩ := hq t p1 p2
    have hk2 := (hw.1 t).1
    refine wp_aload0 1 rfl dX10_is_0 ?_
    refine wp_geti 4 rfl dX10_is_1 fX10_203_10 (md_M hm) ?_
    rw [h13]
    refine wp_if_ne 7 24 rfl rfl dX10_is_4 (fun c4 => absurd (rfl) c4) (fun c4 => ?_)
    refine wp_aload0 8 rfl dX10_is_7 ?_
    refine wp_getr 11 rfl dX10_is_8 fX10_20_10 (md_M hm) (mp_tKind hm) ?_
    refine wp_aload0 12 rfl dX10_is_11 ?_
    refine wp_geti 15 rfl dX10_is_12 fX10_206_10 (md_M hm) ?_
    refine wp_iald 16 rfl dX10_is_15 (ms_tKind hm) (t) (h11) (⟨by omega, by decide⟩) ?_
    rw [q1]
    refine wp_iload1 17 rfl dX10_is_16 ?_
    refine wp_icmp_ne 20 24 rfl rfl dX10_is_17 (fun c17 => ?_) (fun c17 => ?_)
    · refine wp_iconst (nI 0) 25 rfl dX10_is_24 (by decide) ?_
      refine wp_zret dX10_is_25 rfl (rfl) ?_
      exact ⟨_, rfl, rfl, rfl, Or.inl rfl, ⟨fun h => absurd h (by decide), fun (h : (tk t).1 = k) => absurd (by rw [h]) c17⟩⟩
    · refine wp_iconst (nI 1) 21 rfl dX10_is_20 (by decide) ?_
      refine wp_goto 25 rfl dX10_is_21 ?_
      refine wp_zret dX10_is_25 rfl (rfl) ?_
      exact ⟨_, rfl, rfl, rfl, Or.inr rfl, ⟨fun _ => (nI_eq (by omega) (by omega)).mp c17, fun _ => rfl⟩⟩
theorem s_fail (hm : md ρ) (tk : tkf) (hq : tq I ρ tk) (r : pR) (hr : prs I tk r) (n : Nat) (hn : n = 1 ∨ n = 2) : sm_M G xX10_fail d [.ref mM, .int (nI n)] I ρ (sm_Qv (fun I1 ρ1 => ρ1 = ρ ∧ mf [] mPF I I1 ∧ prs I1 tk (g_fail n r))) := by
  show sm_V G xX10_fail d 0 [.ref mM, .int (nI n)] [] I ρ _
  cases r with
  | inl e =>
    obtain ⟨m, j⟩ := e
    have h12 := hr.1
    refine wp_aload0 1 rfl dX10_fail_0 ?_
    refine wp_geti 4 rfl dX10_fail_1 fX10_203_10 (md_M hm) ?_
    rw [hr.2.1]
    refine wp_if_le 7 8 rfl rfl dX10_fail_4 (fun c4 => absurd c4 (nI_nle (by omega) (by omega))) (fun c4 => ?_)
    refine wp_vret dX10_fail_7 rfl ?_
    exact ⟨rfl, rfl, mf.rf, hr⟩
  | inr e =>
    obtain ⟨t, w⟩ := e
    obtain ⟨⟨p1, p2, p3, p4⟩, h13, h11, -⟩ := hr
    obtain ⟨q1, q2, -⟩ := hq t p1 p2
    refine wp_aload0 1 rfl dX10_fail_0 ?_
    refine wp_geti 4 rfl dX10_fail_1 fX10_203_10 (md_M hm) ?_
    rw [h13]
    refine wp_if_le 7 8 rfl rfl dX10_fail_4 (fun c4 => ?_) (fun c4 => absurd (by decide) c4)
    refine wp_aload0 9 rfl dX10_fail_8 ?_
    refine wp_iload1 10 rfl dX10_fail_9 ?_
    refine wp_puti 13 rfl dX10_fail_10 pX10_203_10 (md_M hm) ⟨rfl, rfl⟩ ?_
    refine wp_aload0 14 rfl dX10_fail_13 ?_
    refine wp_aload0 15 rfl dX10_fail_14 ?_
    refine wp_getr 18 rfl dX10_fail_15 fX10_24_10 (md_M hm) (mp_tPlace hm) ?_
    refine wp_aload0 19 rfl dX10_fail_18 ?_
    refine wp_geti 22 rfl dX10_fail_19 fX10_206_10 (md_M hm) ?_
    refine wp_iald 23 rfl dX10_fail_22 (ms_tPlace hm) (t) (h11) (⟨by omega, by decide⟩) ?_
    refine wp_puti 26 rfl dX10_fail_23 pX10_209_10 (md_M hm) ⟨rfl, rfl⟩ ?_
    refine wp_vret dX10_fail_26 rfl ?_
    refine ⟨rfl, rfl, (mf.uM (by decide)).tr (mf.uM (by decide)), hn, rfl, ?_, t, p1, h11⟩
    exact q2
theorem s_goesOn (hm : md ρ) (tk : tkf) (hq : tq I ρ tk) (r : pR) (hr : prs I tk r) (h0 : ∀ t w, r = .inr (t, w) → ¬ (tk t).1 = 0) : sm_M G xX10_goesOn (d + 1) [.ref mM] I ρ (sm_Qv (fun I1 ρ1 => ρ1 = ρ ∧ mf [] mPF I I1 ∧ prs I1 tk (g_pass r))) := by
  show sm_V G xX10_goesOn (d + 1) 0 [.ref mM] [] I ρ _
  obtain ⟨t, ht, h11⟩ : ∃ t, t ≤ 400 ∧ I mM 11 = nI t := by
    cases r with
    | inl e => exact hr.2.2.2
    | inr e => exact ⟨e.1, hr.1.1, hr.2.2.1⟩
  refine wp_aload0 1 rfl dX10_goesOn_0 ?_
  refine wp_geti 4 rfl dX10_goesOn_1 fX10_206_10 (md_M hm) ?_
  rw [h11]
  by_cases h4 : t = 400
  · refine wp_sipush (nI 400) 7 rfl dX10_goesOn_4 (by decide) ?_
    refine wp_icmp_ne 10 18 rfl rfl dX10_goesOn_7 (fun c7 => absurd (by rw [h4]) c7) (fun c7 => ?_)
    refine wp_aload0 11 rfl dX10_goesOn_10 ?_
    refine wp_iconst (nI 2) 12 rfl dX10_goesOn_11 (by decide) ?_
    refine wp_Vv1 15 rfl dX10_goesOn_12 kX10_fail lX10_218 (md_M hm) (nl rfl) (nl rfl) (s_fail hm tk hq r hr 2 (Or.inr rfl)) (fun J ρ1 hq1 => ?_)
    obtain ⟨rfl, hf, hp⟩ := hq1
    refine wp_goto 28 rfl dX10_goesOn_15 ?_
    refine wp_vret dX10_goesOn_28 rfl ?_
    refine ⟨rfl, rfl, hf, ?_⟩
    cases r with
    | inl e => exact hp
    | inr e =>
      obtain ⟨s, w⟩ := e
      have hst : s = t := (nI_eq (by have := hr.1.1; omega) (by omega)).mp (hr.2.2.1.symm.trans h11)
      show prs J tk (if s = 400 then .inl (2, s) else .inr (s + 1, w))
      rw [if_pos (hst.trans h4)]
      exact hp
  · refine wp_sipush (nI 400) 7 rfl dX10_goesOn_4 (by decide) ?_
    refine wp_icmp_ne 10 18 rfl rfl dX10_goesOn_7 (fun c7 => ?_) (fun c7 => absurd c7 (fun h => h4 ((nI_eq (by omega) (by decide)).mp h)))
    refine wp_aload0 19 rfl dX10_goesOn_18 ?_
    refine wp_dup 20 rfl dX10_goesOn_19 rfl ?_
    refine wp_geti 23 rfl dX10_goesOn_20 fX10_206_10 (md_M hm) ?_
    refine wp_iconst (nI 1) 24 rfl dX10_goesOn_23 (by decide) ?_
    refine wp_iadd 25 rfl dX10_goesOn_24 ?_
    refine wp_puti 28 rfl dX10_goesOn_25 pX10_206_10 (md_M hm) ⟨rfl, rfl⟩ ?_
    refine wp_vret dX10_goesOn_28 rfl ?_
    have e11 : sm_u I mM 11 (I mM 11 + nI 1) mM 11 = nI (t + 1) := by
      rw [sm_u_eq, pk_us, h11]
      exact nI_add t 1
    refine ⟨rfl, rfl, mf.uM (by decide), ?_⟩
    cases r with
    | inl e =>
      obtain ⟨n, j⟩ := e
      exact ⟨hr.1, hr.2.1, hr.2.2.1, t + 1, by omega, e11⟩
    | inr e =>
      obtain ⟨s, w⟩ := e
      have hst : s = t := (nI_eq (by have := hr.1.1; omega) (by omega)).mp (hr.2.2.1.symm.trans h11)
      subst hst
      obtain ⟨⟨p1, p2, p3, p4⟩, h13, -, h15, h16⟩ := hr
      show prs _ tk (if s = 400 then .inl (2, s) else .inr (s + 1, w))
      rw [if_neg h4]
      refine ⟨⟨by omega, fun j hj => ?_, p3, by omega⟩, h13, e11, h15, h16⟩
      by_cases e : j = s
      · rw [e]
        exact h0 s w rfl
      · exact p2 j (by omega)
theorem s_must (hm : md ρ) (tk : tkf) (hq : tq I ρ tk) (hw : tw tk) (r : pR) (hr : prs I tk r) (k : Nat) (hk : 0 < k ∧ k < 100) : sm_M G xX10_must (d + 2) [.ref mM, .int (nI k)] I ρ (sm_Qv (fun I1 ρ1 => ρ1 = ρ ∧ mf [] mPF I I1 ∧ prs I1 tk (g_must tk k r))) := by
  show sm_V G xX10_must (d + 2) 0 [.ref mM, .int (nI k)] [] I ρ _
  refine wp_aload0 1 rfl dX10_must_0 ?_
  refine wp_iload1 2 rfl dX10_must_1 ?_
  refine wp_Vi1 5 rfl dX10_must_2 kX10_is lX10_221 (md_M hm) (nl rfl) (nl rfl) (s_is hm tk hq hw r hr k hk.2) (fun v J ρ1 hq1 => ?_)
  obtain ⟨rfl, rfl, h01, hv⟩ := hq1
  by_cases hg : g_is tk k r
  · have e1 := hv.mpr hg
    rw [e1]
    refine wp_if_eq 8 15 rfl rfl dX10_must_5 (fun c5 => absurd c5 (by decide)) (fun c5 => ?_)
    refine wp_aload0 9 rfl dX10_must_8 ?_
    refine wp_Vv0 12 rfl dX10_must_9 kX10_goesOn lX10_224 (md_M hm) (nl rfl) (nl rfl) (s_goesOn hm tk hq r hr (fun t w e => by subst e; have hg : (tk t).1 = k := hg; omega)) (fun J1 ρ2 hq2 => ?_)
    obtain ⟨rfl, hf, hp⟩ := hq2
    refine wp_goto 20 rfl dX10_must_12 ?_
    refine wp_vret dX10_must_20 rfl ?_
    refine ⟨rfl, rfl, hf, ?_⟩
    cases r with
    | inl e => exact hg.elim
    | inr e =>
      obtain ⟨t, w⟩ := e
      show prs J1 tk (if (tk t).1 = k then g_pass (.inr (t, w)) else .inl (1, t))
      rw [if_pos (show (tk t).1 = k from hg)]
      exact hp
  · have e0 : v = nI 0 := h01.resolve_right (fun h => hg (hv.mp h))
    rw [e0]
    refine wp_if_eq 8 15 rfl rfl dX10_must_5 (fun c5 => ?_) (fun c5 => absurd (rfl) c5)
    refine wp_aload0 16 rfl dX10_must_15 ?_
    refine wp_iconst (nI 1) 17 rfl dX10_must_16 (by decide) ?_
    refine wp_Vv1 20 rfl dX10_must_17 kX10_fail lX10_218 (md_M hm) (nl rfl) (nl rfl) (s_fail hm tk hq r hr 1 (Or.inl rfl)) (fun J1 ρ2 hq2 => ?_)
    obtain ⟨rfl, hf, hp⟩ := hq2
    refine wp_vret dX10_must_20 rfl ?_
    refine ⟨rfl, rfl, hf, ?_⟩
    cases r with
    | inl e => exact hp
    | inr e =>
      obtain ⟨t, w⟩ := e
      show prs J1 tk (if (tk t).1 = k then g_pass (.inr (t, w)) else .inl (1, t))
      rw [if_neg (show ¬ (tk t).1 = k from hg)]
      exact hp
end M27
