/-! ===== reading: unit ===== -/
set_option maxRecDepth 100000
/-- what reading a term may change -/
def xF (c0 c1 : Nat) (I J : sm_I) : Prop := mf [m_code, m_codeInt, m_waits] [11, 12, 13, 14, 15, 16, 43, 47] I J ∧ ∀ j, (j < c0 ∨ c1 ≤ j) → J m_code j = I m_code j ∧ J m_codeInt j = I m_codeInt j
theorem xF.rf {c0 c1 : Nat} {I : sm_I} : xF c0 c1 I I := ⟨mf.rf, fun _ _ => ⟨rfl, rfl⟩⟩
theorem xF.tr {c0 c1 : Nat} {I J K : sm_I} (h : xF c0 c1 I J) (h2 : xF c0 c1 J K) : xF c0 c1 I K := ⟨h.1.tr h2.1, fun j hj => ⟨(h2.2 j hj).1.trans (h.2 j hj).1, (h2.2 j hj).2.trans (h.2 j hj).2⟩⟩
theorem emF.x {c0 c1 : Nat} {I J : sm_I} (h : emF c0 c1 I J) : xF c0 c1 I J := ⟨h.1.wk (by decide) (by decide), h.2⟩
theorem mf.x {c0 c1 : Nat} {F : List Nat} {I J : sm_I} (h : mf [] F I J) (hF : ∀ k ∈ F, k ∈ [11, 12, 13, 14, 15, 16, 43, 47]) : xF c0 c1 I J := ⟨h.wk (by decide) hF, fun j _ => by
  rw [h.1 m_code (by decide) (by decide), h.1 m_codeInt (by decide) (by decide)]
  exact ⟨rfl, rfl⟩⟩
theorem prs.kept {A F : List Nat} {I J : sm_I} {tk : tkf} {r : pR} (h : prs I tk r) (hf : mf A F I J) (hF : ∀ k ∈ mPF, k ∉ F) : prs J tk r := by
  have e : ∀ k, k ∈ mPF → J mM k = I mM k := fun k hk => hf.2 k (hF k hk)
  cases r with
  | inl q =>
    obtain ⟨n, j⟩ := q
    obtain ⟨h1, h2, h3, t, h4, h5⟩ := h
    exact ⟨h1, (e 13 (by decide)).trans h2, (e 14 (by decide)).trans h3, t, h4, (e 11 (by decide)).trans h5⟩
  | inr q =>
    obtain ⟨t, w⟩ := q
    obtain ⟨h1, h2, h3, h4, h5⟩ := h
    exact ⟨h1, (e 13 (by decide)).trans h2, (e 11 (by decide)).trans h3, (e 15 (by decide)).trans h4, fun h => (e 16 (by decide)).trans (h5 h)⟩
theorem cdR.kept {F : List Nat} {I J : sm_I} {c0 c1 : Nat} {e : ex} (h : cdR I c0 c1 e) (hf : mf [] F I J) (hF : 43 ∉ F) : cdR J c0 c1 e := by
  refine ⟨(hf.2 43 hF).trans h.1, fun i k v hi => ?_, h.2.2.1, h.2.2.2⟩
  rw [hf.1 m_code (by decide) (by decide), hf.1 m_codeInt (by decide) (by decide)]
  exact h.2.1 i k v hi
def g_u (tk : tkf) (t : Nat) : Nat × Int32 := if (tk t).1 = 2 then (0, nI (tk t).2.2.1) else (1, nI ((tk t).1 - 32))
def g_isU (tk : tkf) (t : Nat) : Prop := (tk t).1 = 2 ∨ 32 ≤ (tk t).1 ∧ (tk t).1 ≤ 40
section M31
variable {G : sm_G} {d : Nat} {I : sm_I} {ρ : sm_R}
/-- a unit that is one token -/
theorem s_unit1 (hm : md ρ) (tk : tkf) (hq : tq I ρ tk) (hw : tw tk) (t : Nat) (w : Nat × Nat) (hr : prs I tk (.inr (t, w))) (c0 c1 : Nat) (e : ex) (hc : cdR I c0 c1 e) (hl : c0 + e.length < c1) (hu : g_isU tk t) : sm_M G xX10_unit (d + 2) [.ref mM] I ρ (sm_Qv (fun I1 ρ1 => ρ1 = ρ ∧ xF c0 c1 I I1 ∧ (I1 mM 12 = I mM 12 ∧ I1 mM 47 = I mM 47 ∧ I1 m_waits = I m_waits) ∧ prs I1 tk (g_pass (.inr (t, w))) ∧ cdR I1 c0 c1 (e ++ [g_u tk t]))) := by
  show sm_V G xX10_unit (d + 2) 0 [.ref mM] [] I ρ _
  have hr0 := hr
  obtain ⟨⟨p1, p2, p3, p4⟩, h13, h11, h15, h16⟩ := hr
  obtain ⟨q1, q2, q3, q4⟩ := hq t p1 p2
  obtain ⟨b1, b2, b3, b4⟩ := hw.1 t
  have hc1 := hc.2.2.2
  have fin : ∀ (k : Nat) (v : Int32), (k, v) = g_u tk t → ∀ J, J = M_em I (c0 + e.length) (nI k) v → (prs J tk (.inr (t, w)) ∧ tq J ρ tk ∧ emF c0 c1 I J ∧ (J mM 12 = I mM 12 ∧ J mM 47 = I mM 47 ∧ J m_waits = I m_waits) ∧ cdR J c0 c1 (e ++ [g_u tk t])) := by
    intro k v hkv J hJ
    have hf : mf [m_code, m_codeInt] [43] I J := by
      rw [hJ]
      exact ((mf.u (by decide) (by decide)).tr (mf.u (by decide) (by decide))).tr (mf.uM (by decide))
    refine ⟨hr0.kept hf (by decide), hq.kept hf (by decide) rfl, ?_, ⟨hf.2 12 (by decide), hf.2 47 (by decide), hf.1 m_waits (by decide) (by decide)⟩, ?_⟩
    · rw [hJ]
      exact M_em_f (by omega) hl
    · rw [hJ, ← hkv]
      exact hc.add hl k v
  refine wp_aload0 1 rfl dX10_unit_0 ?_
  refine wp_iconst (nI 2) 2 rfl dX10_unit_1 (by decide) ?_
  refine wp_Vi1 5 rfl dX10_unit_2 kX10_is lX10_221 (md_M hm) (nl rfl) (nl rfl) (s_is hm tk hq hw _ hr0 2 (by decide)) (fun v J ρ1 hq1 => ?_)
  obtain ⟨rfl, rfl, h01, hv⟩ := hq1
  have h0 : ¬ (tk t).1 = 0 := by
    rcases hu with h | h <;> omega
  by_cases k2 : (tk t).1 = 2
  · rw [hv.mpr k2]
    obtain ⟨f1, f2, f3, f4, f5⟩ := fin 0 (nI (tk t).2.2.1) (by unfold g_u; rw [if_pos k2]) _ rfl
    refine wp_if_eq 8 29 rfl rfl dX10_unit_5 (fun c5 => absurd c5 (by decide)) (fun c5 => ?_)
    refine wp_aload0 9 rfl dX10_unit_8 ?_
    refine wp_iconst (nI 0) 10 rfl dX10_unit_9 (by decide) ?_
    refine wp_aload0 11 rfl dX10_unit_10 ?_
    refine wp_getr 14 rfl dX10_unit_11 fX10_27_10 (md_M hm) (mp_tValue hm) ?_
    refine wp_aload0 15 rfl dX10_unit_14 ?_
    refine wp_geti 18 rfl dX10_unit_15 fX10_206_10 (md_M hm) ?_
    refine wp_iald 19 rfl dX10_unit_18 (ms_tValue hm) (t) (h11) (⟨by omega, by decide⟩) ?_
    rw [q3]
    refine wp_Ve2 22 rfl dX10_unit_19 kX10_emit lX10_299 (md_M hm) (nl rfl) (nl rfl) (s_emit hm (c0 + e.length) hc.1 (by omega) _ _) ?_
    generalize M_em J (c0 + e.length) (nI 0) (nI (tk t).2.2.1) = J1 at f1 f2 f3 f4 f5 ⊢
    refine wp_aload0 23 rfl dX10_unit_22 ?_
    refine wp_Vv0 26 rfl dX10_unit_23 kX10_goesOn lX10_224 (md_M hm) (nl rfl) (nl rfl) (s_goesOn hm tk f2 _ f1 (fun t' w' e => by cases e; exact h0)) (fun J2 ρ2 hq2 => ?_)
    obtain ⟨rfl, hf2, hp2⟩ := hq2
    refine wp_goto 93 rfl dX10_unit_26 ?_
    refine wp_vret dX10_unit_93 rfl ?_
    exact ⟨rfl, rfl, f3.x.tr (hf2.x (by decide)), ⟨(hf2.2 12 (by decide)).trans f4.1, (hf2.2 47 (by decide)).trans f4.2.1, (hf2.1 m_waits (by decide) (by decide)).trans f4.2.2⟩, hp2, f5.kept hf2 (by decide)⟩
  · have kv : 32 ≤ (tk t).1 ∧ (tk t).1 ≤ 40 := hu.resolve_left k2
    have e0 : v = nI 0 := h01.resolve_right (fun h => k2 (hv.mp h))
    rw [e0]
    obtain ⟨f1, f2, f3, f4, f5⟩ := fin 1 (nI ((tk t).1 - 32)) (by unfold g_u; rw [if_neg k2]) _ rfl
    refine wp_if_eq 8 29 rfl rfl dX10_unit_5 (fun c5 => ?_) (fun c5 => absurd (rfl) c5)
    refine wp_aload0 30 rfl dX10_unit_29 ?_
    refine wp_geti 33 rfl dX10_unit_30 fX10_203_10 (md_M hm) ?_
    rw [h13]
    refine wp_if_ne 36 88 rfl rfl dX10_unit_33 (fun c33 => absurd (rfl) c33) (fun c33 => ?_)
    refine wp_aload0 37 rfl dX10_unit_36 ?_
    refine wp_getr 40 rfl dX10_unit_37 fX10_20_10 (md_M hm) (mp_tKind hm) ?_
    refine wp_aload0 41 rfl dX10_unit_40 ?_
    refine wp_geti 44 rfl dX10_unit_41 fX10_206_10 (md_M hm) ?_
    refine wp_iald 45 rfl dX10_unit_44 (ms_tKind hm) (t) (h11) (⟨by omega, by decide⟩) ?_
    rw [q1]
    refine wp_bipush (nI 32) 47 rfl dX10_unit_45 (by decide) ?_
    refine wp_icmp_lt 50 88 rfl rfl dX10_unit_47 (fun c47 => absurd c47 (nI_nlt kv.1 (by omega))) (fun c47 => ?_)
    refine wp_aload0 51 rfl dX10_unit_50 ?_
    refine wp_getr 54 rfl dX10_unit_51 fX10_20_10 (md_M hm) (mp_tKind hm) ?_
    refine wp_aload0 55 rfl dX10_unit_54 ?_
    refine wp_geti 58 rfl dX10_unit_55 fX10_206_10 (md_M hm) ?_
    refine wp_iald 59 rfl dX10_unit_58 (ms_tKind hm) (t) (h11) (⟨by omega, by decide⟩) ?_
    rw [q1]
    refine wp_bipush (nI 40) 61 rfl dX10_unit_59 (by decide) ?_
    refine wp_icmp_gt 64 88 rfl rfl dX10_unit_61 (fun c61 => absurd c61 (nI_nlt kv.2 (by omega))) (fun c61 => ?_)
    refine wp_aload0 65 rfl dX10_unit_64 ?_
    refine wp_iconst (nI 1) 66 rfl dX10_unit_65 (by decide) ?_
    refine wp_aload0 67 rfl dX10_unit_66 ?_
    refine wp_getr 70 rfl dX10_unit_67 fX10_20_10 (md_M hm) (mp_tKind hm) ?_
    refine wp_aload0 71 rfl dX10_unit_70 ?_
    refine wp_geti 74 rfl dX10_unit_71 fX10_206_10 (md_M hm) ?_
    refine wp_iald 75 rfl dX10_unit_74 (ms_tKind hm) (t) (h11) (⟨by omega, by decide⟩) ?_
    rw [q1]
    refine wp_bipush (nI 32) 77 rfl dX10_unit_75 (by decide) ?_
    refine wp_isub 78 rfl dX10_unit_77 ?_
    rw [pk_sub kv.1]
    refine wp_Ve2 81 rfl dX10_unit_78 kX10_emit lX10_299 (md_M hm) (nl rfl) (nl rfl) (s_emit hm (c0 + e.length) hc.1 (by omega) _ _) ?_
    generalize M_em J (c0 + e.length) (nI 1) (nI ((tk t).1 - 32)) = J1 at f1 f2 f3 f4 f5 ⊢
    refine wp_aload0 82 rfl dX10_unit_81 ?_
    refine wp_Vv0 85 rfl dX10_unit_82 kX10_goesOn lX10_224 (md_M hm) (nl rfl) (nl rfl) (s_goesOn hm tk f2 _ f1 (fun t' w' e => by cases e; exact h0)) (fun J2 ρ2 hq2 => ?_)
    obtain ⟨rfl, hf2, hp2⟩ := hq2
    refine wp_goto 93 rfl dX10_unit_85 ?_
    refine wp_vret dX10_unit_93 rfl ?_
    exact ⟨rfl, rfl, f3.x.tr (hf2.x (by decide)), ⟨(hf2.2 12 (by decide)).trans f4.1, (hf2.2 47 (by decide)).trans f4.2.1, (hf2.1 m_waits (by decide) (by decide)).trans f4.2.2⟩, hp2, f5.kept hf2 (by decide)⟩
/-- no unit, or a fault already -/
theorem s_unit0 (hm : md ρ) (tk : tkf) (hq : tq I ρ tk) (hw : tw tk) (r : pR) (hr : prs I tk r) (hu : ∀ t w, r = .inr (t, w) → ¬ g_isU tk t) : sm_M G xX10_unit (d + 2) [.ref mM] I ρ (sm_Qv (fun I1 ρ1 => ρ1 = ρ ∧ mf [] mPF I I1 ∧ prs I1 tk (g_fail 1 r))) := by
  show sm_V G xX10_unit (d + 2) 0 [.ref mM] [] I ρ _
  have bad : sm_V G xX10_unit (d + 2) 88 [.ref mM] [] I ρ (sm_Qv (fun I1 ρ1 => ρ1 = ρ ∧ mf [] mPF I I1 ∧ prs I1 tk (g_fail 1 r))) := by
    refine wp_aload0 89 rfl dX10_unit_88 ?_
    refine wp_iconst (nI 1) 90 rfl dX10_unit_89 (by decide) ?_
    refine wp_Vv1 93 rfl dX10_unit_90 kX10_fail lX10_218 (md_M hm) (nl rfl) (nl rfl) (s_fail hm tk hq r hr 1 (Or.inl rfl)) (fun J2 ρ2 hq2 => ?_)
    obtain ⟨rfl, hf2, hp2⟩ := hq2
    refine wp_vret dX10_unit_93 rfl ?_
    exact ⟨rfl, rfl, hf2, hp2⟩
  refine wp_aload0 1 rfl dX10_unit_0 ?_
  refine wp_iconst (nI 2) 2 rfl dX10_unit_1 (by decide) ?_
  refine wp_Vi1 5 rfl dX10_unit_2 kX10_is lX10_221 (md_M hm) (nl rfl) (nl rfl) (s_is hm tk hq hw _ hr 2 (by decide)) (fun v J ρ1 hq1 => ?_)
  obtain ⟨rfl, rfl, h01, hv⟩ := hq1
  cases r with
  | inl q =>
    obtain ⟨n, j⟩ := q
    have h12 := hr.1
    have e0 : v = nI 0 := h01.resolve_right (fun h => hv.mp h)
    rw [e0]
    refine wp_if_eq 8 29 rfl rfl dX10_unit_5 (fun c5 => ?_) (fun c5 => absurd (rfl) c5)
    refine wp_aload0 30 rfl dX10_unit_29 ?_
    refine wp_geti 33 rfl dX10_unit_30 fX10_203_10 (md_M hm) ?_
    rw [hr.2.1]
    refine wp_if_ne 36 88 rfl rfl dX10_unit_33 (fun c33 => ?_) (fun c33 => absurd c33 (nI_ne0 (by omega) (by omega)))
    exact bad
  | inr q =>
    obtain ⟨t, w⟩ := q
    have hu := hu t w rfl
    obtain ⟨⟨p1, p2, p3, p4⟩, h13, h11, h15, h16⟩ := hr
    obtain ⟨q1, q2, q3, q4⟩ := hq t p1 p2
    obtain ⟨b1, b2, b3, b4⟩ := hw.1 t
    have e0 : v = nI 0 := h01.resolve_right (fun h => hu (Or.inl (hv.mp h)))
    rw [e0]
    refine wp_if_eq 8 29 rfl rfl dX10_unit_5 (fun c5 => ?_) (fun c5 => absurd (rfl) c5)
    refine wp_aload0 30 rfl dX10_unit_29 ?_
    refine wp_geti 33 rfl dX10_unit_30 fX10_203_10 (md_M hm) ?_
    rw [h13]
    refine wp_if_ne 36 88 rfl rfl dX10_unit_33 (fun c33 => absurd (rfl) c33) (fun c33 => ?_)
    refine wp_aload0 37 rfl dX10_unit_36 ?_
    refine wp_getr 40 rfl dX10_unit_37 fX10_20_10 (md_M hm) (mp_tKind hm) ?_
    refine wp_aload0 41 rfl dX10_unit_40 ?_
    refine wp_geti 44 rfl dX10_unit_41 fX10_206_10 (md_M hm) ?_
    refine wp_iald 45 rfl dX10_unit_44 (ms_tKind hm) (t) (h11) (⟨by omega, by decide⟩) ?_
    rw [q1]
    by_cases k1 : 32 ≤ (tk t).1
    · refine wp_bipush (nI 32) 47 rfl dX10_unit_45 (by decide) ?_
      refine wp_icmp_lt 50 88 rfl rfl dX10_unit_47 (fun c47 => absurd c47 (nI_nlt k1 (by omega))) (fun c47 => ?_)
      refine wp_aload0 51 rfl dX10_unit_50 ?_
      refine wp_getr 54 rfl dX10_unit_51 fX10_20_10 (md_M hm) (mp_tKind hm) ?_
      refine wp_aload0 55 rfl dX10_unit_54 ?_
      refine wp_geti 58 rfl dX10_unit_55 fX10_206_10 (md_M hm) ?_
      refine wp_iald 59 rfl dX10_unit_58 (ms_tKind hm) (t) (h11) (⟨by omega, by decide⟩) ?_
      rw [q1]
      refine wp_bipush (nI 40) 61 rfl dX10_unit_59 (by decide) ?_
      refine wp_icmp_gt 64 88 rfl rfl dX10_unit_61 (fun c61 => ?_) (fun c61 => absurd (nI_lt (Nat.lt_of_not_le (fun h => hu (Or.inr ⟨k1, h⟩))) (by omega)) c61)
      exact bad
    · refine wp_bipush (nI 32) 47 rfl dX10_unit_45 (by decide) ?_
      refine wp_icmp_lt 50 88 rfl rfl dX10_unit_47 (fun c47 => ?_) (fun c47 => absurd (nI_lt (by omega) (by omega)) c47)
      exact bad
end M31
