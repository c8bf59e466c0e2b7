/-! ===== reading: a door, a caller ===== -/
set_option maxRecDepth 100000
def g_face (tk : tkf) : Nat → pR → pR
  | 0, r => r
  | n + 1, r => g_num tk 0 99 (g_face tk n r)
def g_nd (tk : tkf) (N : List (Nat × Nat)) (a b : Nat) (r : pR) : pR := g_must tk 4 (g_face tk 4 (g_named tk N (g_room a b r)))
theorem g_face_inv {tk : tkf} : ∀ {n : Nat} {r : pR} {t' : Nat} {w' : Nat × Nat}, g_face tk n r = .inr (t', w') → ∃ t w, r = .inr (t, w) ∧ t' = t + n ∧ (w'.1 = 0 → w.1 = 0 ∧ ∀ q, q < n → (tk (t + q)).2.2.1 ≤ 99)
  | 0, r, t', w', h => ⟨t', w', h, rfl, fun h => ⟨h, fun q hq => absurd hq (Nat.not_lt_zero _)⟩⟩
  | n + 1, r, t', w', h => by
    have h : g_num tk 0 99 (g_face tk n r) = .inr (t', w') := h
    obtain ⟨t1, w1, e1, k1, q1, n1, z1, v1⟩ := g_num_inv h
    obtain ⟨t, w, e, q, z⟩ := g_face_inv e1
    refine ⟨t, w, e, by omega, fun h0 => ?_⟩
    obtain ⟨y1, y2, y3⟩ := z1 h0
    obtain ⟨y4, y5⟩ := z y1
    refine ⟨y4, fun j hj => ?_⟩
    by_cases hjn : j = n
    · rw [hjn, ← q]
      exact y3
    · exact y5 j (by omega)
theorem g_nd_inv {tk : tkf} {N : List (Nat × Nat)} {a b t : Nat} {w : Nat × Nat} {t' : Nat} {w' : Nat × Nat} (h : g_nd tk N a b (.inr (t, w)) = .inr (t', w')) : t' = t + 7 ∧ ¬ a = b ∧ (w'.1 = 0 → w.1 = 0 ∧ N.any (fun x => x.1 == (tk (t + 1)).2.2.2) = false ∧ ∀ q, q < 4 → (tk (t + 2 + q)).2.2.1 ≤ 99) := by
  obtain ⟨t1, e1, k1, q1, n1⟩ := g_must_inv h
  obtain ⟨t2, w2, e2, q2, z2⟩ := g_face_inv e1
  obtain ⟨t3, w3, e3, k3, q3, n3, z3⟩ := g_named_inv e2
  obtain ⟨t4, e4, n4, q4, m4⟩ := g_room_inv e3
  cases e4
  subst q4
  subst q3
  refine ⟨by omega, n4, fun h0 => ?_⟩
  obtain ⟨y1, y2⟩ := z2 h0
  obtain ⟨y3, y4⟩ := z3 y1
  exact ⟨y3, y4, y2⟩
section M42
variable {G : sm_G} {d : Nat} {I : sm_I} {ρ : sm_R} {QQ : sm_O → sm_I → sm_R → Prop}
theorem t1_door (hm : md ρ) (tk : tkf) (hw : tw tk) (hq : tq I ρ tk) (t : Nat) (w : Nat × Nat) (hr : prs I tk (.inr (t, w))) (k0 : ¬ (tk t).1 = 0) (N : List (Nat × Nat)) (hN : nmR I ρ N) (hl : N.length ≤ 11) (s D : Nat) (hs : s < 2) (h19 : I mM 19 = nI s) (hD : I m_doors s = nI D) (hD6 : D ≤ 6) (hl2 : ¬ D = 6 → N.length < 11)
    (kk : ∀ I1 ρ1, kyF [m_nameOf] ρ ρ1 → mf [m_firstFace, m_nameAt, m_doors] [11, 13, 14, 15, 16, 20] I I1 → prs I1 tk (g_nd tk N D 6 (.inr (t, w))) → (∀ j, (j < 24 * s + 4 * D ∨ 24 * s + 24 ≤ j) → I1 m_firstFace j = I m_firstFace j) → (∀ j, ¬ j = s → I1 m_doors j = I m_doors j) → (∀ t' w', g_nd tk N D 6 (.inr (t, w)) = .inr (t', w') → I1 m_doors s = nI (D + 1) ∧ (∀ p, p < 4 → I1 m_firstFace (24 * s + 4 * D + p) = nI (tk (t + 2 + p)).2.2.1) ∧ nmR I1 ρ1 (N ++ [((tk (t + 1)).2.2.2, D)])) → QQ (.inl none) I1 ρ1) :
    sm_V G xX10_tellOne (d + 6) 60 [.ref mM, .retAddr 0, .retAddr 0] [] I ρ QQ := by
  refine wp_aload0 61 rfl dX10_tellOne_60 ?_
  refine wp_aload0 62 rfl dX10_tellOne_61 ?_
  refine wp_getr 65 rfl dX10_tellOne_62 fX10_46_10 (md_M hm) (mp_doors hm) ?_
  refine wp_aload0 66 rfl dX10_tellOne_65 ?_
  refine wp_geti 69 rfl dX10_tellOne_66 fX10_236_10 (md_M hm) ?_
  refine wp_iald 70 rfl dX10_tellOne_69 (ms_doors hm) (s) (h19) (⟨by omega, by decide⟩) ?_
  rw [hD]
  refine wp_bipush (nI 6) 72 rfl dX10_tellOne_70 (by decide) ?_
  refine wp_Vv2 75 rfl dX10_tellOne_72 kX10_roomFor lX10_264 (md_M hm) (nl rfl) (nl rfl) (s_roomFor hm tk hq _ hr (fun t' w' e => by cases e; exact k0) D 6 (by omega) (by omega)) (fun J1 ρ1 hq1 => ?_)
  obtain ⟨rfl, f1, p1⟩ := hq1
  refine wp_aload0 76 rfl dX10_tellOne_75 ?_
  refine wp_geti 79 rfl dX10_tellOne_76 fX10_203_10 (md_M hm) ?_
  generalize hg : g_room D 6 (.inr (t, w)) = r1 at p1
  cases r1 with
  | inl y =>
    have hgn : g_nd tk N D 6 (.inr (t, w)) = .inl y := by
      unfold g_nd
      rw [hg]
      rfl
    rw [hgn] at kk
    obtain ⟨m, j⟩ := y
    have hm12 := p1.1
    rw [p1.2.1]
    refine wp_if_le 82 83 rfl rfl dX10_tellOne_79 (fun c79 => absurd c79 (nI_nle (by omega) (by omega))) (fun c79 => ?_)
    refine wp_vret dX10_tellOne_82 rfl ?_
    refine kk J1 ρ1 kyF.rf (f1.wk (by decide) (by decide)) p1 (fun j _ => ?_) (fun j _ => ?_) (fun t' w' e => by cases e)
    · rw [f1.1 m_firstFace (by decide) (by decide)]
    · rw [f1.1 m_doors (by decide) (by decide)]
  | inr y =>
    obtain ⟨t1, w1⟩ := y
    obtain ⟨t0, e0, nD, q0, n0⟩ := g_room_inv hg
    cases e0
    subst q0
    rw [p1.2.1]
    have hq1 : tq J1 ρ1 tk := hq.kept f1 (by decide) rfl
    have hN1 : nmR J1 ρ1 N := hN.kept f1 (by decide) (by decide) rfl
    obtain ⟨x, hx⟩ : ∃ x, x = 24 * s + 4 * D := ⟨_, rfl⟩
    have hl11 := hl2 nD
    refine wp_if_le 82 83 rfl rfl dX10_tellOne_79 (fun c79 => ?_) (fun c79 => absurd (by decide) c79)
    refine wp_aload0 84 rfl dX10_tellOne_83 ?_
    refine wp_Vi0 87 rfl dX10_tellOne_84 kX10_named lX10_268 (md_M hm) (nl rfl) (nl rfl) (s_named hm tk hw hq1 _ _ p1 N hN1 hl) (fun v J2 ρ2 hq2 => ?_)
    obtain ⟨rfl, f2, p2, rfl⟩ := hq2
    have F2 : mf [m_firstFace] mPF I J2 := (f1.wk (by decide) (by decide)).tr (f2.wk (by decide) (by decide))
    have A2 : J2 m_firstFace = I m_firstFace := by rw [f2.1 m_firstFace (by decide) (by decide), f1.1 m_firstFace (by decide) (by decide)]
    obtain ⟨r2, hr2⟩ : ∃ r2, r2 = g_named tk N (.inr (t + 1, w)) := ⟨_, rfl⟩
    rw [← hr2] at p2
    have hgn : g_nd tk N D 6 (.inr (t, w)) = g_must tk 4 (g_face tk 4 r2) := by
      unfold g_nd
      rw [hg, hr2]
    rw [hgn] at kk
    have t2e : ∀ n t' w', g_face tk n r2 = .inr (t', w') → t' = t + 2 + n := fun n t' w' e => by
      obtain ⟨t9, w9, e9, q9, z9⟩ := g_face_inv e
      rw [hr2] at e9
      obtain ⟨t8, w8, e8, k8, q8, n8, z8⟩ := g_named_inv e9
      cases e8
      omega
    refine wp_istore1 88 rfl dX10_tellOne_87 (by decide) rfl ?_
    refine wp_iconst (nI 0) 89 rfl dX10_tellOne_88 (by decide) ?_
    refine wp_istore2 90 rfl dX10_tellOne_89 (by decide) rfl ?_
    refine sm_for (P := fun p => ∀ J : sm_I, mf [m_firstFace] mPF I J → prs J tk (g_face tk p r2) → (∀ j, (j < x ∨ x + p ≤ j) → J m_firstFace j = I m_firstFace j) → (∀ t' w', g_face tk p r2 = .inr (t', w') → ∀ q, q < p → J m_firstFace (x + q) = nI (tk (t + 2 + q)).2.2.1) → sm_V G xX10_tellOne (d + 6) 90 [.ref mM, .int (nI (t + 1)), .int (nI p)] [] J ρ2 QQ) 0 4 (by decide) ?_ (fun p _ hp4 ih => ?_) J2 F2 p2 (fun j _ => by rw [A2]) (fun t' w' _ q hqq => absurd hqq (Nat.not_lt_zero _))
    · intro J hf hp hz1 hz2
      have hqJ : tq J ρ2 tk := hq.kept hf (by decide) rfl
      have hNJ : nmR J ρ2 N := hN.kept hf (by decide) (by decide) rfl
      have h19J : J mM 19 = nI s := (hf.2 19 (by decide)).trans h19
      have hDJ : J m_doors s = nI D := by rw [hf.1 m_doors (by decide) (by decide)]; exact hD
      refine wp_iload2 91 rfl dX10_tellOne_90 ?_
      refine wp_iconst (nI 4) 92 rfl dX10_tellOne_91 (by decide) ?_
      refine wp_icmp_ge 95 134 rfl rfl dX10_tellOne_92 (fun c92 => ?_) (fun c92 => absurd (by decide) c92)
      refine wp_aload0 135 rfl dX10_tellOne_134 ?_
      refine wp_iload1 136 rfl dX10_tellOne_135 ?_
      refine wp_aload0 137 rfl dX10_tellOne_136 ?_
      refine wp_getr 140 rfl dX10_tellOne_137 fX10_46_10 (md_M hm) (mp_doors hm) ?_
      refine wp_aload0 141 rfl dX10_tellOne_140 ?_
      refine wp_geti 144 rfl dX10_tellOne_141 fX10_236_10 (md_M hm) ?_
      refine wp_iald 145 rfl dX10_tellOne_144 (ms_doors hm) (s) (h19J) (⟨by omega, by decide⟩) ?_
      rw [hDJ]
      refine wp_Vv2 148 rfl dX10_tellOne_145 kX10_endsName lX10_272 (md_M hm) (nl rfl) (nl rfl) (s_endsName hm tk hw hqJ _ hp N hNJ hl11 (t + 1) (D) (by have := p1.1.1; omega) (by omega) (fun t' w' e => by have := t2e 4 t' w' e; omega)) (fun J4 ρ4 hq4 => ?_)
      obtain ⟨ky4, f4, p4, o4⟩ := hq4
      have hm4 := ky4.mdl hm
      have F4 : mf [m_firstFace, m_nameAt, m_doors] [11, 13, 14, 15, 16, 20] I J4 := (hf.wk (by decide) (by decide)).tr (f4.wk (by decide) (by decide))
      have Z4 : ∀ j, J4 m_firstFace j = J m_firstFace j := fun j => by rw [f4.1 m_firstFace (by decide) (by decide)]
      have C4 : J4 m_doors = I m_doors := by rw [f4.1 m_doors (by decide) (by decide), hf.1 m_doors (by decide) (by decide)]
      have h194 : J4 mM 19 = nI s := (F4.2 19 (by decide)).trans h19
      have Y4 : ∀ j, (j < 24 * s + 4 * D ∨ 24 * s + 24 ≤ j) → J4 m_firstFace j = I m_firstFace j := fun j hj => (Z4 j).trans (hz1 j (by omega))
      clear hm
      have hm := hm4
      refine wp_aload0 149 rfl dX10_tellOne_148 ?_
      refine wp_geti 152 rfl dX10_tellOne_149 fX10_203_10 (md_M hm) ?_
      generalize hg4 : g_must tk 4 (g_face tk 4 r2) = r9 at p4 o4 kk
      cases r9 with
      | inl y =>
        obtain ⟨m, j⟩ := y
        have hm12 := p4.1
        rw [p4.2.1]
        refine wp_if_ne 155 425 rfl rfl dX10_tellOne_152 (fun c152 => ?_) (fun c152 => absurd c152 (nI_ne0 (by omega) (by omega)))
        refine wp_vret dX10_tellOne_425 rfl ?_
        exact kk J4 ρ4 ky4 F4 p4 Y4 (fun j _ => by rw [C4]) (fun t' w' e => by cases e)
      | inr y =>
        obtain ⟨t', w'⟩ := y
        rw [p4.2.1]
        obtain ⟨t5, e5, k5, q5, n5⟩ := g_must_inv hg4
        refine wp_if_ne 155 425 rfl rfl dX10_tellOne_152 (fun c152 => absurd (rfl) c152) (fun c152 => ?_)
        refine wp_aload0 156 rfl dX10_tellOne_155 ?_
        refine wp_getr 159 rfl dX10_tellOne_156 fX10_46_10 (md_M hm) (mp_doors hm) ?_
        refine wp_aload0 160 rfl dX10_tellOne_159 ?_
        refine wp_geti 163 rfl dX10_tellOne_160 fX10_236_10 (md_M hm) ?_
        refine wp_dup2 164 rfl dX10_tellOne_163 rfl rfl ?_
        refine wp_iald 165 rfl dX10_tellOne_164 (ms_doors hm) (s) (h194) (⟨by omega, by decide⟩) ?_
        rw [C4, hD]
        refine wp_iconst (nI 1) 166 rfl dX10_tellOne_165 (by decide) ?_
        refine wp_iadd 167 rfl dX10_tellOne_166 ?_
        rw [nI_add]
        refine wp_iast 168 rfl dX10_tellOne_167 (ms_doors hm) (s) (h194) (⟨by omega, by decide⟩) ?_
        refine wp_goto 425 rfl dX10_tellOne_168 ?_
        refine wp_vret dX10_tellOne_425 rfl ?_
        have g5 : mf [m_doors] [] J4 (sm_u J4 m_doors s (nI (D + 1))) := mf.u (by decide) (by decide)
        refine kk _ ρ4 ky4 (F4.tr (g5.wk (by decide) (by decide))) (p4.kept g5 (by decide)) (fun j hj => ?_) (fun j hj => ?_) (fun t'' w'' e => ⟨?_, fun p hp => ?_, ?_⟩)
        · rw [g5.1 m_firstFace (by decide) (by decide)]
          exact Y4 j hj
        · rw [sm_u_eq, pk_un hj, C4]
        · rw [sm_u_eq, pk_us]
        · rw [g5.1 m_firstFace (by decide) (by decide), Z4, ← hx]
          exact hz2 t5 w' e5 p hp
        · exact (o4 t' w' rfl).kept g5 (by decide) (by decide) rfl
    · intro J hf hp hz1 hz2
      have hqJ : tq J ρ2 tk := hq.kept hf (by decide) rfl
      have h19J : J mM 19 = nI s := (hf.2 19 (by decide)).trans h19
      have hDJ : J m_doors s = nI D := by rw [hf.1 m_doors (by decide) (by decide)]; exact hD
      refine wp_iload2 91 rfl dX10_tellOne_90 ?_
      refine wp_iconst (nI 4) 92 rfl dX10_tellOne_91 (by decide) ?_
      refine wp_icmp_ge 95 134 rfl rfl dX10_tellOne_92 (fun c92 => absurd c92 (nI_ge hp4 (by decide))) (fun c92 => ?_)
      refine wp_aload0 96 rfl dX10_tellOne_95 ?_
      refine wp_getr 99 rfl dX10_tellOne_96 fX10_49_10 (md_M hm) (mp_firstFace hm) ?_
      refine wp_bipush (nI 24) 101 rfl dX10_tellOne_99 (by decide) ?_
      refine wp_aload0 102 rfl dX10_tellOne_101 ?_
      refine wp_geti 105 rfl dX10_tellOne_102 fX10_236_10 (md_M hm) ?_
      rw [h19J]
      refine wp_imul 106 rfl dX10_tellOne_105 ?_
      refine wp_iconst (nI 4) 107 rfl dX10_tellOne_106 (by decide) ?_
      refine wp_aload0 108 rfl dX10_tellOne_107 ?_
      refine wp_getr 111 rfl dX10_tellOne_108 fX10_46_10 (md_M hm) (mp_doors hm) ?_
      refine wp_aload0 112 rfl dX10_tellOne_111 ?_
      refine wp_geti 115 rfl dX10_tellOne_112 fX10_236_10 (md_M hm) ?_
      refine wp_iald 116 rfl dX10_tellOne_115 (ms_doors hm) (s) (h19J) (⟨by omega, by decide⟩) ?_
      rw [hDJ]
      refine wp_imul 117 rfl dX10_tellOne_116 ?_
      refine wp_iadd 118 rfl dX10_tellOne_117 ?_
      refine wp_iload2 119 rfl dX10_tellOne_118 ?_
      refine wp_iadd 120 rfl dX10_tellOne_119 ?_
      refine wp_aload0 121 rfl dX10_tellOne_120 ?_
      refine wp_iconst (nI 0) 122 rfl dX10_tellOne_121 (by decide) ?_
      refine wp_bipush (nI 99) 124 rfl dX10_tellOne_122 (by decide) ?_
      refine wp_Vi2 127 rfl dX10_tellOne_124 kX10_bounded lX10_257 (md_M hm) (nl rfl) (nl rfl) (s_bounded hm tk hqJ hw _ hp 0 99 (by decide) (by decide)) (fun v J3 ρ3 hq3 => ?_)
      obtain ⟨rfl, f3, p3, rfl⟩ := hq3
      have Z3 : J3 m_firstFace = J m_firstFace := f3.1 m_firstFace (by decide) (by decide)
      refine wp_iast 128 rfl dX10_tellOne_127 (ms_firstFace hm) (x + p) (by rw [hx]; simp only [pk_mul, nI_add]) (⟨by omega, by decide⟩) ?_
      refine wp_iincN2 131 rfl dX10_tellOne_128 (by decide) rfl ?_
      refine wp_goto 90 rfl dX10_tellOne_131 ?_
      have g3 : mf [m_firstFace] [] J3 (sm_u J3 m_firstFace (x + p) (nI (g_nv tk 0 (g_face tk p r2)))) := mf.u (by decide) (by decide)
      refine ih _ ((hf.tr (f3.wk (by decide) (by decide))).tr (g3.wk (by decide) (by decide))) (p3.kept g3 (by decide)) (fun j hj => ?_) (fun t' w' e q hqq => ?_)
      · rw [sm_u_off (by omega), Z3]
        exact hz1 j (by omega)
      · have e : g_num tk 0 99 (g_face tk p r2) = .inr (t', w') := e
        obtain ⟨t6, w6, e6, k6, q6, n6, z6, v6⟩ := g_num_inv e
        by_cases hqp : q = p
        · rw [hqp, sm_u_eq, pk_us, v6, t2e p t6 w6 e6]
        · rw [sm_u_off (by omega), Z3]
          exact hz2 t6 w6 e6 q (by omega)
theorem t1_caller (hm : md ρ) (tk : tkf) (hw : tw tk) (hq : tq I ρ tk) (t : Nat) (w : Nat × Nat) (hr : prs I tk (.inr (t, w))) (k0 : ¬ (tk t).1 = 0) (N : List (Nat × Nat)) (hN : nmR I ρ N) (hl : N.length ≤ 11) (s D : Nat) (hs : s < 2) (h19 : I mM 19 = nI s) (hD : I m_callers s = nI D) (hD6 : D ≤ 5) (hl2 : ¬ D = 5 → N.length < 11)
    (kk : ∀ I1 ρ1, kyF [m_nameOf] ρ ρ1 → mf [m_faceOf, m_nameAt, m_callers] [11, 13, 14, 15, 16, 20] I I1 → prs I1 tk (g_nd tk N D 5 (.inr (t, w))) → (∀ j, (j < 20 * s + 4 * D ∨ 20 * s + 20 ≤ j) → I1 m_faceOf j = I m_faceOf j) → (∀ j, ¬ j = s → I1 m_callers j = I m_callers j) → (∀ t' w', g_nd tk N D 5 (.inr (t, w)) = .inr (t', w') → I1 m_callers s = nI (D + 1) ∧ (∀ p, p < 4 → I1 m_faceOf (20 * s + 4 * D + p) = nI (tk (t + 2 + p)).2.2.1) ∧ nmR I1 ρ1 (N ++ [((tk (t + 1)).2.2.2, 10 + D)])) → QQ (.inl none) I1 ρ1) :
    sm_V G xX10_tellOne (d + 6) 171 [.ref mM, .retAddr 0, .retAddr 0] [] I ρ QQ := by
  refine wp_aload0 172 rfl dX10_tellOne_171 ?_
  refine wp_aload0 173 rfl dX10_tellOne_172 ?_
  refine wp_getr 176 rfl dX10_tellOne_173 fX10_52_10 (md_M hm) (mp_callers hm) ?_
  refine wp_aload0 177 rfl dX10_tellOne_176 ?_
  refine wp_geti 180 rfl dX10_tellOne_177 fX10_236_10 (md_M hm) ?_
  refine wp_iald 181 rfl dX10_tellOne_180 (ms_callers hm) (s) (h19) (⟨by omega, by decide⟩) ?_
  rw [hD]
  refine wp_iconst (nI 5) 182 rfl dX10_tellOne_181 (by decide) ?_
  refine wp_Vv2 185 rfl dX10_tellOne_182 kX10_roomFor lX10_264 (md_M hm) (nl rfl) (nl rfl) (s_roomFor hm tk hq _ hr (fun t' w' e => by cases e; exact k0) D 5 (by omega) (by omega)) (fun J1 ρ1 hq1 => ?_)
  obtain ⟨rfl, f1, p1⟩ := hq1
  refine wp_aload0 186 rfl dX10_tellOne_185 ?_
  refine wp_geti 189 rfl dX10_tellOne_186 fX10_203_10 (md_M hm) ?_
  generalize hg : g_room D 5 (.inr (t, w)) = r1 at p1
  cases r1 with
  | inl y =>
    have hgn : g_nd tk N D 5 (.inr (t, w)) = .inl y := by
      unfold g_nd
      rw [hg]
      rfl
    rw [hgn] at kk
    obtain ⟨m, j⟩ := y
    have hm12 := p1.1
    rw [p1.2.1]
    refine wp_if_le 192 193 rfl rfl dX10_tellOne_189 (fun c189 => absurd c189 (nI_nle (by omega) (by omega))) (fun c189 => ?_)
    refine wp_vret dX10_tellOne_192 rfl ?_
    refine kk J1 ρ1 kyF.rf (f1.wk (by decide) (by decide)) p1 (fun j _ => ?_) (fun j _ => ?_) (fun t' w' e => by cases e)
    · rw [f1.1 m_faceOf (by decide) (by decide)]
    · rw [f1.1 m_callers (by decide) (by decide)]
  | inr y =>
    obtain ⟨t1, w1⟩ := y
    obtain ⟨t0, e0, nD, q0, n0⟩ := g_room_inv hg
    cases e0
    subst q0
    rw [p1.2.1]
    have hq1 : tq J1 ρ1 tk := hq.kept f1 (by decide) rfl
    have hN1 : nmR J1 ρ1 N := hN.kept f1 (by decide) (by decide) rfl
    obtain ⟨x, hx⟩ : ∃ x, x = 20 * s + 4 * D := ⟨_, rfl⟩
    have hl11 := hl2 nD
    refine wp_if_le 192 193 rfl rfl dX10_tellOne_189 (fun c189 => ?_) (fun c189 => absurd (by decide) c189)
    refine wp_aload0 194 rfl dX10_tellOne_193 ?_
    refine wp_Vi0 197 rfl dX10_tellOne_194 kX10_named lX10_268 (md_M hm) (nl rfl) (nl rfl) (s_named hm tk hw hq1 _ _ p1 N hN1 hl) (fun v J2 ρ2 hq2 => ?_)
    obtain ⟨rfl, f2, p2, rfl⟩ := hq2
    have F2 : mf [m_faceOf] mPF I J2 := (f1.wk (by decide) (by decide)).tr (f2.wk (by decide) (by decide))
    have A2 : J2 m_faceOf = I m_faceOf := by rw [f2.1 m_faceOf (by decide) (by decide), f1.1 m_faceOf (by decide) (by decide)]
    obtain ⟨r2, hr2⟩ : ∃ r2, r2 = g_named tk N (.inr (t + 1, w)) := ⟨_, rfl⟩
    rw [← hr2] at p2
    have hgn : g_nd tk N D 5 (.inr (t, w)) = g_must tk 4 (g_face tk 4 r2) := by
      unfold g_nd
      rw [hg, hr2]
    rw [hgn] at kk
    have t2e : ∀ n t' w', g_face tk n r2 = .inr (t', w') → t' = t + 2 + n := fun n t' w' e => by
      obtain ⟨t9, w9, e9, q9, z9⟩ := g_face_inv e
      rw [hr2] at e9
      obtain ⟨t8, w8, e8, k8, q8, n8, z8⟩ := g_named_inv e9
      cases e8
      omega
    refine wp_istore1 198 rfl dX10_tellOne_197 (by decide) rfl ?_
    refine wp_iconst (nI 0) 199 rfl dX10_tellOne_198 (by decide) ?_
    refine wp_istore2 200 rfl dX10_tellOne_199 (by decide) rfl ?_
    refine sm_for (P := fun p => ∀ J : sm_I, mf [m_faceOf] mPF I J → prs J tk (g_face tk p r2) → (∀ j, (j < x ∨ x + p ≤ j) → J m_faceOf j = I m_faceOf j) → (∀ t' w', g_face tk p r2 = .inr (t', w') → ∀ q, q < p → J m_faceOf (x + q) = nI (tk (t + 2 + q)).2.2.1) → sm_V G xX10_tellOne (d + 6) 200 [.ref mM, .int (nI (t + 1)), .int (nI p)] [] J ρ2 QQ) 0 4 (by decide) ?_ (fun p _ hp4 ih => ?_) J2 F2 p2 (fun j _ => by rw [A2]) (fun t' w' _ q hqq => absurd hqq (Nat.not_lt_zero _))
    · intro J hf hp hz1 hz2
      have hqJ : tq J ρ2 tk := hq.kept hf (by decide) rfl
      have hNJ : nmR J ρ2 N := hN.kept hf (by decide) (by decide) rfl
      have h19J : J mM 19 = nI s := (hf.2 19 (by decide)).trans h19
      have hDJ : J m_callers s = nI D := by rw [hf.1 m_callers (by decide) (by decide)]; exact hD
      refine wp_iload2 201 rfl dX10_tellOne_200 ?_
      refine wp_iconst (nI 4) 202 rfl dX10_tellOne_201 (by decide) ?_
      refine wp_icmp_ge 205 244 rfl rfl dX10_tellOne_202 (fun c202 => ?_) (fun c202 => absurd (by decide) c202)
      refine wp_aload0 245 rfl dX10_tellOne_244 ?_
      refine wp_iload1 246 rfl dX10_tellOne_245 ?_
      refine wp_bipush (nI 10) 248 rfl dX10_tellOne_246 (by decide) ?_
      refine wp_aload0 249 rfl dX10_tellOne_248 ?_
      refine wp_getr 252 rfl dX10_tellOne_249 fX10_52_10 (md_M hm) (mp_callers hm) ?_
      refine wp_aload0 253 rfl dX10_tellOne_252 ?_
      refine wp_geti 256 rfl dX10_tellOne_253 fX10_236_10 (md_M hm) ?_
      refine wp_iald 257 rfl dX10_tellOne_256 (ms_callers hm) (s) (h19J) (⟨by omega, by decide⟩) ?_
      rw [hDJ]
      refine wp_iadd 258 rfl dX10_tellOne_257 ?_
      rw [nI_add]
      refine wp_Vv2 261 rfl dX10_tellOne_258 kX10_endsName lX10_272 (md_M hm) (nl rfl) (nl rfl) (s_endsName hm tk hw hqJ _ hp N hNJ hl11 (t + 1) (10 + D) (by have := p1.1.1; omega) (by omega) (fun t' w' e => by have := t2e 4 t' w' e; omega)) (fun J4 ρ4 hq4 => ?_)
      obtain ⟨ky4, f4, p4, o4⟩ := hq4
      have hm4 := ky4.mdl hm
      have F4 : mf [m_faceOf, m_nameAt, m_callers] [11, 13, 14, 15, 16, 20] I J4 := (hf.wk (by decide) (by decide)).tr (f4.wk (by decide) (by decide))
      have Z4 : ∀ j, J4 m_faceOf j = J m_faceOf j := fun j => by rw [f4.1 m_faceOf (by decide) (by decide)]
      have C4 : J4 m_callers = I m_callers := by rw [f4.1 m_callers (by decide) (by decide), hf.1 m_callers (by decide) (by decide)]
      have h194 : J4 mM 19 = nI s := (F4.2 19 (by decide)).trans h19
      have Y4 : ∀ j, (j < 20 * s + 4 * D ∨ 20 * s + 20 ≤ j) → J4 m_faceOf j = I m_faceOf j := fun j hj => (Z4 j).trans (hz1 j (by omega))
      clear hm
      have hm := hm4
      refine wp_aload0 262 rfl dX10_tellOne_261 ?_
      refine wp_geti 265 rfl dX10_tellOne_262 fX10_203_10 (md_M hm) ?_
      generalize hg4 : g_must tk 4 (g_face tk 4 r2) = r9 at p4 o4 kk
      cases r9 with
      | inl y =>
        obtain ⟨m, j⟩ := y
        have hm12 := p4.1
        rw [p4.2.1]
        refine wp_if_ne 268 425 rfl rfl dX10_tellOne_265 (fun c265 => ?_) (fun c265 => absurd c265 (nI_ne0 (by omega) (by omega)))
        refine wp_vret dX10_tellOne_425 rfl ?_
        exact kk J4 ρ4 ky4 F4 p4 Y4 (fun j _ => by rw [C4]) (fun t' w' e => by cases e)
      | inr y =>
        obtain ⟨t', w'⟩ := y
        rw [p4.2.1]
        obtain ⟨t5, e5, k5, q5, n5⟩ := g_must_inv hg4
        refine wp_if_ne 268 425 rfl rfl dX10_tellOne_265 (fun c265 => absurd (rfl) c265) (fun c265 => ?_)
        refine wp_aload0 269 rfl dX10_tellOne_268 ?_
        refine wp_getr 272 rfl dX10_tellOne_269 fX10_52_10 (md_M hm) (mp_callers hm) ?_
        refine wp_aload0 273 rfl dX10_tellOne_272 ?_
        refine wp_geti 276 rfl dX10_tellOne_273 fX10_236_10 (md_M hm) ?_
        refine wp_dup2 277 rfl dX10_tellOne_276 rfl rfl ?_
        refine wp_iald 278 rfl dX10_tellOne_277 (ms_callers hm) (s) (h194) (⟨by omega, by decide⟩) ?_
        rw [C4, hD]
        refine wp_iconst (nI 1) 279 rfl dX10_tellOne_278 (by decide) ?_
        refine wp_iadd 280 rfl dX10_tellOne_279 ?_
        rw [nI_add]
        refine wp_iast 281 rfl dX10_tellOne_280 (ms_callers hm) (s) (h194) (⟨by omega, by decide⟩) ?_
        refine wp_goto 425 rfl dX10_tellOne_281 ?_
        refine wp_vret dX10_tellOne_425 rfl ?_
        have g5 : mf [m_callers] [] J4 (sm_u J4 m_callers s (nI (D + 1))) := mf.u (by decide) (by decide)
        refine kk _ ρ4 ky4 (F4.tr (g5.wk (by decide) (by decide))) (p4.kept g5 (by decide)) (fun j hj => ?_) (fun j hj => ?_) (fun t'' w'' e => ⟨?_, fun p hp => ?_, ?_⟩)
        · rw [g5.1 m_faceOf (by decide) (by decide)]
          exact Y4 j hj
        · rw [sm_u_eq, pk_un hj, C4]
        · rw [sm_u_eq, pk_us]
        · rw [g5.1 m_faceOf (by decide) (by decide), Z4, ← hx]
          exact hz2 t5 w' e5 p hp
        · exact (o4 t' w' rfl).kept g5 (by decide) (by decide) rfl
    · intro J hf hp hz1 hz2
      have hqJ : tq J ρ2 tk := hq.kept hf (by decide) rfl
      have h19J : J mM 19 = nI s := (hf.2 19 (by decide)).trans h19
      have hDJ : J m_callers s = nI D := by rw [hf.1 m_callers (by decide) (by decide)]; exact hD
      refine wp_iload2 201 rfl dX10_tellOne_200 ?_
      refine wp_iconst (nI 4) 202 rfl dX10_tellOne_201 (by decide) ?_
      refine wp_icmp_ge 205 244 rfl rfl dX10_tellOne_202 (fun c202 => absurd c202 (nI_ge hp4 (by decide))) (fun c202 => ?_)
      refine wp_aload0 206 rfl dX10_tellOne_205 ?_
      refine wp_getr 209 rfl dX10_tellOne_206 fX10_55_10 (md_M hm) (mp_faceOf hm) ?_
      refine wp_bipush (nI 20) 211 rfl dX10_tellOne_209 (by decide) ?_
      refine wp_aload0 212 rfl dX10_tellOne_211 ?_
      refine wp_geti 215 rfl dX10_tellOne_212 fX10_236_10 (md_M hm) ?_
      rw [h19J]
      refine wp_imul 216 rfl dX10_tellOne_215 ?_
      refine wp_iconst (nI 4) 217 rfl dX10_tellOne_216 (by decide) ?_
      refine wp_aload0 218 rfl dX10_tellOne_217 ?_
      refine wp_getr 221 rfl dX10_tellOne_218 fX10_52_10 (md_M hm) (mp_callers hm) ?_
      refine wp_aload0 222 rfl dX10_tellOne_221 ?_
      refine wp_geti 225 rfl dX10_tellOne_222 fX10_236_10 (md_M hm) ?_
      refine wp_iald 226 rfl dX10_tellOne_225 (ms_callers hm) (s) (h19J) (⟨by omega, by decide⟩) ?_
      rw [hDJ]
      refine wp_imul 227 rfl dX10_tellOne_226 ?_
      refine wp_iadd 228 rfl dX10_tellOne_227 ?_
      refine wp_iload2 229 rfl dX10_tellOne_228 ?_
      refine wp_iadd 230 rfl dX10_tellOne_229 ?_
      refine wp_aload0 231 rfl dX10_tellOne_230 ?_
      refine wp_iconst (nI 0) 232 rfl dX10_tellOne_231 (by decide) ?_
      refine wp_bipush (nI 99) 234 rfl dX10_tellOne_232 (by decide) ?_
      refine wp_Vi2 237 rfl dX10_tellOne_234 kX10_bounded lX10_257 (md_M hm) (nl rfl) (nl rfl) (s_bounded hm tk hqJ hw _ hp 0 99 (by decide) (by decide)) (fun v J3 ρ3 hq3 => ?_)
      obtain ⟨rfl, f3, p3, rfl⟩ := hq3
      have Z3 : J3 m_faceOf = J m_faceOf := f3.1 m_faceOf (by decide) (by decide)
      refine wp_iast 238 rfl dX10_tellOne_237 (ms_faceOf hm) (x + p) (by rw [hx]; simp only [pk_mul, nI_add]) (⟨by omega, by decide⟩) ?_
      refine wp_iincN2 241 rfl dX10_tellOne_238 (by decide) rfl ?_
      refine wp_goto 200 rfl dX10_tellOne_241 ?_
      have g3 : mf [m_faceOf] [] J3 (sm_u J3 m_faceOf (x + p) (nI (g_nv tk 0 (g_face tk p r2)))) := mf.u (by decide) (by decide)
      refine ih _ ((hf.tr (f3.wk (by decide) (by decide))).tr (g3.wk (by decide) (by decide))) (p3.kept g3 (by decide)) (fun j hj => ?_) (fun t' w' e q hqq => ?_)
      · rw [sm_u_off (by omega), Z3]
        exact hz1 j (by omega)
      · have e : g_num tk 0 99 (g_face tk p r2) = .inr (t', w') := e
        obtain ⟨t6, w6, e6, k6, q6, n6, z6, v6⟩ := g_num_inv e
        by_cases hqp : q = p
        · rw [hqp, sm_u_eq, pk_us, v6, t2e p t6 w6 e6]
        · rw [sm_u_off (by omega), Z3]
          exact hz2 t6 w6 e6 q (by omega)
end M42
