/-! ===== reading: wrong, bounded, roomFor, toldInt ===== -/
set_option maxRecDepth 100000
def g_wrong (n j : Nat) : pR → pR
  | .inl e => .inl e
  | .inr (t, w) => .inr (t, g_tell w n j)
def g_num (tk : tkf) (lo hi : Nat) : pR → pR
  | .inl e => .inl e
  | .inr (t, w) => if (tk t).1 = 2 then g_pass (.inr (t, if (tk t).2.2.1 < lo ∨ hi < (tk t).2.2.1 then g_tell w 5 t else w)) else .inl (1, t)
def g_nv (tk : tkf) (lo : Nat) : pR → Nat
  | .inl _ => lo
  | .inr (t, _) => if (tk t).1 = 2 then (tk t).2.2.1 else lo
def g_room (has most : Nat) (r : pR) : pR := g_pass (if has = most then g_fail 2 r else r)
section M28
variable {G : sm_G} {d : Nat} {I : sm_I} {ρ : sm_R}
theorem s_wrong (hm : md ρ) (tk : tkf) (hq : tq I ρ tk) (hw : tw tk) (r : pR) (hr : prs I tk r) (n j : Nat) (hn : 3 ≤ n ∧ n ≤ 5) (hj : j ≤ 400) (hjt : ∀ t w, r = .inr (t, w) → j ≤ t) : sm_M G xX10_wrong d [.ref mM, .int (nI n), .int (nI j)] I ρ (sm_Qv (fun I1 ρ1 => ρ1 = ρ ∧ mf [] mPF I I1 ∧ prs I1 tk (g_wrong n j r))) := by
  show sm_V G xX10_wrong d 0 [.ref mM, .int (nI n), .int (nI j), .retAddr 0] [] I ρ _
  cases r with
  | inl e =>
    obtain ⟨m, q⟩ := e
    have h12 := hr.1
    refine wp_aload0 1 rfl dX10_wrong_0 ?_
    refine wp_getr 4 rfl dX10_wrong_1 fX10_24_10 (md_M hm) (mp_tPlace hm) ?_
    refine wp_iload2 5 rfl dX10_wrong_4 ?_
    refine wp_iald 6 rfl dX10_wrong_5 (ms_tPlace hm) (j) (by first | rfl | simp only [pk_mul, nI_add]) (⟨by omega, by decide⟩) ?_
    refine wp_istore3 7 rfl dX10_wrong_6 (by decide) rfl ?_
    refine wp_aload0 8 rfl dX10_wrong_7 ?_
    refine wp_geti 11 rfl dX10_wrong_8 fX10_203_10 (md_M hm) ?_
    rw [hr.2.1]
    refine wp_if_gt 14 45 rfl rfl dX10_wrong_11 (fun c11 => ?_) (fun c11 => absurd (show nI 0 < nI m from nI_lt (by omega) (by omega)) c11)
    refine wp_vret dX10_wrong_45 rfl ?_
    exact ⟨rfl, rfl, mf.rf, hr⟩
  | inr e =>
    obtain ⟨t, w⟩ := e
    have hr0 := hr
    obtain ⟨⟨p1, p2, p3, p4⟩, h13, h11, h15, h16⟩ := hr
    have hjt := hjt t w rfl
    have hne : ∀ q, q < j → ¬ (tk q).1 = 0 := fun q h => p2 q (by omega)
    obtain ⟨-, q2, -⟩ := hq j hj hne
    have b1 := (hw.1 j).2.1
    have b2 := (hw.1 w.2).2.1
    have mono : ∀ a b, a ≤ t → b ≤ t → ((tk a).2.1 < (tk b).2.1 ↔ a < b) := fun a b ha hb => by
      constructor
      · intro h
        rcases Nat.lt_trichotomy a b with g | g | g
        · exact g
        · rw [g] at h; omega
        · have := hw.2 b a g (fun q hq => p2 q (by omega)); omega
      · intro g
        exact hw.2 a b g (fun q hq => p2 q (by omega))
    have m1 := mono w.2 j p4 hjt
    have m2 := mono j w.2 hjt p4
    have set : ∀ v, sm_V G xX10_wrong d 46 [.ref mM, .int (nI n), v, .int (nI (tk j).2.1)] [] I ρ (sm_Qv (fun I1 ρ1 => ρ1 = ρ ∧ mf [] mPF I I1 ∧ prs I1 tk (.inr (t, n, j)))) := by
      intro v
      refine wp_aload0 47 rfl dX10_wrong_46 ?_
      refine wp_iload1 48 rfl dX10_wrong_47 ?_
      refine wp_puti 51 rfl dX10_wrong_48 pX10_212_10 (md_M hm) ⟨rfl, rfl⟩ ?_
      refine wp_aload0 52 rfl dX10_wrong_51 ?_
      refine wp_iload3 53 rfl dX10_wrong_52 ?_
      refine wp_puti 56 rfl dX10_wrong_53 pX10_215_10 (md_M hm) ⟨rfl, rfl⟩ ?_
      refine wp_vret dX10_wrong_56 rfl ?_
      exact ⟨rfl, rfl, (mf.uM (by decide)).tr (mf.uM (by decide)), ⟨p1, p2, by omega, hjt⟩, h13, h11, rfl, fun _ => rfl⟩
    show sm_V G xX10_wrong d 0 [.ref mM, .int (nI n), .int (nI j), .retAddr 0] [] I ρ (sm_Qv (fun I1 ρ1 => ρ1 = ρ ∧ mf [] mPF I I1 ∧ prs I1 tk (.inr (t, if ¬ w.1 = 0 ∧ (w.2 < j ∨ j = w.2 ∧ w.1 ≤ n) then w else (n, j)))))
    have keep : ∀ v, sm_V G xX10_wrong d 45 [.ref mM, .int (nI n), v, .int (nI (tk j).2.1)] [] I ρ (sm_Qv (fun I1 ρ1 => ρ1 = ρ ∧ mf [] mPF I I1 ∧ prs I1 tk (.inr (t, w)))) := by
      intro v
      refine wp_vret dX10_wrong_45 rfl ?_
      exact ⟨rfl, rfl, mf.rf, hr0⟩
    refine wp_aload0 1 rfl dX10_wrong_0 ?_
    refine wp_getr 4 rfl dX10_wrong_1 fX10_24_10 (md_M hm) (mp_tPlace hm) ?_
    refine wp_iload2 5 rfl dX10_wrong_4 ?_
    refine wp_iald 6 rfl dX10_wrong_5 (ms_tPlace hm) (j) (by first | rfl | simp only [pk_mul, nI_add]) (⟨by omega, by decide⟩) ?_
    rw [q2]
    refine wp_istore3 7 rfl dX10_wrong_6 (by decide) rfl ?_
    refine wp_aload0 8 rfl dX10_wrong_7 ?_
    refine wp_geti 11 rfl dX10_wrong_8 fX10_203_10 (md_M hm) ?_
    rw [h13]
    refine wp_if_gt 14 45 rfl rfl dX10_wrong_11 (fun c11 => absurd c11 (by decide)) (fun c11 => ?_)
    refine wp_aload0 15 rfl dX10_wrong_14 ?_
    refine wp_geti 18 rfl dX10_wrong_15 fX10_212_10 (md_M hm) ?_
    rw [h15]
    by_cases hw0 : w.1 = 0
    · rw [if_neg (fun h => h.1 hw0), hw0]
      refine wp_if_eq 21 46 rfl rfl dX10_wrong_18 (fun c18 => ?_) (fun c18 => absurd (rfl) c18)
      exact set _
    · have h16 := h16 hw0
      refine wp_if_eq 21 46 rfl rfl dX10_wrong_18 (fun c18 => absurd c18 (nI_ne0 (by omega) (by omega))) (fun c18 => ?_)
      refine wp_iload3 22 rfl dX10_wrong_21 ?_
      refine wp_aload0 23 rfl dX10_wrong_22 ?_
      refine wp_geti 26 rfl dX10_wrong_23 fX10_215_10 (md_M hm) ?_
      rw [h16]
      by_cases hlt : w.2 < j
      · rw [if_pos ⟨hw0, Or.inl hlt⟩]
        refine wp_icmp_gt 29 45 rfl rfl dX10_wrong_26 (fun c26 => ?_) (fun c26 => absurd (nI_lt (m1.mpr hlt) (by omega)) c26)
        exact keep _
      · refine wp_icmp_gt 29 45 rfl rfl dX10_wrong_26 (fun c26 => absurd c26 (nI_nlt (Nat.le_of_not_lt (fun h => hlt (m1.mp h))) (by omega))) (fun c26 => ?_)
        refine wp_iload3 30 rfl dX10_wrong_29 ?_
        refine wp_aload0 31 rfl dX10_wrong_30 ?_
        refine wp_geti 34 rfl dX10_wrong_31 fX10_215_10 (md_M hm) ?_
        rw [h16]
        by_cases hje : j = w.2
        · have hpe : (tk j).2.1 = (tk w.2).2.1 := by rw [hje]
          refine wp_icmp_ne 37 46 rfl rfl dX10_wrong_34 (fun c34 => absurd (by rw [hpe]) c34) (fun c34 => ?_)
          refine wp_iload1 38 rfl dX10_wrong_37 ?_
          refine wp_aload0 39 rfl dX10_wrong_38 ?_
          refine wp_geti 42 rfl dX10_wrong_39 fX10_212_10 (md_M hm) ?_
          rw [h15]
          by_cases hle : w.1 ≤ n
          · rw [if_pos ⟨hw0, Or.inr ⟨hje, hle⟩⟩]
            refine wp_icmp_lt 45 46 rfl rfl dX10_wrong_42 (fun c42 => absurd c42 (nI_nlt hle (by omega))) (fun c42 => ?_)
            exact keep _
          · rw [if_neg (fun h => h.2.elim hlt (fun g => hle g.2))]
            refine wp_icmp_lt 45 46 rfl rfl dX10_wrong_42 (fun c42 => ?_) (fun c42 => absurd (nI_lt (by omega) (by omega)) c42)
            exact set _
        · rw [if_neg (fun h => h.2.elim hlt (fun g => hje g.1))]
          have hpl : (tk j).2.1 < (tk w.2).2.1 := m2.mpr (by omega)
          refine wp_icmp_ne 37 46 rfl rfl dX10_wrong_34 (fun c34 => ?_) (fun c34 => absurd c34 (fun h => by have := (nI_eq (by omega) (by omega)).mp h; omega))
          exact set _
theorem s_bounded (hm : md ρ) (tk : tkf) (hq : tq I ρ tk) (hw : tw tk) (r : pR) (hr : prs I tk r) (lo hi : Nat) (hlo : lo < 10000) (hhi : hi < 10000) : sm_M G xX10_bounded (d + 2) [.ref mM, .int (nI lo), .int (nI hi)] I ρ (sm_Qi (fun v I1 ρ1 => ρ1 = ρ ∧ mf [] mPF I I1 ∧ prs I1 tk (g_num tk lo hi r) ∧ v = nI (g_nv tk lo r))) := by
  show sm_V G xX10_bounded (d + 2) 0 [.ref mM, .int (nI lo), .int (nI hi), .retAddr 0] [] I ρ _
  have bad : (∀ t w, r = .inr (t, w) → ¬ (tk t).1 = 2) → sm_V G xX10_bounded (d + 2) 15 [.ref mM, .int (nI lo), .int (nI hi), .retAddr 0] [] I ρ (sm_Qi (fun v I1 ρ1 => ρ1 = ρ ∧ mf [] mPF I I1 ∧ prs I1 tk (g_num tk lo hi r) ∧ v = nI (g_nv tk lo r))) := by
    intro hb
    refine wp_aload0 16 rfl dX10_bounded_15 ?_
    refine wp_iconst (nI 1) 17 rfl dX10_bounded_16 (by decide) ?_
    refine wp_Vv1 20 rfl dX10_bounded_17 kX10_fail lX10_218 (md_M hm) (nl rfl) (nl rfl) (s_fail hm tk hq r hr 1 (Or.inl rfl)) (fun J ρ1 hq1 => ?_)
    obtain ⟨rfl, hf, hp⟩ := hq1
    refine wp_iload1 21 rfl dX10_bounded_20 ?_
    refine wp_iret dX10_bounded_21 rfl ?_
    cases r with
    | inl e => exact ⟨_, rfl, rfl, hf, hp, rfl⟩
    | inr e =>
      obtain ⟨t, w⟩ := e
      have h2 := hb t w rfl
      refine ⟨_, rfl, rfl, hf, ?_, ?_⟩
      · show prs J tk (if (tk t).1 = 2 then g_pass (.inr (t, if (tk t).2.2.1 < lo ∨ hi < (tk t).2.2.1 then g_tell w 5 t else w)) else .inl (1, t))
        rw [if_neg h2]
        exact hp
      · show _ = nI (if (tk t).1 = 2 then (tk t).2.2.1 else lo)
        rw [if_neg h2]
  cases r with
  | inl e =>
    obtain ⟨m, q⟩ := e
    have h12 := hr.1
    refine wp_aload0 1 rfl dX10_bounded_0 ?_
    refine wp_geti 4 rfl dX10_bounded_1 fX10_203_10 (md_M hm) ?_
    rw [hr.2.1]
    refine wp_if_gt 7 15 rfl rfl dX10_bounded_4 (fun c4 => ?_) (fun c4 => absurd (show nI 0 < nI m from nI_lt (by omega) (by omega)) c4)
    exact bad (fun t w e => by cases e)
  | inr e =>
    obtain ⟨t, w⟩ := e
    have hr0 := hr
    obtain ⟨⟨p1, p2, p3, p4⟩, h13, h11, h15, h16⟩ := hr
    obtain ⟨-, -, q3, -⟩ := hq t p1 p2
    have b3 := (hw.1 t).2.2.1
    refine wp_aload0 1 rfl dX10_bounded_0 ?_
    refine wp_geti 4 rfl dX10_bounded_1 fX10_203_10 (md_M hm) ?_
    rw [h13]
    refine wp_if_gt 7 15 rfl rfl dX10_bounded_4 (fun c4 => absurd c4 (by decide)) (fun c4 => ?_)
    refine wp_aload0 8 rfl dX10_bounded_7 ?_
    refine wp_iconst (nI 2) 9 rfl dX10_bounded_8 (by decide) ?_
    refine wp_Vi1 12 rfl dX10_bounded_9 kX10_is lX10_221 (md_M hm) (nl rfl) (nl rfl) (s_is hm tk hq hw _ hr0 2 (by decide)) (fun v J ρ1 hq1 => ?_)
    obtain ⟨rfl, rfl, h01, hv⟩ := hq1
    by_cases h2 : (tk t).1 = 2
    · have e1 := hv.mpr h2
      rw [e1]
      refine wp_if_ne 15 22 rfl rfl dX10_bounded_12 (fun c12 => ?_) (fun c12 => absurd c12 (by decide))
      refine wp_aload0 23 rfl dX10_bounded_22 ?_
      refine wp_getr 26 rfl dX10_bounded_23 fX10_27_10 (md_M hm) (mp_tValue hm) ?_
      refine wp_aload0 27 rfl dX10_bounded_26 ?_
      refine wp_geti 30 rfl dX10_bounded_27 fX10_206_10 (md_M hm) ?_
      refine wp_iald 31 rfl dX10_bounded_30 (ms_tValue hm) (t) (h11) (⟨by omega, by decide⟩) ?_
      rw [q3]
      refine wp_istore3 32 rfl dX10_bounded_31 (by decide) rfl ?_
      have fin : ∀ (K : sm_I) (w' : Nat × Nat), mf [] mPF J K → prs K tk (.inr (t, w')) → w' = (if (tk t).2.2.1 < lo ∨ hi < (tk t).2.2.1 then g_tell w 5 t else w) → sm_V G xX10_bounded (d + 2) 51 [.ref mM, .int (nI lo), .int (nI hi), .int (nI (tk t).2.2.1)] [] K ρ1 (sm_Qi (fun v I1 ρ => ρ = ρ1 ∧ mf [] mPF J I1 ∧ prs I1 tk (g_num tk lo hi (.inr (t, w))) ∧ v = nI (g_nv tk lo (.inr (t, w))))) := by
        intro K w' hf hp hw'
        have hqK : tq K ρ1 tk := hq.kept hf (by decide) rfl
        refine wp_aload0 52 rfl dX10_bounded_51 ?_
        refine wp_Vv0 55 rfl dX10_bounded_52 kX10_goesOn lX10_224 (md_M hm) (nl rfl) (nl rfl) (s_goesOn hm tk hqK _ hp (fun t' w'' e => by cases e; omega)) (fun K2 ρ2 hq2 => ?_)
        obtain ⟨rfl, hf2, hp2⟩ := hq2
        refine wp_iload3 56 rfl dX10_bounded_55 ?_
        refine wp_iret dX10_bounded_56 rfl ?_
        refine ⟨_, rfl, rfl, hf.tr hf2, ?_, ?_⟩
        · show prs K2 tk (if (tk t).1 = 2 then g_pass (.inr (t, if (tk t).2.2.1 < lo ∨ hi < (tk t).2.2.1 then g_tell w 5 t else w)) else .inl (1, t))
          rw [if_pos h2, ← hw']
          exact hp2
        · show _ = nI (if (tk t).1 = 2 then (tk t).2.2.1 else lo)
          rw [if_pos h2]
      have out : ((tk t).2.2.1 < lo ∨ hi < (tk t).2.2.1) → sm_V G xX10_bounded (d + 2) 42 [.ref mM, .int (nI lo), .int (nI hi), .int (nI (tk t).2.2.1)] [] J ρ1 (sm_Qi (fun v I1 ρ => ρ = ρ1 ∧ mf [] mPF J I1 ∧ prs I1 tk (g_num tk lo hi (.inr (t, w))) ∧ v = nI (g_nv tk lo (.inr (t, w))))) := by
        intro ho
        refine wp_aload0 43 rfl dX10_bounded_42 ?_
        refine wp_iconst (nI 5) 44 rfl dX10_bounded_43 (by decide) ?_
        refine wp_aload0 45 rfl dX10_bounded_44 ?_
        refine wp_geti 48 rfl dX10_bounded_45 fX10_206_10 (md_M hm) ?_
        rw [h11]
        refine wp_Vv2 51 rfl dX10_bounded_48 kX10_wrong lX10_284 (md_M hm) (nl rfl) (nl rfl) (s_wrong hm tk hq hw _ hr0 5 t (by decide) p1 (fun t' w' e => by cases e; exact Nat.le_refl _)) (fun K ρ2 hq2 => ?_)
        obtain ⟨rfl, hf, hp⟩ := hq2
        exact fin K _ hf hp (if_pos ho).symm
      by_cases hl : (tk t).2.2.1 < lo
      · refine wp_iload3 33 rfl dX10_bounded_32 ?_
        refine wp_iload1 34 rfl dX10_bounded_33 ?_
        refine wp_icmp_lt 37 42 rfl rfl dX10_bounded_34 (fun c34 => ?_) (fun c34 => absurd (nI_lt hl (by omega)) c34)
        exact out (Or.inl hl)
      · by_cases hh : hi < (tk t).2.2.1
        · refine wp_iload3 33 rfl dX10_bounded_32 ?_
          refine wp_iload1 34 rfl dX10_bounded_33 ?_
          refine wp_icmp_lt 37 42 rfl rfl dX10_bounded_34 (fun c34 => absurd c34 (nI_nlt (by omega) (by omega))) (fun c34 => ?_)
          refine wp_iload3 38 rfl dX10_bounded_37 ?_
          refine wp_iload2 39 rfl dX10_bounded_38 ?_
          refine wp_icmp_le 42 51 rfl rfl dX10_bounded_39 (fun c39 => absurd c39 (nI_ge hh (by omega))) (fun c39 => ?_)
          exact out (Or.inr hh)
        · refine wp_iload3 33 rfl dX10_bounded_32 ?_
          refine wp_iload1 34 rfl dX10_bounded_33 ?_
          refine wp_icmp_lt 37 42 rfl rfl dX10_bounded_34 (fun c34 => absurd c34 (nI_nlt (by omega) (by omega))) (fun c34 => ?_)
          refine wp_iload3 38 rfl dX10_bounded_37 ?_
          refine wp_iload2 39 rfl dX10_bounded_38 ?_
          refine wp_icmp_le 42 51 rfl rfl dX10_bounded_39 (fun c39 => ?_) (fun c39 => absurd (nI_le (by omega) (by omega)) c39)
          exact fin J w mf.rf hr0 (if_neg (fun h => h.elim hl hh)).symm
    · have e0 : v = nI 0 := h01.resolve_right (fun h => h2 (hv.mp h))
      rw [e0]
      refine wp_if_ne 15 22 rfl rfl dX10_bounded_12 (fun c12 => absurd (rfl) c12) (fun c12 => ?_)
      exact bad (fun t' w' e => by cases e; exact h2)
theorem s_roomFor (hm : md ρ) (tk : tkf) (hq : tq I ρ tk) (r : pR) (hr : prs I tk r) (h0 : ∀ t w, r = .inr (t, w) → ¬ (tk t).1 = 0) (a b : Nat) (ha : a < 1000) (hb : b < 1000) : sm_M G xX10_roomFor (d + 2) [.ref mM, .int (nI a), .int (nI b)] I ρ (sm_Qv (fun I1 ρ1 => ρ1 = ρ ∧ mf [] mPF I I1 ∧ prs I1 tk (g_room a b r))) := by
  show sm_V G xX10_roomFor (d + 2) 0 [.ref mM, .int (nI a), .int (nI b)] [] I ρ _
  have go : ∀ (J : sm_I) (s : pR), mf [] mPF I J → prs J tk s → (∀ t w, s = .inr (t, w) → ¬ (tk t).1 = 0) → g_room a b r = g_pass s → sm_V G xX10_roomFor (d + 2) 10 [.ref mM, .int (nI a), .int (nI b)] [] J ρ (sm_Qv (fun I1 ρ1 => ρ1 = ρ ∧ mf [] mPF I I1 ∧ prs I1 tk (g_room a b r))) := by
    intro J s hf hp hs e
    have hqJ : tq J ρ tk := hq.kept hf (by decide) rfl
    rw [e]
    cases s with
    | inl q =>
      obtain ⟨m, j⟩ := q
      have h12 := hp.1
      refine wp_aload0 11 rfl dX10_roomFor_10 ?_
      refine wp_geti 14 rfl dX10_roomFor_11 fX10_203_10 (md_M hm) ?_
      rw [hp.2.1]
      refine wp_if_ne 17 21 rfl rfl dX10_roomFor_14 (fun c14 => ?_) (fun c14 => absurd c14 (nI_ne0 (by omega) (by omega)))
      refine wp_vret dX10_roomFor_21 rfl ?_
      exact ⟨rfl, rfl, hf, hp⟩
    | inr q =>
      obtain ⟨t, w⟩ := q
      refine wp_aload0 11 rfl dX10_roomFor_10 ?_
      refine wp_geti 14 rfl dX10_roomFor_11 fX10_203_10 (md_M hm) ?_
      rw [hp.2.1]
      refine wp_if_ne 17 21 rfl rfl dX10_roomFor_14 (fun c14 => absurd (rfl) c14) (fun c14 => ?_)
      refine wp_aload0 18 rfl dX10_roomFor_17 ?_
      refine wp_Vv0 21 rfl dX10_roomFor_18 kX10_goesOn lX10_224 (md_M hm) (nl rfl) (nl rfl) (s_goesOn hm tk hqJ _ hp hs) (fun K ρ2 hq2 => ?_)
      obtain ⟨rfl, hf2, hp2⟩ := hq2
      refine wp_vret dX10_roomFor_21 rfl ?_
      exact ⟨rfl, rfl, hf.tr hf2, hp2⟩
  by_cases hab : a = b
  · refine wp_iload1 1 rfl dX10_roomFor_0 ?_
    refine wp_iload2 2 rfl dX10_roomFor_1 ?_
    refine wp_icmp_ne 5 10 rfl rfl dX10_roomFor_2 (fun c2 => absurd (by rw [hab]) c2) (fun c2 => ?_)
    refine wp_aload0 6 rfl dX10_roomFor_5 ?_
    refine wp_iconst (nI 2) 7 rfl dX10_roomFor_6 (by decide) ?_
    refine wp_Vv1 10 rfl dX10_roomFor_7 kX10_fail lX10_218 (md_M hm) (nl rfl) (nl rfl) (s_fail hm tk hq r hr 2 (Or.inr rfl)) (fun J ρ1 hq1 => ?_)
    obtain ⟨rfl, hf, hp⟩ := hq1
    exact go J _ hf hp (fun t w e => by cases r <;> cases e) (by unfold g_room; rw [if_pos hab])
  · refine wp_iload1 1 rfl dX10_roomFor_0 ?_
    refine wp_iload2 2 rfl dX10_roomFor_1 ?_
    refine wp_icmp_ne 5 10 rfl rfl dX10_roomFor_2 (fun c2 => ?_) (fun c2 => absurd c2 (fun h => hab ((nI_eq (by omega) (by omega)).mp h)))
    exact go I r mf.rf hr h0 (by unfold g_room; rw [if_neg hab])
theorem s_toldInt (hm : md ρ) (tk : tkf) (hq : tq I ρ tk) (hw : tw tk) (r : pR) (hr : prs I tk r) (h0 : ∀ t w, r = .inr (t, w) → ¬ (tk t).1 = 0) (lo hi : Nat) (hlo : lo < 10000) (hhi : hi < 10000) : sm_M G xX10_toldInt (d + 3) [.ref mM, .int (nI lo), .int (nI hi)] I ρ (sm_Qi (fun v I1 ρ1 => ρ1 = ρ ∧ mf [] mPF I I1 ∧ prs I1 tk (g_must tk 4 (g_num tk lo hi (g_pass r))) ∧ v = nI (g_nv tk lo (g_pass r)))) := by
  show sm_V G xX10_toldInt (d + 3) 0 [.ref mM, .int (nI lo), .int (nI hi), .retAddr 0] [] I ρ _
  refine wp_aload0 1 rfl dX10_toldInt_0 ?_
  refine wp_Vv0 4 rfl dX10_toldInt_1 kX10_goesOn lX10_224 (md_M hm) (nl rfl) (nl rfl) (s_goesOn hm tk hq r hr h0) (fun J ρ1 hq1 => ?_)
  obtain ⟨rfl, hf, hp⟩ := hq1
  refine wp_aload0 5 rfl dX10_toldInt_4 ?_
  refine wp_iload1 6 rfl dX10_toldInt_5 ?_
  refine wp_iload2 7 rfl dX10_toldInt_6 ?_
  refine wp_Vi2 10 rfl dX10_toldInt_7 kX10_bounded lX10_257 (md_M hm) (nl rfl) (nl rfl) (s_bounded hm tk (hq.kept hf (by decide) rfl) hw _ hp lo hi hlo hhi) (fun v J1 ρ2 hq2 => ?_)
  refine wp_istore3 11 rfl dX10_toldInt_10 (by decide) rfl ?_
  obtain ⟨rfl, hf2, hp2, rfl⟩ := hq2
  refine wp_aload0 12 rfl dX10_toldInt_11 ?_
  refine wp_iconst (nI 4) 13 rfl dX10_toldInt_12 (by decide) ?_
  refine wp_Vv1 16 rfl dX10_toldInt_13 kX10_must lX10_261 (md_M hm) (nl rfl) (nl rfl) (s_must hm tk ((hq.kept hf (by decide) rfl).kept hf2 (by decide) rfl) hw _ hp2 4 (by decide)) (fun J2 ρ3 hq3 => ?_)
  obtain ⟨rfl, hf3, hp3⟩ := hq3
  refine wp_iload3 17 rfl dX10_toldInt_16 ?_
  refine wp_iret dX10_toldInt_17 rfl ?_
  exact ⟨_, rfl, rfl, (hf.tr hf2).tr hf3, hp3, rfl⟩
end M28
