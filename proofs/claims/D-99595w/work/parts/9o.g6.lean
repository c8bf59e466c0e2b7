/-! ===== names as Strings: equals, text, at, has ===== -/
set_option maxRecDepth 100000
/-- a String that is the name of this number -/
def cNm (I : sm_I) (ρ : sm_R) (lo hi s nm : Nat) : Prop := ∃ n c, n ≤ 8 ∧ (∀ j, j < n → ky_L (c j)) ∧ ky_nm c 0 n = nm ∧ cStr I ρ lo hi s n c
theorem cNm.g {A B : Nat → Prop} {I I1 : sm_I} {ρ ρ1 : sm_R} {lo hi hi' s nm : Nat} (h : cNm I ρ lo hi s nm) (f : gF A B I ρ I1 ρ1) (hh : hi ≤ ρ.2.2.2.1 + 64) (h2 : hi ≤ hi') (hA : ∀ x, lo ≤ x → ((ρ.2.2.1 x).1 = 19 ∨ (ρ.2.2.1 x).1 = 101) → ¬ A x) (hB : ∀ x, lo ≤ x → (ρ.2.2.1 x).1 = 19 → ¬ B x) : cNm I1 ρ1 lo hi' s nm := by
  obtain ⟨n, c, h1, h3, h4, h5⟩ := h
  exact ⟨n, c, h1, h3, h4, h5.g f hh h2 hA hB⟩
theorem cNm.wk {I : sm_I} {ρ : sm_R} {lo lo' hi s nm : Nat} (h : cNm I ρ lo hi s nm) (hl : lo' ≤ lo) : cNm I ρ lo' hi s nm := by
  obtain ⟨n, c, h1, h3, h4, h5, h6, h7, b, h8, h9⟩ := h
  exact ⟨n, c, h1, h3, h4, by omega, h6, h7, b, by omega, h9⟩
theorem nar_c : ∀ c : Fin 128, (nI c.val).toUInt32.toUInt16.toUInt32.toInt32 = nI c.val := by decide +kernel
theorem sbS.cg {I : sm_I} {ρ : sm_R} {a n : Nat} {c c' : Nat → Nat} (h : sbS I ρ a n c) (e : ∀ j, j < n → c j = c' j) : sbS I ρ a n c' := by
  obtain ⟨h1, h2, h3, h4, h5, h6⟩ := h
  exact ⟨h1, h2, h3, h4, h5, fun j hj => by rw [← e j hj]; exact h6 j hj⟩
section G6
variable {G : sm_G} {d : Nat} {I : sm_I} {ρ : sm_R} {P : Nat × (Nat → Int32)}
theorem s_eq9 {b1 b2 n m : Nat} {c e : Nat → Nat} (h1 : ρ.2.2.1 b1 = (101, n)) (h2 : ρ.2.2.1 b2 = (101, m)) (hc : ∀ j, j < n → I b1 j = nI (c j) ∧ c j < 128) (he : ∀ j, j < m → I b2 j = nI (e j) ∧ e j < 128) (hn : n < 1000) (hm : m < 1000) : sm_M G xJ9_equals d [.ref b1, .ref b2] I ρ (sm_Qi (fun v I1 ρ1 => ρ1 = ρ ∧ I1 = I ∧ (v = nI 0 ∨ v = nI 1) ∧ (v = nI 1 ↔ n = m ∧ ∀ j, j < n → c j = e j))) := by
  show sm_V G xJ9_equals d 0 [.ref b1, .ref b2, .retAddr 0] [] I ρ _
  by_cases hnm : n = m
  · subst hnm
    refine wp_aload0 1 rfl dJ9_equals_0 ?_
    refine wp_alen (t := 1) 2 rfl dJ9_equals_1 rfl (h1) ?_
    refine wp_aload1 3 rfl dJ9_equals_2 ?_
    refine wp_alen (t := 1) 4 rfl dJ9_equals_3 rfl (h2) ?_
    refine wp_icmp_ne 7 34 rfl rfl dJ9_equals_4 (fun c4 => absurd (rfl) c4) (fun c4 => ?_)
    refine wp_iconst (nI 0) 8 rfl dJ9_equals_7 (by decide) ?_
    refine wp_istore2 9 rfl dJ9_equals_8 (by decide) rfl ?_
    refine sm_for (P := fun q => (∀ j, j < q → c j = e j) → sm_V G xJ9_equals d 9 [.ref b1, .ref b2, .int (nI q)] [] I ρ _) 0 n (Nat.zero_le _) (fun hq => ?_) (fun q _ hq ih hs => ?_) (fun j hj => absurd hj (Nat.not_lt_zero _))
    · refine wp_iload2 10 rfl dJ9_equals_9 ?_
      refine wp_aload0 11 rfl dJ9_equals_10 ?_
      refine wp_alen (t := 1) 12 rfl dJ9_equals_11 rfl (h1) ?_
      refine wp_icmp_ge 15 32 rfl rfl dJ9_equals_12 (fun c12 => ?_) (fun c12 => absurd (Int32.le_refl _) c12)
      refine wp_iconst (nI 1) 33 rfl dJ9_equals_32 (by decide) ?_
      refine wp_zret dJ9_equals_33 rfl (rfl) ?_
      exact ⟨_, rfl, rfl, rfl, Or.inr rfl, fun _ => ⟨rfl, hq⟩, fun _ => rfl⟩
    · obtain ⟨x1, x2⟩ := hc q hq
      obtain ⟨y1, y2⟩ := he q hq
      refine wp_iload2 10 rfl dJ9_equals_9 ?_
      refine wp_aload0 11 rfl dJ9_equals_10 ?_
      refine wp_alen (t := 1) 12 rfl dJ9_equals_11 rfl (h1) ?_
      refine wp_icmp_ge 15 32 rfl rfl dJ9_equals_12 (fun c12 => absurd c12 (nI_ge hq (by omega))) (fun c12 => ?_)
      refine wp_aload0 16 rfl dJ9_equals_15 ?_
      refine wp_iload2 17 rfl dJ9_equals_16 ?_
      refine wp_bald 18 rfl dJ9_equals_17 (h1) (q) (rfl) (⟨hq, by omega⟩) ?_
      rw [x1]
      refine wp_aload1 19 rfl dJ9_equals_18 ?_
      refine wp_iload2 20 rfl dJ9_equals_19 ?_
      refine wp_bald 21 rfl dJ9_equals_20 (h2) (q) (rfl) (⟨hq, by omega⟩) ?_
      rw [y1]
      by_cases z : c q = e q
      · have := ih (fun j hj => by
          by_cases z9 : j = q
          · rw [z9]; exact z
          · exact hs j (by omega))
        rw [z]
        refine wp_icmp_eq 24 26 rfl rfl dJ9_equals_21 (fun c21 => ?_) (fun c21 => absurd (rfl) c21)
        refine wp_iincN2 29 rfl dJ9_equals_26 (by decide) rfl ?_
        refine wp_goto 9 rfl dJ9_equals_29 ?_
        exact this
      · refine wp_icmp_eq 24 26 rfl rfl dJ9_equals_21 (fun c21 => absurd c21 (fun z9 => z ((nI_eq (by omega) (by omega)).mp z9))) (fun c21 => ?_)
        refine wp_iconst (nI 0) 25 rfl dJ9_equals_24 (by decide) ?_
        refine wp_zret dJ9_equals_25 rfl (rfl) ?_
        exact ⟨_, rfl, rfl, rfl, Or.inl rfl, fun z9 => absurd z9 (by decide), fun z9 => absurd (z9.2 q hq) z⟩
  · refine wp_aload0 1 rfl dJ9_equals_0 ?_
    refine wp_alen (t := 1) 2 rfl dJ9_equals_1 rfl (h1) ?_
    refine wp_aload1 3 rfl dJ9_equals_2 ?_
    refine wp_alen (t := 1) 4 rfl dJ9_equals_3 rfl (h2) ?_
    refine wp_icmp_ne 7 34 rfl rfl dJ9_equals_4 (fun c4 => ?_) (fun c4 => absurd c4 (fun z => hnm ((nI_eq (by omega) (by omega)).mp z)))
    refine wp_iconst (nI 0) 35 rfl dJ9_equals_34 (by decide) ?_
    refine wp_zret dJ9_equals_35 rfl (rfl) ?_
    exact ⟨_, rfl, rfl, rfl, Or.inl rfl, fun z9 => absurd z9 (by decide), fun z9 => absurd z9.1 hnm⟩
theorem s_equals {lo hi lo' hi' s1 s2 n1 n2 : Nat} (h1 : cNm I ρ lo hi s1 n1) (h2 : cNm I ρ lo' hi' s2 n2) (hl : 64 ≤ lo) (hl2 : 64 ≤ lo') : sm_M G xJ8_equals (d + 1) [.ref s1, .ref s2] I ρ (sm_Qi (fun v I1 ρ1 => ρ1 = ρ ∧ I1 = I ∧ (v = nI 0 ∨ v = nI 1) ∧ (v = nI 1 ↔ n1 = n2))) := by
  obtain ⟨n, c, g1, g2, g3, ⟨a1, a2⟩, a3, a4, b1, a5, a6, a7, a8⟩ := h1
  obtain ⟨m, e, k1, k2, k3, ⟨c1, c2⟩, c3, c4, b2, c5, c6, c7, c8⟩ := h2
  have key : n1 = n2 ↔ n = m ∧ ∀ j, j < n → c j = e j := by
    rw [← g3, ← k3]
    constructor
    · intro z
      obtain ⟨z1, z2⟩ := ky_nm_inj g1 k1 (fun j hj => by rw [Nat.zero_add]; exact g2 j hj) (fun j hj => by rw [Nat.zero_add]; exact k2 j hj) z
      exact ⟨z1, fun j hj => by have := z2 j hj; rw [Nat.zero_add] at this; exact this⟩
    · rintro ⟨z1, z2⟩
      subst z1
      exact ky_nm_congr (fun j hj => by rw [Nat.zero_add]; exact z2 j hj)
  show sm_V G xJ8_equals (d + 1) 0 [.ref s1, .ref s2, .retAddr 0] [] I ρ _
  refine wp_aload0 1 rfl dJ8_equals_0 ?_
  refine wp_aload1 2 rfl dJ8_equals_1 ?_
  by_cases hs : s1 = s2
  · subst hs
    refine wp_acmpS_ne 5 7 rfl rfl dJ8_equals_2 ?_
    refine wp_iconst (nI 1) 6 rfl dJ8_equals_5 (by decide) ?_
    refine wp_zret dJ8_equals_6 rfl (rfl) ?_
    refine ⟨_, rfl, rfl, rfl, Or.inr rfl, fun _ => key.mpr ?_, fun _ => rfl⟩
    rw [a6] at c6
    cases c6
    rw [a7] at c7
    cases c7
    refine ⟨rfl, fun j hj => ?_⟩
    have := (a8 j hj).symm.trans (c8 j hj)
    have q1 := g2 j hj
    have q2 := k2 j hj
    exact (nI_eq (by omega) (by omega)).mp this
  · refine wp_acmpD_ne 5 7 rfl rfl dJ8_equals_2 (by omega) (by omega) hs ?_
    refine wp_aload1 8 rfl dJ8_equals_7 ?_
    refine wp_inst 11 rfl dJ8_equals_8 caJ8_10_19 (c3) ?_
    refine wp_if_eq 14 54 rfl rfl dJ8_equals_11 (fun c11 => absurd c11 (by decide)) (fun c11 => ?_)
    refine wp_aload1 15 rfl dJ8_equals_14 ?_
    refine wp_cast 18 rfl dJ8_equals_15 caJ8_10_19 (c3) ?_
    refine wp_astore2 19 rfl dJ8_equals_18 (by decide) rfl ?_
    refine wp_gets (v := .int 1) 22 rfl dJ8_equals_19 q624 (fun s h => h.2.2.1) ?_
    refine wp_if_eq 25 36 rfl rfl dJ8_equals_22 (fun c22 => absurd c22 (by decide)) (fun c22 => ?_)
    refine wp_aload0 26 rfl dJ8_equals_25 ?_
    refine wp_geti 29 rfl dJ8_equals_26 fJ8_15_19 (a3) ?_
    rw [a4]
    refine wp_aload2 30 rfl dJ8_equals_29 ?_
    refine wp_geti 33 rfl dJ8_equals_30 fJ8_15_19 (c3) ?_
    rw [c4]
    refine wp_icmp_ne 36 54 rfl rfl dJ8_equals_33 (fun c33 => absurd (rfl) c33) (fun c33 => ?_)
    refine wp_aload0 37 rfl dJ8_equals_36 ?_
    refine wp_getr 40 rfl dJ8_equals_37 fJ8_9_19 (a3) (a6) ?_
    refine wp_aload2 41 rfl dJ8_equals_40 ?_
    refine wp_getr 44 rfl dJ8_equals_41 fJ8_9_19 (c3) (c6) ?_
    refine wp_Si2 47 rfl dJ8_equals_44 kJ9_equals lJ8_541 (nl rfl) (nl rfl) (s_eq9 a7 c7 (fun j hj => ⟨a8 j hj, by have := g2 j hj; omega⟩) (fun j hj => ⟨c8 j hj, by have := k2 j hj; omega⟩) (by omega) (by omega)) (fun v J1 ρ1 hv => ?_)
    obtain ⟨rfl, rfl, hv1, hv2⟩ := hv
    rw [← key] at hv2
    rcases hv1 with e | e
    · rw [e] at hv2 ⊢
      refine wp_if_eq 50 54 rfl rfl dJ8_equals_47 (fun c47 => ?_) (fun c47 => absurd (rfl) c47)
      refine wp_iconst (nI 0) 55 rfl dJ8_equals_54 (by decide) ?_
      refine wp_zret dJ8_equals_55 rfl (rfl) ?_
      exact ⟨_, rfl, rfl, rfl, Or.inl rfl, hv2⟩
    · rw [e] at hv2 ⊢
      refine wp_if_eq 50 54 rfl rfl dJ8_equals_47 (fun c47 => absurd c47 (by decide)) (fun c47 => ?_)
      refine wp_iconst (nI 1) 51 rfl dJ8_equals_50 (by decide) ?_
      refine wp_goto 55 rfl dJ8_equals_51 ?_
      refine wp_zret dJ8_equals_55 rfl (rfl) ?_
      exact ⟨_, rfl, rfl, rfl, Or.inr rfl, hv2⟩
theorem s_ttext (hR : rC I ρ P) {t : Nat} (ht : t ≤ 400) (hg : ∀ j, j < t → cGd (kt P j).1) (h1 : (kt P t).1 = 1) : sm_M G xX2_text (d + 6) [.ref 66, .int (nI t)] I ρ (sm_Qr (fun s I1 ρ1 => gF pNo pNo I ρ I1 ρ1 ∧ (ρ1.2.2.2.1 ≤ ρ.2.2.2.1 + 4 ∧ ρ1.2.2.2.2 ≤ ρ.2.2.2.2 + 32) ∧ cNm I1 ρ1 (ρ.2.2.2.1 + 64) (ρ1.2.2.2.1 + 64) s (kt P t).2.2.2)) := by
  have h8 := hR.2.1
  have hn2 := hR.2.2.1.2.1
  obtain ⟨i1, i2, i3, i4, i5, i6⟩ := kt_name hn2 h1
  show sm_V G xX2_text (d + 6) 0 [.ref 66, .int (nI t), .retAddr 0, .retAddr 0] [] I ρ _
  refine wp_new 3 rfl dX2_text_0 nX2_113 (ρ.2.2.2.1 + 64) (rfl) ?_
  have fN : gF pNo pNo I ρ (sm_zI I (ρ.2.2.2.1 + 64)) (sm_nR ρ 20 0 4) := gF.nw _ _ _
  have sN : (sm_nR ρ 20 0 4).2.2.1 (ρ.2.2.2.1 + 64) = (20, 0) := sm_nR_at
  have zN : (sm_nR ρ 20 0 4).2.2.2.1 = ρ.2.2.2.1 + 1 ∧ (sm_nR ρ 20 0 4).2.2.2.2 = ρ.2.2.2.2 + 4 := ⟨rfl, rfl⟩
  have iN : sm_zI I (ρ.2.2.2.1 + 64) (ρ.2.2.2.1 + 64) = fun _ => 0 := sm_zI_eq _ _
  generalize sm_zI I (ρ.2.2.2.1 + 64) = Jn at *
  generalize sm_nR ρ 20 0 4 = ρn at *
  obtain ⟨zN1, zN2⟩ := zN
  have hRn : rC Jn ρn P := hR.g fN (fun _ _ z => z.elim) (fun _ _ z => z)
  refine wp_dup 4 rfl dX2_text_3 rfl ?_
  refine wp_Iv0 7 rfl dX2_text_4 kJ12_init lX2_115 rfl (nl rfl) (nl rfl) (s_sbinit sN (by omega) iN) (fun J1 ρ1 hx => ?_)
  obtain ⟨⟨x1, x2⟩, f1, hb1⟩ := hx
  have hR1 : rC J1 ρ1 P := hRn.g f1 (fun x hx z => absurd z (by omega)) (fun x hx z => by omega)
  have fI : gF pNo pNo I ρ J1 ρ1 := fN.tr f1 (fun x hx z => absurd z (by omega)) (fun x hx z => absurd z (by omega))
  have hK1 := hR1.1
  obtain ⟨-, c2, c3, -, -⟩ := hR1.2.2.2 t ht hg
  rw [i1] at c2
  refine wp_astore2 8 rfl dX2_text_7 (by decide) rfl ?_
  refine wp_aload0 9 rfl dX2_text_8 ?_
  refine wp_getr 12 rfl dX2_text_9 fX2_66_3 (o3 hK1) (p3_4 hK1) ?_
  refine wp_iload1 13 rfl dX2_text_12 ?_
  refine wp_sald 14 rfl dX2_text_13 (s3_4 hK1) (t) (by first | rfl | simp only [pk_mul, nI_add]) (⟨by omega, by decide⟩) ?_
  rw [c2]
  refine wp_istore3 15 rfl dX2_text_14 (by decide) rfl ?_
  generalize hi : kp P t = i at *
  refine sm_for (P := fun q => ∀ J : sm_I, gF (fun y => y = ρ.2.2.2.1 + 64 ∨ y = ρ.2.2.2.1 + 64 + 1) pNo J1 ρ1 J ρ1 → sbS J ρ1 (ρ.2.2.2.1 + 64) q (fun j => ky_c P.1 P.2 (i + j)) → sm_V G xX2_text (d + 6) 15 [.ref 66, .int (nI t), .ref (ρ.2.2.2.1 + 64), .int (nI (i + q))] [] J ρ1 _) 0 (kn P t - i) (Nat.zero_le _) (fun J fJ hs => ?_) (fun q _ hq ih J fJ hs => ?_) J1 gF.rf (hb1.cg (fun j hj => absurd hj (Nat.not_lt_zero _)))
  · have e71 : J 71 = J1 71 := fJ.eI (by omega) (fun z => by omega)
    rw [← e71] at c3
    refine wp_iload3 16 rfl dX2_text_15 ?_
    refine wp_aload0 17 rfl dX2_text_16 ?_
    refine wp_getr 20 rfl dX2_text_17 fX2_70_3 (o3 hK1) (p3_5 hK1) ?_
    refine wp_iload1 21 rfl dX2_text_20 ?_
    refine wp_sald 22 rfl dX2_text_21 (s3_5 hK1) (t) (by first | rfl | simp only [pk_mul, nI_add]) (⟨by omega, by decide⟩) ?_
    rw [c3]
    refine wp_icmp_ge 25 43 rfl rfl dX2_text_22 (fun c22 => ?_) (fun c22 => absurd (nI_le (by omega) (by omega)) c22)
    refine wp_aload2 44 rfl dX2_text_43 ?_
    refine wp_Vr0 47 rfl dX2_text_44 kJ12_toString lX2_120 (hs.1) (nl rfl) (nl rfl) (s_toString hs (by omega) (fun j hj => by have := i5 (i + j) (by omega) (by omega); omega) (by omega)) (fun s J2 ρ2 h2 => ?_)
    refine wp_aret dX2_text_47 rfl (Or.inl ⟨_, rfl⟩) ?_
    obtain ⟨f2, ⟨y1, y2⟩, hst⟩ := h2
    refine ⟨s, rfl, (fI.tr fJ (fun x hx z => absurd z (by omega)) (fun _ _ z => z)).tr f2 (fun _ _ z => z) (fun _ _ z => z), ⟨by omega, by omega⟩, cNm.wk ⟨_, _, by omega, fun j hj => i5 (i + j) (by omega) (by omega), ?_, hst⟩ (by omega)⟩
    rw [i6]
    exact ky_nm_congr (fun j hj => by rw [Nat.zero_add])
  · have e71 : J 71 = J1 71 := fJ.eI (by omega) (fun z => by omega)
    have e68 : J 68 = J1 68 := fJ.eI (by omega) (fun z => by omega)
    have hl := i5 (i + q) (by omega) (by omega)
    have eb : J 68 (i + q) = nI (ky_c P.1 P.2 (i + q)) := by
      rw [e68]
      exact (hR1.2.2.1.at (by omega)).trans (sb_lt ⟨ky_c P.1 P.2 (i + q), by omega⟩)
    have ec : (nI (ky_c P.1 P.2 (i + q))).toUInt32.toUInt16.toUInt32.toInt32 = nI (ky_c P.1 P.2 (i + q)) := nar_c ⟨ky_c P.1 P.2 (i + q), by omega⟩
    rw [← e71] at c3
    refine wp_iload3 16 rfl dX2_text_15 ?_
    refine wp_aload0 17 rfl dX2_text_16 ?_
    refine wp_getr 20 rfl dX2_text_17 fX2_70_3 (o3 hK1) (p3_5 hK1) ?_
    refine wp_iload1 21 rfl dX2_text_20 ?_
    refine wp_sald 22 rfl dX2_text_21 (s3_5 hK1) (t) (by first | rfl | simp only [pk_mul, nI_add]) (⟨by omega, by decide⟩) ?_
    rw [c3]
    refine wp_icmp_ge 25 43 rfl rfl dX2_text_22 (fun c22 => absurd c22 (nI_ge (by omega) (by omega))) (fun c22 => ?_)
    refine wp_aload2 26 rfl dX2_text_25 ?_
    refine wp_aload0 27 rfl dX2_text_26 ?_
    refine wp_getr 30 rfl dX2_text_27 fX2_59_3 (o3 hK1) (p3_1 hK1) ?_
    refine wp_iload3 31 rfl dX2_text_30 ?_
    refine wp_bald 32 rfl dX2_text_31 (s3_1 hK1) (i + q) (by first | rfl | simp only [pk_mul, nI_add]) (⟨by omega, by decide⟩) ?_
    rw [eb]
    refine wp_i2c 33 rfl dX2_text_32 ?_
    show sm_V G xX2_text (d + 6) 33 _ (.int (nI (ky_c P.1 P.2 (i + q))).toUInt32.toUInt16.toUInt32.toInt32 :: _) J ρ1 _
    rw [ec]
    refine wp_Ve1 36 rfl dX2_text_33 kJ12_append lX2_116 (hs.1) (nl rfl) (nl rfl) (s_append hs (by omega) (by omega)) ?_
    refine wp_pop 37 rfl dX2_text_36 rfl ?_
    refine wp_iincN3 40 rfl dX2_text_37 (by decide) rfl ?_
    refine wp_goto 15 rfl dX2_text_40 ?_
    exact ih _ (fJ.tr M_ap_g (fun _ _ z => z) (fun _ _ z => z)) (hs.ap.cg (fun j hj => by
      show (if j = q then ky_c P.1 P.2 (i + q) else ky_c P.1 P.2 (i + j)) = _
      by_cases z : j = q
      · rw [if_pos z, z]
      · rw [if_neg z]))
/-- where a name stands in a row -/
def nAt (nm : Nat → Nat) (x n : Nat) (v : Int32) : Prop := (∃ i, i < n ∧ nm i = x ∧ (∀ j, j < i → ¬ nm j = x) ∧ v = nI i) ∨ (v = -1 ∧ ∀ j, j < n → ¬ nm j = x)
theorem s_xat {l n kx lo hi lo' hi' s x : Nat} {f st nm : Nat → Nat} (hL : cLs I ρ l n f) (hca : sm_CA RX4 42 kx) (hfl : sm_FL RX4 44 kx 0 2) (hf : ∀ i, i < n → ρ.2.2.1 (f i) = (kx, 0) ∧ ρ.2.1 (f i) 0 = some (st i) ∧ cNm I ρ lo hi (st i) (nm i)) (hs : cNm I ρ lo' hi' s x) (hl : 64 ≤ lo) (hl2 : 64 ≤ lo') : sm_M G xX4_at (d + 3) [.ref l, .ref s] I ρ (sm_Qi (fun v I1 ρ1 => ρ1 = ρ ∧ I1 = I ∧ nAt nm x n v)) := by
  have hn : n ≤ 10 := by
    obtain ⟨-, -, e, m, -, -, h, -⟩ := hL
    exact h
  obtain ⟨ns, cs, w1, w2, w3, ⟨w4, w5⟩, w6, w7⟩ := hs
  show sm_V G xX4_at (d + 3) 0 [.ref l, .ref s, .retAddr 0] [] I ρ _
  refine wp_iconst (nI 0) 1 rfl dX4_at_0 (by decide) ?_
  refine wp_istore2 2 rfl dX4_at_1 (by decide) rfl ?_
  refine sm_for (P := fun q => (∀ j, j < q → ¬ nm j = x) → sm_V G xX4_at (d + 3) 2 [.ref l, .ref s, .int (nI q)] [] I ρ _) 0 n (Nat.zero_le _) (fun hq => ?_) (fun q _ hq ih hno => ?_) (fun j hj => absurd hj (Nat.not_lt_zero _))
  · refine wp_iload2 3 rfl dX4_at_2 ?_
    refine wp_aload0 4 rfl dX4_at_3 ?_
    refine wp_Ve0 7 rfl dX4_at_4 kJ5_size lX4_34 (o18 hL) (nl rfl) (nl rfl) (s_size hL) ?_
    refine wp_icmp_ge 10 36 rfl rfl dX4_at_7 (fun c7 => ?_) (fun c7 => absurd (Int32.le_refl _) c7)
    refine wp_iconst (-1) 37 rfl dX4_at_36 (by decide) ?_
    refine wp_iret dX4_at_37 rfl ?_
    exact ⟨_, rfl, rfl, rfl, Or.inr ⟨rfl, hq⟩⟩
  · obtain ⟨f1, f2, f3⟩ := hf q hq
    obtain ⟨ns2, cs2, v1, v2, v3, ⟨v4, v5⟩, v6, v7⟩ := f3
    have he := s_equals (G := G) (d := d + 1) (I := I) (ρ := ρ) (s1 := st q) (s2 := s) ⟨ns2, cs2, v1, v2, v3, ⟨v4, v5⟩, v6, v7⟩ ⟨ns, cs, w1, w2, w3, ⟨w4, w5⟩, w6, w7⟩ hl hl2
    refine wp_iload2 3 rfl dX4_at_2 ?_
    refine wp_aload0 4 rfl dX4_at_3 ?_
    refine wp_Ve0 7 rfl dX4_at_4 kJ5_size lX4_34 (o18 hL) (nl rfl) (nl rfl) (s_size hL) ?_
    refine wp_icmp_ge 10 36 rfl rfl dX4_at_7 (fun c7 => absurd c7 (nI_ge hq (by omega))) (fun c7 => ?_)
    refine wp_aload0 11 rfl dX4_at_10 ?_
    refine wp_iload2 12 rfl dX4_at_11 ?_
    refine wp_Ve1 15 rfl dX4_at_12 kJ5_get lX4_38 (o18 hL) (nl rfl) (nl rfl) (s_get hL hq) ?_
    refine wp_cast 18 rfl dX4_at_15 hca f1 ?_
    refine wp_getr 21 rfl dX4_at_18 hfl f1 f2 ?_
    refine wp_aload1 22 rfl dX4_at_21 ?_
    refine wp_Vi1 25 rfl dX4_at_22 kJ8_equals lX4_48 (v6) (nl rfl) (nl rfl) (he) (fun v J1 ρ1 hv => ?_)
    obtain ⟨rfl, rfl, hv1, hv2⟩ := hv
    rcases hv1 with e | e
    · rw [e] at hv2 ⊢
      have hne : ¬ nm q = x := fun z => absurd (hv2.mpr z) (by decide)
      refine wp_if_eq 28 30 rfl rfl dX4_at_25 (fun c25 => ?_) (fun c25 => absurd (rfl) c25)
      refine wp_iincN2 33 rfl dX4_at_30 (by decide) rfl ?_
      refine wp_goto 2 rfl dX4_at_33 ?_
      exact ih (fun j hj => by
        by_cases z : j = q
        · rw [z]; exact hne
        · exact hno j (by omega))
    · rw [e] at hv2 ⊢
      refine wp_if_eq 28 30 rfl rfl dX4_at_25 (fun c25 => absurd c25 (by decide)) (fun c25 => ?_)
      refine wp_iload2 29 rfl dX4_at_28 ?_
      refine wp_iret dX4_at_29 rfl ?_
      exact ⟨_, rfl, rfl, rfl, Or.inl ⟨q, hq, hv2.mp rfl, hno, rfl⟩⟩
end G6
