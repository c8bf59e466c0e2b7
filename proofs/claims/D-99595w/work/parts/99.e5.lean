/-! ===== the component: tell, forget, hold, restore, feed, back, place ===== -/
set_option maxRecDepth 100000
/-- own fields and what is told are written -/
theorem cZ.own {I J : sm_I} {ρ : sm_R} {tp : Nat} {q : tq4} {S : yS} {L : List (Nat × Nat × Int32)} (h : cZ I ρ tp q S) (e : ∀ a, ¬ a = 64 → ¬ (254 ≤ a ∧ a ≤ 256) → J a = I a) (g : ∀ k, ¬ k = 17 → J 64 k = I 64 k) (hD : cD J (y_T S) L) : cZ J ρ tp q (y_told S L) := by
  obtain ⟨⟨hK, hP, hT, hk, hw, hR⟩, h2, h3, h4, h5, h6⟩ := h
  refine ⟨⟨hK, hP, hT.kept (fun a ha => e a (by unfold tA at ha; omega) (by unfold tA at ha; omega)), hk, hw, hR.eq (fun k hk => e _ (by omega) (by omega))⟩, h2.kept (g 5 (by decide)) (g 6 (by decide)) (fun a h1 h2 => e a (by omega) (by omega)), hD, h4.kept (fun a ha => e a (by omega) (by omega)), ?_, (g 4 (by decide)).trans h6⟩
  show cP J (y_P S)
  unfold cP
  rw [e 66 (by omega) (by omega), e 68 (by omega) (by omega)]
  exact h5
/-- the tape is written -/
theorem cZ.tape {I J : sm_I} {ρ : sm_R} {tp : Nat} {q : tq4} {S : yS} {P : Nat × (Nat → Int32)} (h : cZ I ρ tp q S) (e : ∀ a, ¬ a = 66 → ¬ a = 68 → J a = I a) (hP : cP J P) : cZ J ρ tp q (y_tape S P) := by
  obtain ⟨⟨hK, hPP, hT, hk, hw, hR⟩, h2, h3, h4, h5, h6⟩ := h
  have e64 : J 64 = I 64 := e 64 (by omega) (by omega)
  refine ⟨⟨hK, hPP, hT.kept (fun a ha => e a (by unfold tA at ha; omega) (by unfold tA at ha; omega)), hk, hw, hR.eq (fun k hk => e _ (by omega) (by omega))⟩, h2.kept (by rw [e64]) (by rw [e64]) (fun a h1 h2 => e a (by omega) (by omega)), ?_, h4.kept (fun a ha => e a (by omega) (by omega)), hP, by rw [e64]; exact h6⟩
  show cD J (y_T S) (y_D S)
  unfold cD
  rw [e64, e 254 (by omega) (by omega), e 255 (by omega) (by omega), e 256 (by omega) (by omega)]
  exact h3
def y_rst (S : yS) (K : Option (Nat → Int32)) : Int32 × yS := match K with
  | none => (nI 0, S)
  | some r => (nI 1, y_set S r [])
section E5
variable {G : sm_G} {d : Nat} {I : sm_I} {ρ : sm_R} {tp : Nat} {q : tq4} {S : yS}
theorem c_place (hZ : cZ I ρ tp q S) : sm_M G xX0_place (d + 408) [.ref 64] I ρ (zPost I ρ tp q (y_p S) S) := by
  have hK := hZ.1.1
  show sm_V G xX0_place (d + 408) 0 [.ref 64] [] I ρ _
  refine wp_aload0 1 rfl dX0_place_0 ?_
  refine wp_geti 4 rfl dX0_place_1 fX0_55_1 (o1 hK) ?_
  refine wp_iret dX0_place_4 rfl ?_
  exact sm_zi cFr.rf hZ hZ.2.2.2.2.2
theorem c_forget (hZ : cZ I ρ tp q S) : sm_M G xX0_forget (d + 408) [.ref 64] I ρ (zPost I ρ tp q (y_forget S).1 (y_forget S).2) := by
  have hK := hZ.1.1
  show sm_V G xX0_forget (d + 408) 0 [.ref 64, .retAddr 0] [] I ρ _
  refine wp_aload0 1 rfl dX0_forget_0 ?_
  refine wp_geti 4 rfl dX0_forget_1 fX0_139_1 (o1 hK) ?_
  refine wp_istore1 5 rfl dX0_forget_4 (by decide) rfl ?_
  refine wp_aload0 6 rfl dX0_forget_5 ?_
  refine wp_iconst (nI 0) 7 rfl dX0_forget_6 (by decide) ?_
  refine wp_puti 10 rfl dX0_forget_7 pX0_139_1 (o1 hK) (⟨rfl, rfl⟩) ?_
  refine wp_iload1 11 rfl dX0_forget_10 ?_
  refine wp_iret dX0_forget_11 rfl ?_
  refine sm_zi (fun a h1 h2 => sm_u_ne _ _ _ (by omega)) (hZ.own (fun a h1 _ => sm_u_ne _ _ _ h1) (fun k hk => by rw [sm_u_eq, pk_un hk]) ⟨by rw [sm_u_eq, pk_us]; rfl, by decide, fun i d p v hi => ?_⟩) hZ.2.2.1.1
  cases i <;> cases hi

theorem c_tell (hZ : cZ I ρ tp q S) (x y v : Int32) : sm_M G xX0_tell (d + 408) [.ref 64, .int x, .int y, .int v] I ρ (zPost I ρ tp q (y_tell S x y v).1 (y_tell S x y v).2) := by
  have hZ0 := hZ
  obtain ⟨hA, hH, hD, hC, hTp, hpl⟩ := hZ
  obtain ⟨hK, hP, hT, hk, ⟨hw, hz⟩, hR⟩ := hA
  show sm_V G xX0_tell (d + 408) 0 [.ref 64, .int x, .int y, .int v] [] I ρ _
  obtain ⟨h6, h5, h10⟩ := hk.1
  have ht := k_town hK
  unfold y_tell
  refine wp_aload0 1 rfl dX0_tell_0 ?_
  refine wp_iload1 2 rfl dX0_tell_1 ?_
  refine wp_Ve1 5 rfl dX0_tell_2 kX0_isDoor lX0_185 (o1 hK) (nl rfl) (nl rfl) (s_cisDoor hK hP hT hk x) ?_
  by_cases hX : ∃ j, j < tx_D (y_T S) ∧ x = nI j
  · obtain ⟨j, hj, e⟩ := hX
    subst e
    rw [z_ix_n hj (by omega)]
    refine wp_if_eq 8 33 rfl rfl dX0_tell_5 (fun c5 => absurd c5 (z_b_ne.mpr ⟨j, hj, rfl⟩)) (fun c5 => ?_)
    refine wp_iload2 9 rfl dX0_tell_8 ?_
    refine wp_Se1 12 rfl dX0_tell_9 kX0_isPart lX0_189 (nl rfl) (nl rfl) (s_cisPart y) ?_
    by_cases hX : ∃ j, j < 4 ∧ y = nI j
    · obtain ⟨p, hp, e⟩ := hX
      subst e
      rw [z_ix_n hp (by decide)]
      show sm_V G xX0_tell (d + 408) 12 _ _ I ρ (zPost I ρ tp q (if ((-1 : Int32) ≤ v ∧ v ≤ nI 1) ∧ (y_D S).length < 20 then (nI (y_D S).length, y_told S (y_D S ++ [(j, p, v)])) else (-1, S)).1 (if ((-1 : Int32) ≤ v ∧ v ≤ nI 1) ∧ (y_D S).length < 20 then (nI (y_D S).length, y_told S (y_D S ++ [(j, p, v)])) else (-1, S)).2)
      obtain ⟨t1, t2, t3⟩ := hD
      refine wp_if_eq 15 33 rfl rfl dX0_tell_12 (fun c12 => absurd c12 (z_b_ne.mpr (z_p4 hp))) (fun c12 => ?_)
      refine wp_iload3 16 rfl dX0_tell_15 ?_
      refine wp_iconst (-1) 17 rfl dX0_tell_16 (by decide) ?_
      refine wp_iconst (nI 1) 18 rfl dX0_tell_17 (by decide) ?_
      refine wp_Se3 21 rfl dX0_tell_18 kX0_isIn lX0_161 (nl rfl) (nl rfl) (s_isIn _ _ _) ?_
      by_cases h1 : (-1 : Int32) ≤ v ∧ v ≤ nI 1
      · by_cases h2 : (y_D S).length < 20
        · rw [if_pos ⟨h1, h2⟩]
          refine wp_if_eq 24 33 rfl rfl dX0_tell_21 (fun c21 => absurd c21 (z_b_ne.mpr h1)) (fun c21 => ?_)
          refine wp_aload0 25 rfl dX0_tell_24 ?_
          refine wp_geti 28 rfl dX0_tell_25 fX0_139_1 (o1 hK) ?_
          refine wp_bipush (nI 20) 30 rfl dX0_tell_28 (by decide) ?_
          rw [t1]
          refine wp_icmp_ne 33 35 rfl rfl dX0_tell_30 (fun c30 => ?_) (fun c30 => absurd c30 (fun z => absurd ((nI_eq (b := 20) (by omega) (by decide)).mp z) (by omega)))
          refine wp_aload0 36 rfl dX0_tell_35 ?_
          refine wp_getr 39 rfl dX0_tell_36 fX0_105_1 (o1 hK) (p1_18 hK) ?_
          refine wp_aload0 40 rfl dX0_tell_39 ?_
          refine wp_geti 43 rfl dX0_tell_40 fX0_139_1 (o1 hK) ?_
          refine wp_iload1 44 rfl dX0_tell_43 ?_
          refine wp_iast 45 rfl dX0_tell_44 (s1_18 hK) ((y_D S).length) (t1) (⟨by omega, by decide⟩) ?_
          obtain ⟨J1, hJ1⟩ : ∃ J1, J1 = sm_u I 254 (y_D S).length (nI j) := ⟨_, rfl⟩
          rw [← hJ1]
          have a1 : J1 64 17 = nI (y_D S).length := by rw [hJ1, sm_u_ne _ _ _ (by decide)]; exact t1
          refine wp_aload0 46 rfl dX0_tell_45 ?_
          refine wp_getr 49 rfl dX0_tell_46 fX0_108_1 (o1 hK) (p1_19 hK) ?_
          refine wp_aload0 50 rfl dX0_tell_49 ?_
          refine wp_geti 53 rfl dX0_tell_50 fX0_139_1 (o1 hK) ?_
          refine wp_iload2 54 rfl dX0_tell_53 ?_
          refine wp_iast 55 rfl dX0_tell_54 (s1_19 hK) ((y_D S).length) (a1) (⟨by omega, by decide⟩) ?_
          obtain ⟨J2, hJ2⟩ : ∃ J2, J2 = sm_u J1 255 (y_D S).length (nI p) := ⟨_, rfl⟩
          rw [← hJ2]
          have a2 : J2 64 17 = nI (y_D S).length := by rw [hJ2, sm_u_ne _ _ _ (by decide)]; exact a1
          refine wp_aload0 56 rfl dX0_tell_55 ?_
          refine wp_getr 59 rfl dX0_tell_56 fX0_111_1 (o1 hK) (p1_20 hK) ?_
          refine wp_aload0 60 rfl dX0_tell_59 ?_
          refine wp_geti 63 rfl dX0_tell_60 fX0_139_1 (o1 hK) ?_
          refine wp_iload3 64 rfl dX0_tell_63 ?_
          refine wp_iast 65 rfl dX0_tell_64 (s1_20 hK) ((y_D S).length) (a2) (⟨by omega, by decide⟩) ?_
          obtain ⟨J3, hJ3⟩ : ∃ J3, J3 = sm_u J2 256 (y_D S).length v := ⟨_, rfl⟩
          rw [← hJ3]
          have a3 : J3 64 17 = nI (y_D S).length := by rw [hJ3, sm_u_ne _ _ _ (by decide)]; exact a2
          refine wp_aload0 66 rfl dX0_tell_65 ?_
          refine wp_dup 67 rfl dX0_tell_66 rfl ?_
          refine wp_geti 70 rfl dX0_tell_67 fX0_139_1 (o1 hK) ?_
          refine wp_iconst (nI 1) 71 rfl dX0_tell_70 (by decide) ?_
          refine wp_iadd 72 rfl dX0_tell_71 ?_
          rw [a3, nI_add]
          refine wp_puti 75 rfl dX0_tell_72 pX0_139_1 (o1 hK) (⟨rfl, rfl⟩) ?_
          refine wp_aload0 76 rfl dX0_tell_75 ?_
          refine wp_geti 79 rfl dX0_tell_76 fX0_139_1 (o1 hK) ?_
          obtain ⟨J4, hJ4⟩ : ∃ J4, J4 = sm_u J3 64 17 (nI ((y_D S).length + 1)) := ⟨_, rfl⟩
          rw [← hJ4]
          have a4 : J4 64 17 = nI ((y_D S).length + 1) := by rw [hJ4, sm_u_eq, pk_us]
          rw [a4]
          refine wp_iconst (nI 1) 80 rfl dX0_tell_79 (by decide) ?_
          refine wp_isub 81 rfl dX0_tell_80 ?_
          rw [pk_sub (by omega), Nat.add_sub_cancel]
          refine wp_iret dX0_tell_81 rfl ?_
          have b4 : J4 254 = upd (I 254) (y_D S).length (nI j) := by rw [hJ4, sm_u_ne _ _ _ (by decide), hJ3, sm_u_ne _ _ _ (by decide), hJ2, sm_u_ne _ _ _ (by decide), hJ1, sm_u_eq]
          have b5 : J4 255 = upd (I 255) (y_D S).length (nI p) := by rw [hJ4, sm_u_ne _ _ _ (by decide), hJ3, sm_u_ne _ _ _ (by decide), hJ2, sm_u_eq, hJ1, sm_u_ne _ _ _ (by decide)]
          have b6 : J4 256 = upd (I 256) (y_D S).length v := by rw [hJ4, sm_u_ne _ _ _ (by decide), hJ3, sm_u_eq, hJ2, sm_u_ne _ _ _ (by decide), hJ1, sm_u_ne _ _ _ (by decide)]
          have hlen : (y_D S ++ [(j, p, v)]).length = (y_D S).length + 1 := by rw [List.length_append]; rfl
          refine sm_zi (fun a h1 h2 => by rw [hJ4, sm_u_ne _ _ _ (by omega), hJ3, sm_u_ne _ _ _ (by omega), hJ2, sm_u_ne _ _ _ (by omega), hJ1, sm_u_ne _ _ _ (by omega)]) (hZ0.own (fun a h1 h2 => ?_) (fun k hk => ?_) ⟨by rw [hlen]; exact a4, by rw [hlen]; omega, fun i dd pp vv hi => ?_⟩) rfl
          · rw [hJ4, sm_u_ne _ _ _ h1, hJ3, sm_u_ne _ _ _ (by omega), hJ2, sm_u_ne _ _ _ (by omega), hJ1, sm_u_ne _ _ _ (by omega)]
          · rw [hJ4, sm_u_eq, pk_un hk, hJ3, sm_u_ne _ _ _ (by decide), hJ2, sm_u_ne _ _ _ (by decide), hJ1, sm_u_ne _ _ _ (by decide)]
          · rw [b4, b5, b6]
            by_cases e : i = (y_D S).length
            · rw [e, List.getElem?_append_right (Nat.le_refl _), Nat.sub_self] at hi
              cases hi
              rw [e, pk_us, pk_us, pk_us]
              exact ⟨⟨hj, hp⟩, rfl, rfl, rfl⟩
            · have hlt : i < (y_D S).length := by
                have := (List.getElem?_eq_some_iff.mp hi).1
                rw [hlen] at this
                omega
              rw [List.getElem?_append_left hlt] at hi
              rw [pk_un e, pk_un e, pk_un e]
              exact t3 i dd pp vv hi
        · rw [if_neg (fun z => h2 z.2)]
          refine wp_if_eq 24 33 rfl rfl dX0_tell_21 (fun c21 => absurd c21 (z_b_ne.mpr h1)) (fun c21 => ?_)
          refine wp_aload0 25 rfl dX0_tell_24 ?_
          refine wp_geti 28 rfl dX0_tell_25 fX0_139_1 (o1 hK) ?_
          refine wp_bipush (nI 20) 30 rfl dX0_tell_28 (by decide) ?_
          rw [t1, show (y_D S).length = 20 by omega]
          refine wp_icmp_ne 33 35 rfl rfl dX0_tell_30 (fun c30 => absurd (rfl) c30) (fun c30 => ?_)
          refine wp_iconst (-1) 34 rfl dX0_tell_33 (by decide) ?_
          refine wp_iret dX0_tell_34 rfl ?_
          exact sm_zi cFr.rf hZ0 rfl
      · rw [if_neg (fun z => h1 z.1)]
        refine wp_if_eq 24 33 rfl rfl dX0_tell_21 (fun c21 => ?_) (fun c21 => absurd (z_b_eq.mpr h1) c21)
        refine wp_iconst (-1) 34 rfl dX0_tell_33 (by decide) ?_
        refine wp_iret dX0_tell_34 rfl ?_
        exact sm_zi cFr.rf hZ0 rfl
    · rw [z_ix_no (by decide) hX]
      refine wp_if_eq 15 33 rfl rfl dX0_tell_12 (fun c12 => ?_) (fun c12 => absurd (z_b_eq.mpr (z_p4n hX)) c12)
      refine wp_iconst (-1) 34 rfl dX0_tell_33 (by decide) ?_
      refine wp_iret dX0_tell_34 rfl ?_
      exact sm_zi cFr.rf hZ0 rfl
  · rw [z_ix_no (by omega) hX]
    refine wp_if_eq 8 33 rfl rfl dX0_tell_5 (fun c5 => ?_) (fun c5 => absurd (z_b_eq.mpr hX) c5)
    refine wp_iconst (-1) 34 rfl dX0_tell_33 (by decide) ?_
    refine wp_iret dX0_tell_34 rfl ?_
    exact sm_zi cFr.rf hZ0 rfl
theorem c_hold (hZ : cZ I ρ tp q S) (x : Int32) : sm_M G xX0_hold (d + 408) [.ref 64, .int x] I ρ (zPost I ρ tp q (y_hold S x).1 (y_hold S x).2) := by
  have hZ0 := hZ
  obtain ⟨hA, hH, hD, hC, hTp, hpl⟩ := hZ
  obtain ⟨hK, hP, hT, hk, ⟨hw, hz⟩, hR⟩ := hA
  show sm_V G xX0_hold (d + 408) 0 [.ref 64, .int x] [] I ρ _
  obtain ⟨h6, h5, h10⟩ := hk.1
  have ht := k_town hK
  unfold y_hold
  refine wp_iload1 1 rfl dX0_hold_0 ?_
  refine wp_iconst (nI 0) 2 rfl dX0_hold_1 (by decide) ?_
  refine wp_iconst (nI 2) 3 rfl dX0_hold_2 (by decide) ?_
  refine wp_Se3 6 rfl dX0_hold_3 kX0_isIn lX0_161 (nl rfl) (nl rfl) (s_isIn _ _ _) ?_
  by_cases hX : ∃ j, j < 3 ∧ x = nI j
  · obtain ⟨s, hs, e⟩ := hX
    subst e
    rw [z_ix_n hs (by decide)]
    refine wp_if_ne 9 11 rfl rfl dX0_hold_6 (fun c6 => ?_) (fun c6 => absurd c6 (z_b_ne.mpr ((z_in_lo (n := 3) (m := 2) rfl (by decide)).mpr ⟨s, hs, rfl⟩)))
    refine wp_aload0 12 rfl dX0_hold_11 ?_
    refine wp_getr 15 rfl dX0_hold_12 fX0_73_1 (o1 hK) (p1_10 hK) ?_
    refine wp_iload1 16 rfl dX0_hold_15 ?_
    refine wp_aald (t := 7) 17 rfl dX0_hold_16 (by decide) rfl rfl (s1_10 hK) (s) (by first | rfl | simp only [pk_mul, nI_add]) (⟨by omega, by decide⟩) (e1_10 hK (by omega)) ?_
    refine wp_aload0 18 rfl dX0_hold_17 ?_
    refine wp_getr 21 rfl dX0_hold_18 fX0_62_1 (o1 hK) (p1_7 hK) ?_
    refine wp_Vv1 24 rfl dX0_hold_21 kX5_takes lX0_261 (o6 (k_slot hK (by omega))) (nl rfl) (nl rfl) (s_takes (k_slot hK hs) ht (by omega) hR) (fun J ρ1 hq9 => ?_)
    obtain ⟨e1, f1, hR1⟩ := hq9
    have e1 := e1.symm
    subst e1
    have e : ∀ a, a < 113 + 16 * s ∨ 113 + 16 * s + 16 ≤ a → J a = I a := fun a ha => f1 a (fun z => by
      have := tWs_mem.mp z
      omega)
    refine wp_aload0 25 rfl dX0_hold_24 ?_
    refine wp_getr 28 rfl dX0_hold_25 fX0_92_1 (o1 hK) (p1_14 hK) ?_
    refine wp_iload1 29 rfl dX0_hold_28 ?_
    refine wp_iconst (nI 1) 30 rfl dX0_hold_29 (by decide) ?_
    refine wp_zast 31 rfl dX0_hold_30 (s1_14 hK) (s) (by first | rfl | simp only [pk_mul, nI_add]) (⟨by omega, by decide⟩) ?_
    refine wp_iconst (nI 1) 32 rfl dX0_hold_31 (by decide) ?_
    refine wp_zret dX0_hold_32 rfl (rfl) ?_
    obtain ⟨J2, hJ2⟩ : ∃ J2, J2 = sm_u J 244 s (nI 1) := ⟨_, rfl⟩
    have e2 : ∀ a, ¬ a = 244 → (a < 113 + 16 * s ∨ 113 + 16 * s + 16 ≤ a) → J2 a = I a := fun a h1 h2 => by rw [hJ2, sm_u_ne _ _ _ h1]; exact e a h2
    have e64 : J2 64 = I 64 := e2 64 (by omega) (by omega)
    have v4 : J2 244 = upd (I 244) s (nI 1) := by rw [hJ2, sm_u_eq, e 244 (by omega)]
    show zPost I ρ tp q (nI 1) (y_held S (fun i => if i = s then some (y_w S) else y_K S i)) _ _ _
    rw [show vp_nar FieldType.boolean (nI 1) = nI 1 from by decide, ← hJ2]
    refine sm_zi (S := y_held S (fun i => if i = s then some (y_w S) else y_K S i)) (J := J2) (fun a h1 h2 => e2 a (by omega) (by omega)) ?_ rfl
    refine ⟨⟨hK, hP, hT.kept (fun a ha => e2 a (by unfold tA at ha; omega) (by unfold tA at ha; omega)), hk, ⟨hw, hz⟩, hR.eq (fun k hk => e2 _ (by omega) (by omega))⟩, hH.kept (by rw [e64]) (by rw [e64]) (fun a h1 h2 => e2 a (by omega) (by omega)), ?_, fun i hi => ?_, ?_, by rw [e64]; exact hpl⟩
    · show cD J2 (y_T S) (y_D S)
      unfold cD
      rw [e64, e2 254 (by omega) (by omega), e2 255 (by omega) (by omega), e2 256 (by omega) (by omega)]
      exact hD
    · show ((if i = s then some (y_w S) else y_K S i) = none → J2 244 i = nI 0) ∧ ∀ r, (if i = s then some (y_w S) else y_K S i) = some r → J2 244 i = nI 1 ∧ (wok r ∧ wkT (y_T S) r) ∧ tR J2 (113 + 16 * i) r (tx_seed (y_T S))
      rw [v4]
      by_cases ei : i = s
      · rw [if_pos ei, ei, pk_us]
        refine ⟨(fun z => by cases z), fun r hr => ?_⟩
        cases hr
        exact ⟨rfl, ⟨hw, hz⟩, hR1.eq (fun k hk => by rw [hJ2, sm_u_ne _ _ _ (by omega)])⟩
      · rw [if_neg ei, pk_un ei]
        obtain ⟨c1, c2⟩ := hC i hi
        exact ⟨c1, fun r hr => ⟨(c2 r hr).1, (c2 r hr).2.1, (c2 r hr).2.2.eq (fun k hk => e2 _ (by omega) (by omega))⟩⟩
    · show cP J2 (y_P S)
      unfold cP
      rw [e2 66 (by omega) (by omega), e2 68 (by omega) (by omega)]
      exact hTp
  · rw [z_ix_no (by decide) hX]
    refine wp_if_ne 9 11 rfl rfl dX0_hold_6 (fun c6 => absurd (z_b_eq.mpr (fun z => hX ((z_in_lo (n := 3) (m := 2) rfl (by decide)).mp z))) c6) (fun c6 => ?_)
    refine wp_iconst (nI 0) 10 rfl dX0_hold_9 (by decide) ?_
    refine wp_zret dX0_hold_10 rfl (rfl) ?_
    exact sm_zi cFr.rf hZ0 rfl
theorem c_restore (hZ : cZ I ρ tp q S) (x : Int32) : sm_M G xX0_restore (d + 408) [.ref 64, .int x] I ρ (zPost I ρ tp q (y_restore S x).1 (y_restore S x).2) := by
  have hZ0 := hZ
  obtain ⟨hA, hH, hD, hC, hTp, hpl⟩ := hZ
  obtain ⟨hK, hP, hT, hk, ⟨hw, hz⟩, hR⟩ := hA
  show sm_V G xX0_restore (d + 408) 0 [.ref 64, .int x] [] I ρ _
  obtain ⟨h6, h5, h10⟩ := hk.1
  have ht := k_town hK
  unfold y_restore
  refine wp_iload1 1 rfl dX0_restore_0 ?_
  refine wp_iconst (nI 0) 2 rfl dX0_restore_1 (by decide) ?_
  refine wp_iconst (nI 2) 3 rfl dX0_restore_2 (by decide) ?_
  refine wp_Se3 6 rfl dX0_restore_3 kX0_isIn lX0_161 (nl rfl) (nl rfl) (s_isIn _ _ _) ?_
  by_cases hX : ∃ j, j < 3 ∧ x = nI j
  · obtain ⟨s, hs, e⟩ := hX
    subst e
    rw [z_ix_n hs (by decide)]
    obtain ⟨c1, c2⟩ := hC s hs
    refine wp_if_eq 9 18 rfl rfl dX0_restore_6 (fun c6 => absurd c6 (z_b_ne.mpr ((z_in_lo (n := 3) (m := 2) rfl (by decide)).mpr ⟨s, hs, rfl⟩))) (fun c6 => ?_)
    refine wp_aload0 10 rfl dX0_restore_9 ?_
    refine wp_getr 13 rfl dX0_restore_10 fX0_92_1 (o1 hK) (p1_14 hK) ?_
    refine wp_iload1 14 rfl dX0_restore_13 ?_
    refine wp_zald 15 rfl dX0_restore_14 (s1_14 hK) (s) (by first | rfl | simp only [pk_mul, nI_add]) (⟨by omega, by decide⟩) ?_
    show sm_V G xX0_restore (d + 408) 15 _ _ I ρ (zPost I ρ tp q (y_rst S (y_K S s)).1 (y_rst S (y_K S s)).2)
    cases hc : y_K S s with
    | none =>
      rw [c1 hc]
      refine wp_if_ne 18 20 rfl rfl dX0_restore_15 (fun c15 => absurd (rfl) c15) (fun c15 => ?_)
      refine wp_iconst (nI 0) 19 rfl dX0_restore_18 (by decide) ?_
      refine wp_zret dX0_restore_19 rfl (rfl) ?_
      exact sm_zi cFr.rf hZ0 rfl
    | some r =>
      obtain ⟨v1, v2, v3⟩ := c2 r hc
      rw [v1]
      refine wp_if_ne 18 20 rfl rfl dX0_restore_15 (fun c15 => ?_) (fun c15 => absurd c15 (by decide))
      refine wp_aload0 21 rfl dX0_restore_20 ?_
      refine wp_getr 24 rfl dX0_restore_21 fX0_62_1 (o1 hK) (p1_7 hK) ?_
      refine wp_aload0 25 rfl dX0_restore_24 ?_
      refine wp_getr 28 rfl dX0_restore_25 fX0_73_1 (o1 hK) (p1_10 hK) ?_
      refine wp_iload1 29 rfl dX0_restore_28 ?_
      refine wp_aald (t := 7) 30 rfl dX0_restore_29 (by decide) rfl rfl (s1_10 hK) (s) (by first | rfl | simp only [pk_mul, nI_add]) (⟨by omega, by decide⟩) (e1_10 hK (by omega)) ?_
      refine wp_Vv1 33 rfl dX0_restore_30 kX5_takes lX0_261 (o6 (k_town hK)) (nl rfl) (nl rfl) (s_takes ht (k_slot hK hs) (by omega) v3) (fun J ρ1 hq9 => ?_)
      obtain ⟨e1, f1, hR1⟩ := hq9
      have e1 := e1.symm
      subst e1
      have hZ1 := hZ0.town f1 hR1 v2
      refine wp_aload0 34 rfl dX0_restore_33 ?_
      refine wp_iconst (nI 0) 35 rfl dX0_restore_34 (by decide) ?_
      refine wp_puti 38 rfl dX0_restore_35 pX0_136_1 (o1 hK) (⟨rfl, rfl⟩) ?_
      refine wp_iconst (nI 1) 39 rfl dX0_restore_38 (by decide) ?_
      refine wp_zret dX0_restore_39 rfl (rfl) ?_
      have g : ∀ a, ¬ a = 64 → sm_u J 64 5 (nI 0) a = J a := fun a ha => sm_u_ne _ _ _ ha
      have g64 : ∀ k, ¬ k = 5 → sm_u J 64 5 (nI 0) 64 k = J 64 k := fun k h5 => by rw [sm_u_eq, pk_un h5]
      obtain ⟨⟨hK, hP, hT, hk, hw, hR⟩, ⟨n1, n2, u, u1, u2, u3⟩, h3, h4, h5', h6'⟩ := hZ1
      refine sm_zi (S := y_set S r []) (fun a h1 h2 => (g a (by omega)).trans ((cFr.t f1) a h1 h2)) ⟨⟨hK, hP, hT.kept (fun a ha => g a (by unfold tA at ha; omega)), hk, hw, hR.eq (fun k hk => g _ (by omega))⟩, ⟨by rw [sm_u_eq, pk_us]; rfl, Nat.zero_le _, u, u1, (g64 6 (by decide)).trans u2, fun i t hi => ?_⟩, ?_, h4.kept (fun a ha => g a (by omega)), ?_, (g64 4 (by decide)).trans h6'⟩ rfl
      · cases i <;> cases hi
      · show cD _ (y_T S) (y_D S)
        unfold cD
        rw [g64 17 (by decide), g 254 (by omega), g 255 (by omega), g 256 (by omega)]
        exact h3
      · show cP _ (y_P S)
        unfold cP
        rw [g 66 (by omega), g 68 (by omega)]
        exact h5'
  · rw [z_ix_no (by decide) hX]
    refine wp_if_eq 9 18 rfl rfl dX0_restore_6 (fun c6 => ?_) (fun c6 => absurd (z_b_eq.mpr (fun z => hX ((z_in_lo (n := 3) (m := 2) rfl (by decide)).mp z))) c6)
    refine wp_iconst (nI 0) 19 rfl dX0_restore_18 (by decide) ?_
    refine wp_zret dX0_restore_19 rfl (rfl) ?_
    exact sm_zi cFr.rf hZ0 rfl
theorem c_back (hZ : cZ I ρ tp q S) (n : Int32) : sm_M G xX0_back (d + 408) [.ref 64, .int n] I ρ (zPost I ρ tp q (y_back S n).1 (y_back S n).2) := by
  have hK := hZ.1.1
  obtain ⟨p1, p2, p3⟩ := hZ.2.2.2.2.1
  show sm_V G xX0_back (d + 408) 0 [.ref 64, .int n] [] I ρ _
  unfold y_back
  by_cases h0 : n < 0
  · rw [if_neg (fun z => i_lt_le z.1 h0)]
    refine wp_iload1 1 rfl dX0_back_0 ?_
    refine wp_if_lt 4 15 rfl rfl dX0_back_1 (fun c1 => ?_) (fun c1 => absurd (h0) c1)
    refine wp_iconst (-1) 16 rfl dX0_back_15 (by decide) ?_
    refine wp_iret dX0_back_16 rfl ?_
    exact sm_zi cFr.rf hZ rfl
  · by_cases h1 : n ≤ nI (y_P S).1
    · rw [if_pos ⟨i_nlt h0, h1⟩]
      obtain ⟨m, hm, e⟩ := nI_of2 (x := n) (M := nI (y_P S).1) (n := (y_P S).1) (nI_toInt (by omega)) h0 h1
      subst e
      rw [nI_clamp (by omega)]
      refine wp_iload1 1 rfl dX0_back_0 ?_
      refine wp_if_lt 4 15 rfl rfl dX0_back_1 (fun c1 => absurd c1 (h0)) (fun c1 => ?_)
      refine wp_iload1 5 rfl dX0_back_4 ?_
      refine wp_aload0 6 rfl dX0_back_5 ?_
      refine wp_getr 9 rfl dX0_back_6 fX0_35_1 (o1 hK) (p1_1 hK) ?_
      refine wp_geti 12 rfl dX0_back_9 fX0_121_3 (o3 hK) ?_
      rw [p1]
      refine wp_icmp_le 15 17 rfl rfl dX0_back_12 (fun c12 => ?_) (fun c12 => absurd (h1) c12)
      refine wp_aload0 18 rfl dX0_back_17 ?_
      refine wp_getr 21 rfl dX0_back_18 fX0_35_1 (o1 hK) (p1_1 hK) ?_
      refine wp_dup 22 rfl dX0_back_21 rfl ?_
      refine wp_geti 25 rfl dX0_back_22 fX0_121_3 (o3 hK) ?_
      rw [p1]
      refine wp_iload1 26 rfl dX0_back_25 ?_
      refine wp_isub 27 rfl dX0_back_26 ?_
      rw [pk_sub (by omega)]
      refine wp_puti 30 rfl dX0_back_27 pX0_121_3 (o3 hK) (⟨rfl, rfl⟩) ?_
      refine wp_aload0 31 rfl dX0_back_30 ?_
      refine wp_getr 34 rfl dX0_back_31 fX0_35_1 (o1 hK) (p1_1 hK) ?_
      refine wp_geti 37 rfl dX0_back_34 fX0_121_3 (o3 hK) ?_
      rw [sm_u_eq, pk_us]
      refine wp_iret dX0_back_37 rfl ?_
      refine sm_zi (fun a h1 h2 => sm_u_ne _ _ _ (by omega)) (hZ.tape (fun a h1 _ => sm_u_ne _ _ _ h1) ⟨by rw [sm_u_eq, pk_us], by omega, fun j hj => ?_⟩) rfl
      rw [sm_u_ne _ _ _ (by decide)]
      exact p3 j (by omega)
    · rw [if_neg (fun z => h1 z.2)]
      refine wp_iload1 1 rfl dX0_back_0 ?_
      refine wp_if_lt 4 15 rfl rfl dX0_back_1 (fun c1 => absurd c1 (h0)) (fun c1 => ?_)
      refine wp_iload1 5 rfl dX0_back_4 ?_
      refine wp_aload0 6 rfl dX0_back_5 ?_
      refine wp_getr 9 rfl dX0_back_6 fX0_35_1 (o1 hK) (p1_1 hK) ?_
      refine wp_geti 12 rfl dX0_back_9 fX0_121_3 (o3 hK) ?_
      rw [p1]
      refine wp_icmp_le 15 17 rfl rfl dX0_back_12 (fun c12 => absurd c12 (h1)) (fun c12 => ?_)
      refine wp_iconst (-1) 16 rfl dX0_back_15 (by decide) ?_
      refine wp_iret dX0_back_16 rfl ?_
      exact sm_zi cFr.rf hZ rfl
theorem cP.one {I : sm_I} {P : Nat × (Nat → Int32)} {v : Int32} (h : cP I P) (hv : vp_nar .byte v = v) (hl : P.1 + 1 ≤ 2000) : cP (sm_u (sm_u I 68 P.1 v) 66 2 (nI (P.1 + 1))) (P.1 + 1, upd P.2 P.1 v) := by
  obtain ⟨h1, h2, h3⟩ := h
  refine ⟨by rw [sm_u_eq, pk_us], hl, fun j hj => ?_⟩
  show _ = upd P.2 P.1 v j ∧ vp_nar .byte (upd P.2 P.1 v j) = upd P.2 P.1 v j
  rw [sm_u_ne _ _ _ (by decide), sm_u_eq]
  by_cases e : j = P.1
  · rw [e, pk_us, pk_us]
    exact ⟨rfl, hv⟩
  · rw [pk_un e, pk_un e]
    exact h3 j (by have : j < P.1 + 1 := hj; omega)
/-- frame of the tape -/
def cTp (I J : sm_I) : Prop := ∀ a, ¬ a = 66 → ¬ a = 68 → J a = I a
theorem cTp.one {I J : sm_I} {k : Nat} {v x : Int32} (h : cTp I J) : cTp I (sm_u (sm_u J 68 k v) 66 2 x) := fun a h1 h2 => by rw [sm_u_ne _ _ _ h1, sm_u_ne _ _ _ h2]; exact h a h1 h2
theorem s_typed (hK : kd ρ) {P : Nat × (Nat → Int32)} (hP : cP I P) (hl : P.1 + 4 ≤ 2000) (v : Int32) : sm_M G xX0_typed d [.ref 64, .int v] I ρ (sm_Qv (fun I1 ρ1 => ρ1 = ρ ∧ cTp I I1 ∧ cP I1 (y_put P v))) := by
  show sm_V G xX0_typed d 0 [.ref 64, .int v, .retAddr 0] [] I ρ _
  have one : ∀ (P0 : Nat × (Nat → Int32)) (J : sm_I) (P : Nat × (Nat → Int32)) (k : Nat) (s : Int32), cTp I J → cP J P → P.1 + 1 ≤ 2000 → k < 100 → nI k + (-8) = s → (∀ J1 : sm_I, cTp I J1 → cP J1 (P.1 + 1, upd P.2 P.1 (yb v k)) → sm_V G xX0_typed d 3 [.ref 64, .int v, .int s] [] J1 ρ (sm_Qv (fun I1 ρ1 => ρ1 = ρ ∧ cTp I I1 ∧ cP I1 P0))) → sm_V G xX0_typed d 3 [.ref 64, .int v, .int (nI k)] [] J ρ (sm_Qv (fun I1 ρ1 => ρ1 = ρ ∧ cTp I I1 ∧ cP I1 P0)) := by
    intro P0 J P k s hf hP hl hk es ih
    have p1 := hP.1
    refine wp_iload2 4 rfl dX0_typed_3 ?_
    refine wp_if_lt 7 45 rfl rfl dX0_typed_4 (fun c4 => absurd c4 (nI_pos (by omega))) (fun c4 => ?_)
    refine wp_aload0 8 rfl dX0_typed_7 ?_
    refine wp_getr 11 rfl dX0_typed_8 fX0_35_1 (o1 hK) (p1_1 hK) ?_
    refine wp_getr 14 rfl dX0_typed_11 fX0_128_3 (o3 hK) (p3_1 hK) ?_
    refine wp_aload0 15 rfl dX0_typed_14 ?_
    refine wp_getr 18 rfl dX0_typed_15 fX0_35_1 (o1 hK) (p1_1 hK) ?_
    refine wp_geti 21 rfl dX0_typed_18 fX0_121_3 (o3 hK) ?_
    refine wp_iload1 22 rfl dX0_typed_21 ?_
    refine wp_iload2 23 rfl dX0_typed_22 ?_
    refine wp_ishr 24 rfl dX0_typed_23 ?_
    refine wp_i2b 25 rfl dX0_typed_24 ?_
    refine wp_bast 26 rfl dX0_typed_25 (s3_1 hK) (P.1) (p1) (⟨by omega, by decide⟩) ?_
    have p2 : sm_u J 68 P.1 (vp_nar FieldType.byte (yb v k)) 66 2 = nI P.1 := by
      rw [sm_u_ne _ _ _ (by decide)]
      exact p1
    have en : vp_nar FieldType.byte (yb v k) = yb v k := pk_vb _
    rw [en] at p2
    show sm_V G xX0_typed d 26 _ _ (sm_u J 68 P.1 (vp_nar FieldType.byte (yb v k))) ρ _
    rw [en]
    refine wp_aload0 27 rfl dX0_typed_26 ?_
    refine wp_getr 30 rfl dX0_typed_27 fX0_35_1 (o1 hK) (p1_1 hK) ?_
    refine wp_dup 31 rfl dX0_typed_30 rfl ?_
    refine wp_geti 34 rfl dX0_typed_31 fX0_121_3 (o3 hK) ?_
    rw [p2]
    refine wp_iconst (nI 1) 35 rfl dX0_typed_34 (by decide) ?_
    refine wp_iadd 36 rfl dX0_typed_35 ?_
    rw [nI_add]
    refine wp_puti 39 rfl dX0_typed_36 pX0_121_3 (o3 hK) (⟨rfl, rfl⟩) ?_
    refine wp_iinc2 42 rfl (-8) (by decide) dX0_typed_39 (by decide) rfl ?_
    rw [es]
    refine wp_goto 3 rfl dX0_typed_42 ?_
    exact ih _ hf.one (hP.one en hl)
  refine wp_bipush (nI 24) 2 rfl dX0_typed_0 (by decide) ?_
  refine wp_istore2 3 rfl dX0_typed_2 (by decide) rfl ?_
  refine one _ I P 24 (nI 16) (fun _ _ _ => rfl) hP (by omega) (by decide) (by decide) (fun J1 f1 q1 => ?_)
  refine one _ J1 _ 16 (nI 8) f1 q1 (by show P.1 + 1 + 1 ≤ 2000; omega) (by decide) (by decide) (fun J2 f2 q2 => ?_)
  refine one _ J2 _ 8 (nI 0) f2 q2 (by show P.1 + 1 + 1 + 1 ≤ 2000; omega) (by decide) (by decide) (fun J3 f3 q3 => ?_)
  refine one _ J3 _ 0 (-8) f3 q3 (by show P.1 + 1 + 1 + 1 + 1 ≤ 2000; omega) (by decide) (by decide) (fun J4 f4 q4 => ?_)
  refine wp_iload2 4 rfl dX0_typed_3 ?_
  refine wp_if_lt 7 45 rfl rfl dX0_typed_4 (fun c4 => ?_) (fun c4 => absurd (by decide) c4)
  refine wp_vret dX0_typed_45 rfl ?_
  exact ⟨rfl, rfl, f4, q4⟩
theorem c_feed (hZ : cZ I ρ tp q S) (a b c x e : Int32) : sm_M G xX0_feed (d + 408) [.ref 64, .int a, .int b, .int c, .int x, .int e] I ρ (zPost I ρ tp q (y_feed S a b c x e).1 (y_feed S a b c x e).2) := by
  have hK := hZ.1.1
  have hP := hZ.2.2.2.2.1
  have p1 := hP.1
  have p2 := hP.2.1
  show sm_V G xX0_feed (d + 408) 0 [.ref 64, .int a, .int b, .int c, .int x, .int e] [] I ρ _
  unfold y_feed
  refine wp_aload0 1 rfl dX0_feed_0 ?_
  refine wp_getr 4 rfl dX0_feed_1 fX0_35_1 (o1 hK) (p1_1 hK) ?_
  refine wp_geti 7 rfl dX0_feed_4 fX0_121_3 (o3 hK) ?_
  rw [p1]
  refine wp_bipush (nI 20) 9 rfl dX0_feed_7 (by decide) ?_
  refine wp_iadd 10 rfl dX0_feed_9 ?_
  rw [nI_add]
  by_cases h0 : (y_P S).1 + 20 ≤ 2000
  · rw [if_pos h0]
    refine wp_sipush (nI 2000) 13 rfl dX0_feed_10 (by decide) ?_
    refine wp_icmp_le 16 18 rfl rfl dX0_feed_13 (fun c13 => ?_) (fun c13 => absurd (nI_le (b := 2000) h0 (by decide)) c13)
    refine wp_aload0 19 rfl dX0_feed_18 ?_
    refine wp_iload1 20 rfl dX0_feed_19 ?_
    refine wp_Vv1 23 rfl dX0_feed_20 kX0_typed lX0_124 (o1 hK) (nl rfl) (nl rfl) (s_typed hK hP (by omega) a) (fun J1 ρ1 hq => ?_)
    obtain ⟨e1, f1, q1⟩ := hq
    have e1 := e1.symm
    subst e1
    refine wp_aload0 24 rfl dX0_feed_23 ?_
    refine wp_iload2 25 rfl dX0_feed_24 ?_
    refine wp_Vv1 28 rfl dX0_feed_25 kX0_typed lX0_124 (o1 hK) (nl rfl) (nl rfl) (s_typed hK q1 (by show (y_P S).1 + 4 + 4 ≤ 2000; omega) b) (fun J2 ρ1 hq => ?_)
    obtain ⟨e1, f2, q2⟩ := hq
    have e1 := e1.symm
    subst e1
    refine wp_aload0 29 rfl dX0_feed_28 ?_
    refine wp_iload3 30 rfl dX0_feed_29 ?_
    refine wp_Vv1 33 rfl dX0_feed_30 kX0_typed lX0_124 (o1 hK) (nl rfl) (nl rfl) (s_typed hK q2 (by show (y_P S).1 + 4 + 4 + 4 ≤ 2000; omega) c) (fun J3 ρ1 hq => ?_)
    obtain ⟨e1, f3, q3⟩ := hq
    have e1 := e1.symm
    subst e1
    refine wp_aload0 34 rfl dX0_feed_33 ?_
    refine wp_iload4 36 rfl dX0_feed_34 ?_
    refine wp_Vv1 39 rfl dX0_feed_36 kX0_typed lX0_124 (o1 hK) (nl rfl) (nl rfl) (s_typed hK q3 (by show (y_P S).1 + 4 + 4 + 4 + 4 ≤ 2000; omega) x) (fun J4 ρ1 hq => ?_)
    obtain ⟨e1, f4, q4⟩ := hq
    have e1 := e1.symm
    subst e1
    refine wp_aload0 40 rfl dX0_feed_39 ?_
    refine wp_iload5 42 rfl dX0_feed_40 ?_
    refine wp_Vv1 45 rfl dX0_feed_42 kX0_typed lX0_124 (o1 hK) (nl rfl) (nl rfl) (s_typed hK q4 (by show (y_P S).1 + 4 + 4 + 4 + 4 + 4 ≤ 2000; omega) e) (fun J5 ρ1 hq => ?_)
    obtain ⟨e1, f5, q5⟩ := hq
    have e1 := e1.symm
    subst e1
    refine wp_aload0 46 rfl dX0_feed_45 ?_
    refine wp_getr 49 rfl dX0_feed_46 fX0_35_1 (o1 hK) (p1_1 hK) ?_
    refine wp_geti 52 rfl dX0_feed_49 fX0_121_3 (o3 hK) ?_
    refine wp_iret dX0_feed_52 rfl ?_
    exact sm_zi (fun a h1 h2 => (f5 a (by omega) (by omega)).trans ((f4 a (by omega) (by omega)).trans ((f3 a (by omega) (by omega)).trans ((f2 a (by omega) (by omega)).trans (f1 a (by omega) (by omega)))))) (hZ.tape (fun a h1 h2 => (f5 a h1 h2).trans ((f4 a h1 h2).trans ((f3 a h1 h2).trans ((f2 a h1 h2).trans (f1 a h1 h2))))) q5) q5.1
  · rw [if_neg h0]
    refine wp_sipush (nI 2000) 13 rfl dX0_feed_10 (by decide) ?_
    refine wp_icmp_le 16 18 rfl rfl dX0_feed_13 (fun c13 => absurd c13 (nI_ge (a := 2000) (by omega) (by omega))) (fun c13 => ?_)
    refine wp_iconst (-1) 17 rfl dX0_feed_16 (by decide) ?_
    refine wp_iret dX0_feed_17 rfl ?_
    exact sm_zi cFr.rf hZ rfl
end E5
