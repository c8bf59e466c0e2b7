/-! ===== the component: what is done ===== -/
set_option maxRecDepth 100000
/-- the model's cells are kept -/
def cFr (I J : sm_I) : Prop := ∀ a, 898 ≤ a → a < 943 → J a = I a
theorem cFr.rf {I : sm_I} : cFr I I := fun _ _ _ => rfl
theorem cFr.tr {I J K : sm_I} (h : cFr I J) (h2 : cFr J K) : cFr I K := fun a h1 h3 => (h2 a h1 h3).trans (h a h1 h3)
theorem cFr.t {I J : sm_I} (h : cf (tWs 79) I J) : cFr I J := fun a h1 h2 => h a (fun z => by
  have := tWs_mem.mp z
  omega)
abbrev zPost (I : sm_I) (ρ : sm_R) (tp : Nat) (q : tq4) (v : Int32) (S : yS) : sm_O → sm_I → sm_R → Prop := sm_Qi (fun r I1 ρ1 => ρ1 = ρ ∧ cZ I1 ρ tp q S ∧ r = v ∧ cFr I I1)
theorem sm_zi {I J : sm_I} {ρ : sm_R} {tp : Nat} {q : tq4} {v r : Int32} {S : yS} (f : cFr I J) (h : cZ J ρ tp q S) (e : v = r) : zPost I ρ tp q r S (.inl (some (.int v))) J ρ := ⟨v, rfl, rfl, h, e, f⟩
theorem cZ.town {I J : sm_I} {ρ : sm_R} {tp : Nat} {q : tq4} {S : yS} {w : Nat → Int32} (h : cZ I ρ tp q S) (hf : cf (tWs 79) I J) (hR : tR J 79 w (tx_seed (y_T S))) (hw : wok w ∧ wkT (y_T S) w) : cZ J ρ tp q (y_set S w (y_H S)) := by
  obtain ⟨⟨hK, hP, hT, hk, -, -⟩, h2, h3, h4, h5, h6⟩ := h
  have e : ∀ a, a < 79 ∨ 95 ≤ a → J a = I a := fun a ha => hf a (fun z => by
    have := tWs_mem.mp z
    omega)
  have e64 : J 64 = I 64 := e 64 (by omega)
  refine ⟨⟨hK, hP, hT.kept (hf.T (tW_s ⟨by decide, by decide⟩)), hk, hw, hR⟩, h2.kept (by rw [e64]) (by rw [e64]) (fun a _ _ => e a (by omega)), ?_, h4.kept (fun a ha => e a (by omega)), ?_, by rw [e64]; exact h6⟩
  · show cD J (y_T S) (y_D S)
    unfold cD
    rw [e64, e 254 (by omega), e 255 (by omega), e 256 (by omega)]
    exact h3
  · show cP J (y_P S)
    unfold cP
    rw [e 66 (by omega), e 68 (by omega)]
    exact h5
theorem wkT_polish {T : tx} {w : Nat → Int32} (h : wkT T w) (hk : tok T) {dd : Nat} (hd : dd < tx_D T) : wkT T (r_polish T w dd) := by
  have h6 := hk.1.1
  have h1 := wkT_fcs (F := r_polF T w dd) h (dd := dd) (by omega)
  unfold r_polish
  exact ⟨fun i i1 i2 => by rw [pk_un (by omega)]; exact h1.1 i i1 i2, fun i i1 i2 => by rw [pk_un (by omega)]; exact h1.2 i i1 i2⟩
section E4
variable {G : sm_G} {d : Nat} {I : sm_I} {ρ : sm_R} {tp : Nat} {q : tq4} {S : yS}
theorem s_keeps (hZ : cZ I ρ tp q S) : sm_M G xX0_keeps (d + 3) [.ref 64] I ρ (sm_Qv (fun I1 ρ1 => ρ1 = ρ ∧ cFr I I1 ∧ cZ I1 ρ tp q (y_rec S (y_w S)))) := by
  obtain ⟨hA, hH, hD, hC, hTp, hpl⟩ := hZ
  obtain ⟨hK, hP, hT, hk, hw, hR⟩ := hA
  obtain ⟨n1, n2, u, u1, u2, u3⟩ := hH
  have ht := k_town hK
  show sm_V G xX0_keeps (d + 3) 0 [.ref 64] [] I ρ _
  refine wp_aload0 1 rfl dX0_keeps_0 ?_
  refine wp_getr 4 rfl dX0_keeps_1 fX0_69_1 (o1 hK) (p1_9 hK) ?_
  refine wp_aload0 5 rfl dX0_keeps_4 ?_
  refine wp_geti 8 rfl dX0_keeps_5 fX0_258_1 (o1 hK) ?_
  refine wp_aald (t := 7) 9 rfl dX0_keeps_8 (by decide) rfl rfl (s1_9 hK) (u) (u2) (⟨by omega, by decide⟩) (e1_9 hK (by omega)) ?_
  refine wp_aload0 10 rfl dX0_keeps_9 ?_
  refine wp_getr 13 rfl dX0_keeps_10 fX0_62_1 (o1 hK) (p1_7 hK) ?_
  refine wp_Vv1 16 rfl dX0_keeps_13 kX5_takes lX0_261 (o6 (k_past hK (by omega))) (nl rfl) (nl rfl) (s_takes (k_past hK u1) ht (by omega) hR) (fun J ρ1 hq => ?_)
  obtain ⟨e1, f1, hR1⟩ := hq
  have e1 := e1.symm
  subst e1
  have e : ∀ a, a < 258 + 16 * u ∨ 258 + 16 * u + 16 ≤ a → J a = I a := fun a ha => f1 a (fun z => by
    have := tWs_mem.mp z
    omega)
  have e64 : J 64 = I 64 := e 64 (by omega)
  have v6 : J 64 6 = nI u := by rw [e64]; exact u2
  have v5 : J 64 5 = nI (y_H S).length := by rw [e64]; exact n1
  refine wp_aload0 17 rfl dX0_keeps_16 ?_
  refine wp_aload0 18 rfl dX0_keeps_17 ?_
  refine wp_geti 21 rfl dX0_keeps_18 fX0_258_1 (o1 hK) ?_
  refine wp_iconst (nI 1) 22 rfl dX0_keeps_21 (by decide) ?_
  refine wp_iadd 23 rfl dX0_keeps_22 ?_
  refine wp_bipush (nI 40) 25 rfl dX0_keeps_23 (by decide) ?_
  rw [v6, nI_add]
  refine wp_irem 26 rfl dX0_keeps_25 (by decide) ?_
  rw [pk_rem (by omega) (by decide) (by decide)]
  refine wp_puti 29 rfl dX0_keeps_26 pX0_258_1 (o1 hK) (⟨rfl, rfl⟩) ?_
  refine wp_aload0 30 rfl dX0_keeps_29 ?_
  refine wp_bipush (nI 40) 32 rfl dX0_keeps_30 (by decide) ?_
  refine wp_aload0 33 rfl dX0_keeps_32 ?_
  refine wp_geti 36 rfl dX0_keeps_33 fX0_136_1 (o1 hK) ?_
  have w5 : sm_u J 64 6 (nI ((u + 1) % 40)) 64 5 = nI (y_H S).length := by
    rw [sm_u_eq, pk_un (by decide)]
    exact v5
  rw [w5]
  refine wp_iconst (nI 1) 37 rfl dX0_keeps_36 (by decide) ?_
  refine wp_iadd 38 rfl dX0_keeps_37 ?_
  rw [nI_add]
  refine wp_mmin 41 rfl dX0_keeps_38 q1263 (nl rfl) ?_
  show sm_V G xX0_keeps (d + 3) 41 _ (.int (z_min (nI 40) (nI ((y_H S).length + 1))) :: _) _ ρ _
  obtain ⟨n', hn'⟩ : ∃ n', n' = if (y_H S).length + 1 < 40 then (y_H S).length + 1 else 40 := ⟨_, rfl⟩
  have em : z_min (nI 40) (nI ((y_H S).length + 1)) = nI n' := by
    unfold z_min
    by_cases h : (y_H S).length + 1 < 40
    · rw [if_pos (nI_lt h (by decide)), hn', if_pos h]
    · rw [if_neg (i_lt_le (nI_le (by omega) (by omega))), hn', if_neg h]
  rw [em]
  refine wp_puti 44 rfl dX0_keeps_41 pX0_136_1 (o1 hK) (⟨rfl, rfl⟩) ?_
  refine wp_vret dX0_keeps_44 rfl ?_
  obtain ⟨J2, hJ2⟩ : ∃ J2, J2 = sm_u (sm_u J 64 6 (nI ((u + 1) % 40))) 64 5 (nI n') := ⟨_, rfl⟩
  rw [← hJ2]
  have g : ∀ a, ¬ a = 64 → J2 a = J a := fun a ha => by rw [hJ2, sm_u_ne _ _ _ ha, sm_u_ne _ _ _ ha]
  have g64 : ∀ k, ¬ k = 5 → ¬ k = 6 → J2 64 k = I 64 k := fun k k5 k6 => by rw [hJ2, sm_u_eq, pk_un k5, sm_u_eq, pk_un k6, e64]
  have g5 : J2 64 5 = nI n' := by rw [hJ2, sm_u_eq, pk_us]
  have g6 : J2 64 6 = nI ((u + 1) % 40) := by rw [hJ2, sm_u_eq, pk_un (by decide), sm_u_eq, pk_us]
  have eI : ∀ a, ¬ a = 64 → a < 258 + 16 * u ∨ 258 + 16 * u + 16 ≤ a → J2 a = I a := fun a h1 h2 => (g a h1).trans (e a h2)
  have hlen : ((y_w S :: y_H S).take 40).length = n' := by
    rw [List.length_take, List.length_cons, hn']
    split <;> omega
  refine ⟨rfl, rfl, (fun a h1 h2 => eI a (by omega) (by omega)), ⟨hK, hP, ?_, hk, hw, hR.eq (fun k hk => eI _ (by omega) (by omega))⟩, ?_, ?_, hC.kept (fun a ha => eI a (by omega) (by omega)), ?_, ?_⟩
  · refine hT.kept (fun a ha => ?_)
    unfold tA at ha
    exact eI a (by omega) (by omega)
  · show cH J2 (y_T S) ((y_w S :: y_H S).take 40)
    refine ⟨by rw [hlen]; exact g5, by rw [hlen, hn']; split <;> omega, (u + 1) % 40, Nat.mod_lt _ (by decide), g6, fun i r hi => ?_⟩
    have hi40 : i < 40 := by
      have := (List.getElem?_eq_some_iff.mp hi).1
      rw [hlen, hn'] at this
      split at this <;> omega
    rw [List.getElem?_take_of_lt hi40] at hi
    cases i with
    | zero =>
      cases hi
      refine ⟨hw, ?_⟩
      rw [show ((u + 1) % 40 + 39 - 0) % 40 = u by omega]
      exact hR1.eq (fun k hk => g _ (by omega))
    | succ i =>
      have hi : (y_H S)[i]? = some r := hi
      obtain ⟨x1, x2⟩ := u3 i r hi
      refine ⟨x1, ?_⟩
      rw [show ((u + 1) % 40 + 39 - (i + 1)) % 40 = (u + 39 - i) % 40 by omega]
      exact x2.eq (fun k hk => eI _ (by omega) (by omega))
  · show cD J2 (y_T S) (y_D S)
    unfold cD
    rw [g64 17 (by decide) (by decide), eI 254 (by omega) (by omega), eI 255 (by omega) (by omega), eI 256 (by omega) (by omega)]
    exact hD
  · show cP J2 (y_P S)
    unfold cP
    rw [eI 66 (by omega) (by omega), eI 68 (by omega) (by omega)]
    exact hTp
  · rw [g64 4 (by decide) (by decide)]
    exact hpl

theorem c_lift (hZ : cZ I ρ tp q S) (x y : Int32) : sm_M G xX0_lift (d + 408) [.ref 64, .int x, .int y] I ρ (zPost I ρ tp q (y_lift S x y).1 (y_lift S x y).2) := by
  have hZ0 := hZ
  obtain ⟨hA, hH, hD, hC, hTp, hpl⟩ := hZ
  obtain ⟨hK, hP, hT, hk, ⟨hw, hz⟩, hR⟩ := hA
  show sm_V G xX0_lift (d + 408) 0 [.ref 64, .int x, .int y] [] I ρ _
  obtain ⟨h6, h5, h10⟩ := hk.1
  have ht := k_town hK
  unfold y_lift
  refine wp_aload0 1 rfl dX0_lift_0 ?_
  refine wp_iload1 2 rfl dX0_lift_1 ?_
  refine wp_Ve1 5 rfl dX0_lift_2 kX0_isDoor lX0_185 (o1 hK) (nl rfl) (nl rfl) (s_cisDoor hK hP hT hk x) ?_
  by_cases hX : ∃ j, j < tx_D (y_T S) ∧ x = nI j
  · obtain ⟨j, hj, e⟩ := hX
    subst e
    rw [z_ix_n hj (by omega)]
    refine wp_if_eq 8 16 rfl rfl dX0_lift_5 (fun c5 => absurd c5 (z_b_ne.mpr ⟨j, hj, rfl⟩)) (fun c5 => ?_)
    refine wp_aload0 9 rfl dX0_lift_8 ?_
    refine wp_iload2 10 rfl dX0_lift_9 ?_
    refine wp_Ve1 13 rfl dX0_lift_10 kX0_isCaller lX0_212 (o1 hK) (nl rfl) (nl rfl) (s_cisCaller hK hP hT hk y) ?_
    by_cases hX : ∃ j, j < tx_C (y_T S) ∧ y = nI j
    · obtain ⟨c, hc, e⟩ := hX
      subst e
      rw [z_ix_n hc (by omega)]
      refine wp_if_ne 16 18 rfl rfl dX0_lift_13 (fun c13 => ?_) (fun c13 => absurd c13 (z_b_ne.mpr ⟨c, hc, rfl⟩))
      refine wp_aload0 19 rfl dX0_lift_18 ?_
      refine wp_Vv0 22 rfl dX0_lift_19 kX0_keeps lX0_268 (o1 hK) (nl rfl) (nl rfl) (s_keeps (d := d + 404) hZ0) (fun J ρ1 hq9 => ?_)
      obtain ⟨e1, k9, hZ1⟩ := hq9
      have e1 := e1.symm
      subst e1
      have hA1 := hZ1.1
      obtain ⟨-, -, hT, -, -, hR⟩ := hA1
      refine wp_aload0 23 rfl dX0_lift_22 ?_
      refine wp_getr 26 rfl dX0_lift_23 fX0_62_1 (o1 hK) (p1_7 hK) ?_
      refine wp_aload0 27 rfl dX0_lift_26 ?_
      refine wp_getr 30 rfl dX0_lift_27 fX0_51_1 (o1 hK) (hP) ?_
      refine wp_iload1 31 rfl dX0_lift_30 ?_
      refine wp_iload2 32 rfl dX0_lift_31 ?_
      refine wp_Vv3 35 rfl dX0_lift_32 kX5_lift lX0_271 (o6 (k_town hK)) (nl rfl) (nl rfl) (s_clift (d := d + 2) ht ⟨by decide, by decide⟩ hR hw hT hk (by omega) hc) (fun J1 ρ1 hq9 => ?_)
      obtain ⟨e1, f1, hR1⟩ := hq9
      have e1 := e1.symm
      subst e1
      refine wp_iconst (nI 1) 36 rfl dX0_lift_35 (by decide) ?_
      refine wp_zret dX0_lift_36 rfl (rfl) ?_
      exact sm_zi (k9.tr (cFr.t f1)) (hZ1.town f1 hR1 ⟨wok_lift hw hk (by omega) hc, wkT_lift hz hk hj hc⟩) rfl
    · rw [z_ix_no (by omega) hX]
      refine wp_if_ne 16 18 rfl rfl dX0_lift_13 (fun c13 => absurd (z_b_eq.mpr hX) c13) (fun c13 => ?_)
      refine wp_iconst (nI 0) 17 rfl dX0_lift_16 (by decide) ?_
      refine wp_zret dX0_lift_17 rfl (rfl) ?_
      exact sm_zi cFr.rf hZ0 rfl
  · rw [z_ix_no (by omega) hX]
    refine wp_if_eq 8 16 rfl rfl dX0_lift_5 (fun c5 => ?_) (fun c5 => absurd (z_b_eq.mpr hX) c5)
    refine wp_iconst (nI 0) 17 rfl dX0_lift_16 (by decide) ?_
    refine wp_zret dX0_lift_17 rfl (rfl) ?_
    exact sm_zi cFr.rf hZ0 rfl
theorem c_polish (hZ : cZ I ρ tp q S) (x : Int32) : sm_M G xX0_polish (d + 408) [.ref 64, .int x] I ρ (zPost I ρ tp q (y_polish S x).1 (y_polish S x).2) := by
  have hZ0 := hZ
  obtain ⟨hA, hH, hD, hC, hTp, hpl⟩ := hZ
  obtain ⟨hK, hP, hT, hk, ⟨hw, hz⟩, hR⟩ := hA
  show sm_V G xX0_polish (d + 408) 0 [.ref 64, .int x] [] I ρ _
  obtain ⟨h6, h5, h10⟩ := hk.1
  have ht := k_town hK
  unfold y_polish
  refine wp_aload0 1 rfl dX0_polish_0 ?_
  refine wp_iload1 2 rfl dX0_polish_1 ?_
  refine wp_Ve1 5 rfl dX0_polish_2 kX0_isDoor lX0_185 (o1 hK) (nl rfl) (nl rfl) (s_cisDoor hK hP hT hk x) ?_
  by_cases hX : ∃ j, j < tx_D (y_T S) ∧ x = nI j
  · obtain ⟨j, hj, e⟩ := hX
    subst e
    rw [z_ix_n hj (by omega)]
    refine wp_if_ne 8 10 rfl rfl dX0_polish_5 (fun c5 => ?_) (fun c5 => absurd c5 (z_b_ne.mpr ⟨j, hj, rfl⟩))
    refine wp_aload0 11 rfl dX0_polish_10 ?_
    refine wp_Vv0 14 rfl dX0_polish_11 kX0_keeps lX0_268 (o1 hK) (nl rfl) (nl rfl) (s_keeps (d := d + 404) hZ0) (fun J ρ1 hq9 => ?_)
    obtain ⟨e1, k9, hZ1⟩ := hq9
    have e1 := e1.symm
    subst e1
    have hA1 := hZ1.1
    obtain ⟨-, -, hT, -, -, hR⟩ := hA1
    refine wp_aload0 15 rfl dX0_polish_14 ?_
    refine wp_getr 18 rfl dX0_polish_15 fX0_62_1 (o1 hK) (p1_7 hK) ?_
    refine wp_aload0 19 rfl dX0_polish_18 ?_
    refine wp_getr 22 rfl dX0_polish_19 fX0_51_1 (o1 hK) (hP) ?_
    refine wp_iload1 23 rfl dX0_polish_22 ?_
    refine wp_Vv2 26 rfl dX0_polish_23 kX5_polish lX0_275 (o6 (k_town hK)) (nl rfl) (nl rfl) (s_cpolish (d := d + 404) ht ⟨by decide, by decide⟩ hR hw hT hk hj) (fun J1 ρ1 hq9 => ?_)
    obtain ⟨e1, f1, hR1⟩ := hq9
    have e1 := e1.symm
    subst e1
    refine wp_iconst (nI 1) 27 rfl dX0_polish_26 (by decide) ?_
    refine wp_zret dX0_polish_27 rfl (rfl) ?_
    exact sm_zi (k9.tr (cFr.t f1)) (hZ1.town f1 hR1 ⟨wok_polish hw hk hj, wkT_polish hz hk hj⟩) rfl
  · rw [z_ix_no (by omega) hX]
    refine wp_if_ne 8 10 rfl rfl dX0_polish_5 (fun c5 => absurd (z_b_eq.mpr hX) c5) (fun c5 => ?_)
    refine wp_iconst (nI 0) 9 rfl dX0_polish_8 (by decide) ?_
    refine wp_zret dX0_polish_9 rfl (rfl) ?_
    exact sm_zi cFr.rf hZ0 rfl
theorem c_file (hZ : cZ I ρ tp q S) (x y : Int32) : sm_M G xX0_file (d + 408) [.ref 64, .int x, .int y] I ρ (zPost I ρ tp q (y_file S x y).1 (y_file S x y).2) := by
  have hZ0 := hZ
  obtain ⟨hA, hH, hD, hC, hTp, hpl⟩ := hZ
  obtain ⟨hK, hP, hT, hk, ⟨hw, hz⟩, hR⟩ := hA
  show sm_V G xX0_file (d + 408) 0 [.ref 64, .int x, .int y] [] I ρ _
  obtain ⟨h6, h5, h10⟩ := hk.1
  have ht := k_town hK
  unfold y_file
  refine wp_aload0 1 rfl dX0_file_0 ?_
  refine wp_iload1 2 rfl dX0_file_1 ?_
  refine wp_Ve1 5 rfl dX0_file_2 kX0_isDoor lX0_185 (o1 hK) (nl rfl) (nl rfl) (s_cisDoor hK hP hT hk x) ?_
  by_cases hX : ∃ j, j < tx_D (y_T S) ∧ x = nI j
  · obtain ⟨j, hj, e⟩ := hX
    subst e
    rw [z_ix_n hj (by omega)]
    refine wp_if_eq 8 29 rfl rfl dX0_file_5 (fun c5 => absurd c5 (z_b_ne.mpr ⟨j, hj, rfl⟩)) (fun c5 => ?_)
    refine wp_iload2 9 rfl dX0_file_8 ?_
    refine wp_Se1 12 rfl dX0_file_9 kX0_isPart lX0_189 (nl rfl) (nl rfl) (s_cisPart y) ?_
    by_cases hX : ∃ j, j < 4 ∧ y = nI j
    · obtain ⟨p, hp, e⟩ := hX
      subst e
      rw [z_ix_n hp (by decide)]
      have r1 := hR.1 j p (by omega) hp
      refine wp_if_eq 15 29 rfl rfl dX0_file_12 (fun c12 => absurd c12 (z_b_ne.mpr (z_p4 hp))) (fun c12 => ?_)
      refine wp_aload0 16 rfl dX0_file_15 ?_
      refine wp_getr 19 rfl dX0_file_16 fX0_62_1 (o1 hK) (p1_7 hK) ?_
      refine wp_getr 22 rfl dX0_file_19 fX0_170_6 (o6 (k_town hK)) (p6_0 (k_town hK)) ?_
      refine wp_iload1 23 rfl dX0_file_22 ?_
      refine wp_aald (t := 10) 24 rfl dX0_file_23 (by decide) rfl rfl (s6_0 (k_town hK)) (j) (by first | rfl | simp only [pk_mul, nI_add]) (⟨by omega, by decide⟩) (e6_0 (k_town hK) (by omega)) ?_
      refine wp_iload2 25 rfl dX0_file_24 ?_
      refine wp_iald 26 rfl dX0_file_25 (i6_0 (k_town hK) (by omega)) (p) (by first | rfl | simp only [pk_mul, nI_add]) (⟨by omega, by decide⟩) ?_
      rw [r1]
      show sm_V G xX0_file (d + 408) 26 _ _ I ρ (zPost I ρ tp q (if y_w S (4 * j + p) = 0 then (nI 0, S) else (nI 1, y_rec S (upd (y_w S) (4 * j + p) (nI 0)))).1 (if y_w S (4 * j + p) = 0 then (nI 0, S) else (nI 1, y_rec S (upd (y_w S) (4 * j + p) (nI 0)))).2)
      by_cases h0 : y_w S (4 * j + p) = 0
      · rw [if_pos h0]
        refine wp_if_ne 29 31 rfl rfl dX0_file_26 (fun c26 => absurd (h0) c26) (fun c26 => ?_)
        refine wp_iconst (nI 0) 30 rfl dX0_file_29 (by decide) ?_
        refine wp_zret dX0_file_30 rfl (rfl) ?_
        exact sm_zi cFr.rf hZ0 rfl
      · rw [if_neg h0]
        refine wp_if_ne 29 31 rfl rfl dX0_file_26 (fun c26 => ?_) (fun c26 => absurd c26 (h0))
        refine wp_aload0 32 rfl dX0_file_31 ?_
        refine wp_Vv0 35 rfl dX0_file_32 kX0_keeps lX0_268 (o1 hK) (nl rfl) (nl rfl) (s_keeps (d := d + 404) hZ0) (fun J ρ1 hq9 => ?_)
        obtain ⟨e1, k9, hZ1⟩ := hq9
        have e1 := e1.symm
        subst e1
        have hA1 := hZ1.1
        obtain ⟨-, -, hT, -, -, hR⟩ := hA1
        refine wp_aload0 36 rfl dX0_file_35 ?_
        refine wp_getr 39 rfl dX0_file_36 fX0_62_1 (o1 hK) (p1_7 hK) ?_
        refine wp_getr 42 rfl dX0_file_39 fX0_170_6 (o6 (k_town hK)) (p6_0 (k_town hK)) ?_
        refine wp_iload1 43 rfl dX0_file_42 ?_
        refine wp_aald (t := 10) 44 rfl dX0_file_43 (by decide) rfl rfl (s6_0 (k_town hK)) (j) (by first | rfl | simp only [pk_mul, nI_add]) (⟨by omega, by decide⟩) (e6_0 (k_town hK) (by omega)) ?_
        refine wp_iload2 45 rfl dX0_file_44 ?_
        refine wp_iconst (nI 0) 46 rfl dX0_file_45 (by decide) ?_
        refine wp_iast 47 rfl dX0_file_46 (i6_0 (k_town hK) (by omega)) (p) (by first | rfl | simp only [pk_mul, nI_add]) (⟨by omega, by decide⟩) ?_
        refine wp_iconst (nI 1) 48 rfl dX0_file_47 (by decide) ?_
        refine wp_zret dX0_file_48 rfl (rfl) ?_
        refine sm_zi (k9.tr (cFr.t (cf.su (by omega)))) (hZ1.town (cf.su (by omega)) (hR.face (by omega) hp (nI 0)) ⟨wok_f hw (by omega) (f := 0) (by decide), ⟨fun dd h1 h2 => ?_, fun i h1 h2 => ?_⟩⟩) rfl
        · rw [pk_un (by omega)]
          exact hz.1 dd h1 h2
        · rw [pk_un (by omega)]
          exact hz.2 i h1 h2
    · rw [z_ix_no (by decide) hX]
      refine wp_if_eq 15 29 rfl rfl dX0_file_12 (fun c12 => ?_) (fun c12 => absurd (z_b_eq.mpr (z_p4n hX)) c12)
      refine wp_iconst (nI 0) 30 rfl dX0_file_29 (by decide) ?_
      refine wp_zret dX0_file_30 rfl (rfl) ?_
      exact sm_zi cFr.rf hZ0 rfl
  · rw [z_ix_no (by omega) hX]
    refine wp_if_eq 8 29 rfl rfl dX0_file_5 (fun c5 => ?_) (fun c5 => absurd (z_b_eq.mpr hX) c5)
    refine wp_iconst (nI 0) 30 rfl dX0_file_29 (by decide) ?_
    refine wp_zret dX0_file_30 rfl (rfl) ?_
    exact sm_zi cFr.rf hZ0 rfl
theorem c_keep (hZ : cZ I ρ tp q S) (x v : Int32) (hv : v = nI 0 ∨ v = nI 1) : sm_M G xX0_keep (d + 408) [.ref 64, .int x, .int v] I ρ (zPost I ρ tp q (y_keep S x v).1 (y_keep S x v).2) := by
  have hZ0 := hZ
  obtain ⟨hA, hH, hD, hC, hTp, hpl⟩ := hZ
  obtain ⟨hK, hP, hT, hk, ⟨hw, hz⟩, hR⟩ := hA
  show sm_V G xX0_keep (d + 408) 0 [.ref 64, .int x, .int v] [] I ρ _
  obtain ⟨h6, h5, h10⟩ := hk.1
  have ht := k_town hK
  unfold y_keep
  refine wp_aload0 1 rfl dX0_keep_0 ?_
  refine wp_iload1 2 rfl dX0_keep_1 ?_
  refine wp_Ve1 5 rfl dX0_keep_2 kX0_isRound lX0_221 (o1 hK) (nl rfl) (nl rfl) (s_cisRound hK hP hT hk x) ?_
  by_cases hX : ∃ j, j < tx_R (y_T S) ∧ x = nI j
  · obtain ⟨r, hr, e⟩ := hX
    subst e
    rw [z_ix_n hr (by omega)]
    refine wp_if_eq 8 20 rfl rfl dX0_keep_5 (fun c5 => absurd c5 (z_b_ne.mpr ⟨r, hr, rfl⟩)) (fun c5 => ?_)
    refine wp_aload0 9 rfl dX0_keep_8 ?_
    refine wp_getr 12 rfl dX0_keep_9 fX0_62_1 (o1 hK) (p1_7 hK) ?_
    refine wp_iload1 13 rfl dX0_keep_12 ?_
    refine wp_Ve1 16 rfl dX0_keep_13 kX5_isKept lX0_238 (o6 (k_town hK)) (nl rfl) (nl rfl) (s_isKept ht hR (by omega)) ?_
    show sm_V G xX0_keep (d + 408) 16 _ _ I ρ (zPost I ρ tp q (if z_b (y_w S (54 + r) = nI 1) = v then (nI 0, S) else (nI 1, y_rec S (upd (y_w S) (54 + r) v))).1 (if z_b (y_w S (54 + r) = nI 1) = v then (nI 0, S) else (nI 1, y_rec S (upd (y_w S) (54 + r) v))).2)
    by_cases h0 : z_b (y_w S (54 + r) = nI 1) = v
    · rw [if_pos h0]
      refine wp_iload2 17 rfl dX0_keep_16 ?_
      refine wp_icmp_ne 20 22 rfl rfl dX0_keep_17 (fun c17 => absurd (h0) c17) (fun c17 => ?_)
      refine wp_iconst (nI 0) 21 rfl dX0_keep_20 (by decide) ?_
      refine wp_zret dX0_keep_21 rfl (rfl) ?_
      exact sm_zi cFr.rf hZ0 rfl
    · rw [if_neg h0]
      refine wp_iload2 17 rfl dX0_keep_16 ?_
      refine wp_icmp_ne 20 22 rfl rfl dX0_keep_17 (fun c17 => ?_) (fun c17 => absurd c17 (h0))
      refine wp_aload0 23 rfl dX0_keep_22 ?_
      refine wp_Vv0 26 rfl dX0_keep_23 kX0_keeps lX0_268 (o1 hK) (nl rfl) (nl rfl) (s_keeps (d := d + 404) hZ0) (fun J ρ1 hq9 => ?_)
      obtain ⟨e1, k9, hZ1⟩ := hq9
      have e1 := e1.symm
      subst e1
      have hA1 := hZ1.1
      obtain ⟨-, -, hT, -, -, hR⟩ := hA1
      refine wp_aload0 27 rfl dX0_keep_26 ?_
      refine wp_getr 30 rfl dX0_keep_27 fX0_62_1 (o1 hK) (p1_7 hK) ?_
      refine wp_dup 31 rfl dX0_keep_30 rfl ?_
      refine wp_geti 34 rfl dX0_keep_31 fX0_279_6 (o6 (k_town hK)) ?_
      refine wp_iconst (nI 1) 35 rfl dX0_keep_34 (by decide) ?_
      refine wp_iload1 36 rfl dX0_keep_35 ?_
      refine wp_ishl 37 rfl dX0_keep_36 ?_
      refine wp_ixor 38 rfl dX0_keep_37 ?_
      refine wp_puti 41 rfl dX0_keep_38 pX0_279_6 (o6 (k_town hK)) (⟨rfl, rfl⟩) ?_
      have eK : J 79 6 ^^^ nI 1 <<< (nI r &&& 31) = z_set (fun i => upd (y_w S) (54 + r) v (54 + i) = nI 1) 10 := by
        rw [hR.2.2.2.1]
        refine z_set_xo _ _ (Nat.le_refl _) (by omega) (fun i hi => ?_) ?_
        · rw [pk_un (by omega)]
          exact Iff.rfl
        · rw [pk_us]
          rcases hv with e | e
          · subst e
            constructor
            · intro z
              exact absurd z (by decide)
            · intro z
              exact absurd (z_bf z) h0
          · subst e
            constructor
            · intro _ z
              exact h0 (z_bt z)
            · intro _
              rfl
      refine wp_iconst (nI 1) 42 rfl dX0_keep_41 (by decide) ?_
      refine wp_zret dX0_keep_42 rfl (rfl) ?_
      refine sm_zi (k9.tr (cFr.t (cf.su (by omega)))) (hZ1.town (cf.su (by omega)) (hR.own (w' := upd (y_w S) (54 + r) v) (fun j hj => pk_un (by omega)) ?_ ?_ ?_ (s' := tx_seed (y_T S)) ?_) ⟨wok_k hw (by omega) hv, ⟨fun dd h1 h2 => ?_, fun i h1 h2 => ?_⟩⟩) rfl
      · rw [pk_us]
        exact eK
      · rw [pk_un (by decide), hR.2.2.2.2.1]
        exact z_set_congr (fun i hi => by rw [pk_un (by omega)]; exact Iff.rfl)
      · rw [pk_un (by decide), pk_un (by omega)]
        exact hR.2.2.2.2.2.1
      · rw [pk_un (by decide)]
        exact hR.2.2.2.2.2.2
      · rw [pk_un (by omega)]
        exact hz.1 dd h1 h2
      · have h1 : tx_R (y_T S) ≤ i := h1
        rw [pk_un (by omega)]
        exact hz.2 i h1 h2
  · rw [z_ix_no (by omega) hX]
    refine wp_if_eq 8 20 rfl rfl dX0_keep_5 (fun c5 => ?_) (fun c5 => absurd (z_b_eq.mpr hX) c5)
    refine wp_iconst (nI 0) 21 rfl dX0_keep_20 (by decide) ?_
    refine wp_zret dX0_keep_21 rfl (rfl) ?_
    exact sm_zi cFr.rf hZ0 rfl
theorem c_days (hZ : cZ I ρ tp q S) (n : Int32) : sm_M G xX0_days (d + 408) [.ref 64, .int n] I ρ (zPost I ρ tp q (y_days S n).1 (y_days S n).2) := by
  have hZ0 := hZ
  obtain ⟨hA, hH, hD, hC, hTp, hpl⟩ := hZ
  obtain ⟨hK, hP, hT, hk, ⟨hw, hz⟩, hR⟩ := hA
  show sm_V G xX0_days (d + 408) 0 [.ref 64, .int n] [] I ρ _
  obtain ⟨h6, h5, h10⟩ := hk.1
  have ht := k_town hK
  unfold y_days
  refine wp_iload1 1 rfl dX0_days_0 ?_
  refine wp_Se1 4 rfl dX0_days_1 kX0_isAhead lX0_286 (nl rfl) (nl rfl) (s_isAhead n) ?_
  by_cases hX : ∃ j, (0 ≤ j ∧ j ≤ 60) ∧ n = nI j
  · obtain ⟨m, hm, e⟩ := hX
    subst e
    rw [z_iv_n (l := 0) (m := 60) hm (by decide) (by decide)]
    refine wp_if_ne 7 9 rfl rfl dX0_days_4 (fun c4 => ?_) (fun c4 => absurd c4 (z_b_ne.mpr ((z_iv_iff (l := 0) (m := 60) (by decide) (by decide)).mpr ⟨m, hm, rfl⟩)))
    by_cases h0 : m = 0
    · subst h0
      show sm_V G xX0_days (d + 408) 9 _ _ I ρ (zPost I ρ tp q (y_w S 69) S)
      refine wp_iload1 10 rfl dX0_days_9 ?_
      refine wp_if_le 13 17 rfl rfl dX0_days_10 (fun c10 => ?_) (fun c10 => absurd (by decide) c10)
      refine wp_aload0 18 rfl dX0_days_17 ?_
      refine wp_aload0 19 rfl dX0_days_18 ?_
      refine wp_getr 22 rfl dX0_days_19 fX0_62_1 (o1 hK) (p1_7 hK) ?_
      refine wp_iload1 23 rfl dX0_days_22 ?_
      refine wp_aload0 24 rfl dX0_days_23 ?_
      refine wp_getr 27 rfl dX0_days_24 fX0_82_1 (o1 hK) (p1_12 hK) ?_
      refine wp_Vv3 30 rfl dX0_days_27 kX0_runs lX0_289 (o1 hK) (nl rfl) (nl rfl) (s_runs (d := d) hK hP ht ⟨by decide, by decide⟩ hR hw hz hT hk (Or.inl ⟨rfl, rfl⟩) 0 (by decide)) (fun J1 ρ1 hq9 => ?_)
      obtain ⟨e1, f1, hR1⟩ := hq9
      have e1 := e1.symm
      subst e1
      refine wp_aload0 31 rfl dX0_days_30 ?_
      refine wp_getr 34 rfl dX0_days_31 fX0_62_1 (o1 hK) (p1_7 hK) ?_
      refine wp_geti 37 rfl dX0_days_34 fX0_241_6 (o6 (k_town hK)) ?_
      refine wp_iret dX0_days_37 rfl ?_
      exact sm_zi (cFr.t f1) (hZ0.town f1 hR1 ⟨hw, hz⟩) hR1.2.2.2.2.2.1
    · show sm_V G xX0_days (d + 408) 9 _ _ I ρ (zPost I ρ tp q (if m = 0 then (y_w S 69, S) else (r_days (y_T S) (nI 0) (tx_seed (y_T S)) (y_w S) m 69, y_rec S (r_days (y_T S) (nI 0) (tx_seed (y_T S)) (y_w S) m))).1 (if m = 0 then (y_w S 69, S) else (r_days (y_T S) (nI 0) (tx_seed (y_T S)) (y_w S) m 69, y_rec S (r_days (y_T S) (nI 0) (tx_seed (y_T S)) (y_w S) m))).2)
      rw [if_neg h0]
      refine wp_iload1 10 rfl dX0_days_9 ?_
      refine wp_if_le 13 17 rfl rfl dX0_days_10 (fun c10 => absurd c10 (nI_ge (b := m) (a := 0) (by omega) (by omega))) (fun c10 => ?_)
      refine wp_aload0 14 rfl dX0_days_13 ?_
      refine wp_Vv0 17 rfl dX0_days_14 kX0_keeps lX0_268 (o1 hK) (nl rfl) (nl rfl) (s_keeps (d := d + 404) hZ0) (fun J ρ1 hq9 => ?_)
      obtain ⟨e1, k9, hZ1⟩ := hq9
      have e1 := e1.symm
      subst e1
      have hA1 := hZ1.1
      obtain ⟨-, -, hT, -, -, hR⟩ := hA1
      refine wp_aload0 18 rfl dX0_days_17 ?_
      refine wp_aload0 19 rfl dX0_days_18 ?_
      refine wp_getr 22 rfl dX0_days_19 fX0_62_1 (o1 hK) (p1_7 hK) ?_
      refine wp_iload1 23 rfl dX0_days_22 ?_
      refine wp_aload0 24 rfl dX0_days_23 ?_
      refine wp_getr 27 rfl dX0_days_24 fX0_82_1 (o1 hK) (p1_12 hK) ?_
      refine wp_Vv3 30 rfl dX0_days_27 kX0_runs lX0_289 (o1 hK) (nl rfl) (nl rfl) (s_runs (d := d) hK hP ht ⟨by decide, by decide⟩ hR hw hz hT hk (Or.inl ⟨rfl, rfl⟩) m hm.2) (fun J1 ρ1 hq9 => ?_)
      obtain ⟨e1, f1, hR1⟩ := hq9
      have e1 := e1.symm
      subst e1
      refine wp_aload0 31 rfl dX0_days_30 ?_
      refine wp_getr 34 rfl dX0_days_31 fX0_62_1 (o1 hK) (p1_7 hK) ?_
      refine wp_geti 37 rfl dX0_days_34 fX0_241_6 (o6 (k_town hK)) ?_
      refine wp_iret dX0_days_37 rfl ?_
      exact sm_zi (k9.tr (cFr.t f1)) (hZ1.town f1 hR1 (wok_days hw hz hk m)) hR1.2.2.2.2.2.1
  · rw [z_iv_o (l := 0) (m := 60) (fun z => hX ((z_iv_iff (by decide) (by decide)).mp z))]
    refine wp_if_ne 7 9 rfl rfl dX0_days_4 (fun c4 => absurd (z_b_eq.mpr (fun z => hX ((z_iv_iff (l := 0) (m := 60) (by decide) (by decide)).mp z))) c4) (fun c4 => ?_)
    refine wp_iconst (-1) 8 rfl dX0_days_7 (by decide) ?_
    refine wp_iret dX0_days_8 rfl ?_
    exact sm_zi cFr.rf hZ0 rfl
theorem c_undo (hZ : cZ I ρ tp q S) : sm_M G xX0_undo (d + 408) [.ref 64] I ρ (zPost I ρ tp q (y_undo S).1 (y_undo S).2) := by
  have hZ0 := hZ
  obtain ⟨hA, hH, hD, hC, hTp, hpl⟩ := hZ
  obtain ⟨hK, hP, hT, hk, hw, hR⟩ := hA
  obtain ⟨n1, n2, u, u1, u2, u3⟩ := hH
  have ht := k_town hK
  show sm_V G xX0_undo (d + 408) 0 [.ref 64] [] I ρ _
  unfold y_undo
  cases hH0 : y_H S with
  | nil =>
    rw [hH0] at n1
    refine wp_aload0 1 rfl dX0_undo_0 ?_
    refine wp_geti 4 rfl dX0_undo_1 fX0_136_1 (o1 hK) ?_
    refine wp_if_ne 7 9 rfl rfl dX0_undo_4 (fun c4 => absurd (n1) c4) (fun c4 => ?_)
    refine wp_iconst (nI 0) 8 rfl dX0_undo_7 (by decide) ?_
    refine wp_zret dX0_undo_8 rfl (rfl) ?_
    exact sm_zi cFr.rf hZ0 rfl
  | cons r H =>
    rw [hH0] at n1 n2 u3
    have hl : (r :: H).length = H.length + 1 := rfl
    rw [hl] at n1 n2
    refine wp_aload0 1 rfl dX0_undo_0 ?_
    refine wp_geti 4 rfl dX0_undo_1 fX0_136_1 (o1 hK) ?_
    refine wp_if_ne 7 9 rfl rfl dX0_undo_4 (fun c4 => ?_) (fun c4 => absurd c4 (by rw [n1]; exact nI_ne0 (by omega) (by omega)))
    refine wp_aload0 10 rfl dX0_undo_9 ?_
    refine wp_dup 11 rfl dX0_undo_10 rfl ?_
    refine wp_geti 14 rfl dX0_undo_11 fX0_136_1 (o1 hK) ?_
    rw [n1]
    refine wp_iconst (nI 1) 15 rfl dX0_undo_14 (by decide) ?_
    refine wp_isub 16 rfl dX0_undo_15 ?_
    rw [pk_sub (by omega), Nat.add_sub_cancel]
    refine wp_puti 19 rfl dX0_undo_16 pX0_136_1 (o1 hK) (⟨rfl, rfl⟩) ?_
    refine wp_aload0 20 rfl dX0_undo_19 ?_
    refine wp_aload0 21 rfl dX0_undo_20 ?_
    refine wp_geti 24 rfl dX0_undo_21 fX0_258_1 (o1 hK) ?_
    have w6 : sm_u I 64 5 (nI H.length) 64 6 = nI u := by
      rw [sm_u_eq, pk_un (by decide)]
      exact u2
    rw [w6]
    refine wp_bipush (nI 40) 26 rfl dX0_undo_24 (by decide) ?_
    refine wp_iadd 27 rfl dX0_undo_26 ?_
    refine wp_iconst (nI 1) 28 rfl dX0_undo_27 (by decide) ?_
    refine wp_isub 29 rfl dX0_undo_28 ?_
    rw [nI_add, pk_sub (by omega)]
    refine wp_bipush (nI 40) 31 rfl dX0_undo_29 (by decide) ?_
    refine wp_irem 32 rfl dX0_undo_31 (by decide) ?_
    rw [pk_rem (by omega) (by decide) (by decide)]
    refine wp_puti 35 rfl dX0_undo_32 pX0_258_1 (o1 hK) (⟨rfl, rfl⟩) ?_
    obtain ⟨v, hv⟩ : ∃ v, v = (u + 40 - 1) % 40 := ⟨_, rfl⟩
    rw [← hv]
    have hv40 : v < 40 := by omega
    obtain ⟨J2, hJ2⟩ : ∃ J2, J2 = sm_u (sm_u I 64 5 (nI H.length)) 64 6 (nI v) := ⟨_, rfl⟩
    rw [← hJ2]
    have g : ∀ a, ¬ a = 64 → J2 a = I a := fun a ha => by rw [hJ2, sm_u_ne _ _ _ ha, sm_u_ne _ _ _ ha]
    have g64 : ∀ k, ¬ k = 5 → ¬ k = 6 → J2 64 k = I 64 k := fun k k5 k6 => by rw [hJ2, sm_u_eq, pk_un k6, sm_u_eq, pk_un k5]
    have g5 : J2 64 5 = nI H.length := by rw [hJ2, sm_u_eq, pk_un (by decide), sm_u_eq, pk_us]
    have g6 : J2 64 6 = nI v := by rw [hJ2, sm_u_eq, pk_us]
    obtain ⟨x1, x2⟩ := u3 0 r rfl
    rw [show (u + 39 - 0) % 40 = v by omega] at x2
    have x2 : tR J2 (258 + 16 * v) r (tx_seed (y_T S)) := x2.eq (fun k hk => g _ (by omega))
    have hZ2 : cZ J2 ρ tp q (y_set S (y_w S) H) := by
      refine ⟨⟨hK, hP, hT.kept (fun a ha => g a (by unfold tA at ha; omega)), hk, hw, hR.eq (fun k hk => g _ (by omega))⟩, ⟨g5, (show H.length ≤ 40 by have : H.length + 1 ≤ 40 := n2; omega), v, hv40, g6, fun i s hi => ?_⟩, ?_, hC.kept (fun a ha => g a (by omega)), ?_, ?_⟩
      · obtain ⟨y1, y2⟩ := u3 (i + 1) s hi
        have hi39 : i + 1 < 40 := by
          have hi9 : H[i]? = some s := hi
          have := (List.getElem?_eq_some_iff.mp hi9).1
          have n2 : H.length + 1 ≤ 40 := n2
          omega
        refine ⟨y1, ?_⟩
        rw [show (v + 39 - i) % 40 = (u + 39 - (i + 1)) % 40 by omega]
        exact y2.eq (fun k hk => g _ (by omega))
      · show cD J2 (y_T S) (y_D S)
        unfold cD
        rw [g64 17 (by decide) (by decide), g 254 (by omega), g 255 (by omega), g 256 (by omega)]
        exact hD
      · show cP J2 (y_P S)
        unfold cP
        rw [g 66 (by omega), g 68 (by omega)]
        exact hTp
      · rw [g64 4 (by decide) (by decide)]
        exact hpl
    refine wp_aload0 36 rfl dX0_undo_35 ?_
    refine wp_getr 39 rfl dX0_undo_36 fX0_62_1 (o1 hK) (p1_7 hK) ?_
    refine wp_aload0 40 rfl dX0_undo_39 ?_
    refine wp_getr 43 rfl dX0_undo_40 fX0_69_1 (o1 hK) (p1_9 hK) ?_
    refine wp_aload0 44 rfl dX0_undo_43 ?_
    refine wp_geti 47 rfl dX0_undo_44 fX0_258_1 (o1 hK) ?_
    refine wp_aald (t := 7) 48 rfl dX0_undo_47 (by decide) rfl rfl (s1_9 hK) (v) (g6) (⟨by omega, by decide⟩) (e1_9 hK (by omega)) ?_
    refine wp_Vv1 51 rfl dX0_undo_48 kX5_takes lX0_261 (o6 (k_town hK)) (nl rfl) (nl rfl) (s_takes ht (k_past hK hv40) (by omega) x2) (fun J3 ρ1 hq9 => ?_)
    obtain ⟨e1, f1, hR1⟩ := hq9
    have e1 := e1.symm
    subst e1
    refine wp_iconst (nI 1) 52 rfl dX0_undo_51 (by decide) ?_
    refine wp_zret dX0_undo_52 rfl (rfl) ?_
    exact sm_zi (fun a h1 h2 => ((cFr.t f1) a h1 h2).trans (g a (by omega))) (hZ2.town f1 hR1 x1) rfl
end E4
