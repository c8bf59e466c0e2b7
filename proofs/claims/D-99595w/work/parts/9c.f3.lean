/-! ===== the component's tokens: number ===== -/
set_option maxRecDepth 100000
section F3
variable {G : sm_G} {d : Nat} {I : sm_I} {ρ : sm_R} {P : Nat × (Nat → Int32)}
theorem s_tnumber (hK : kd ρ) (hP : cP I P) {t i e : Nat} (ht : t ≤ 2000) (h1 : I 70 t = nI i) (h2 : I 71 t = nI e) (hie : i ≤ e) (h4 : e ≤ i + 4) (hd : ∀ j, i ≤ j → j < e → ky_D (ky_c P.1 P.2 j)) : sm_M G xX2_number d [.ref 66, .int (nI t)] I ρ (sm_Qe (some (.int (nI (ky_nu (ky_c P.1 P.2) i (e - i))))) I ρ) := by
  have p2 := hP.2.1
  have hi : i < e → i ≤ 2000 ∧ e ≤ 2000 := fun h => by
    have a1 := ky_c_lt (n := P.1) (b := P.2) (j := e - 1) (by have := hd (e - 1) (by omega) (by omega); omega)
    omega
  show sm_V G xX2_number d 0 [.ref 66, .int (nI t), .retAddr 0, .retAddr 0] [] I ρ _
  refine wp_iconst (nI 0) 1 rfl dX2_number_0 (by decide) ?_
  refine wp_istore2 2 rfl dX2_number_1 (by decide) rfl ?_
  refine wp_aload0 3 rfl dX2_number_2 ?_
  refine wp_getr 6 rfl dX2_number_3 fX2_66_3 (o3 hK) (p3_4 hK) ?_
  refine wp_iload1 7 rfl dX2_number_6 ?_
  refine wp_sald 8 rfl dX2_number_7 (s3_4 hK) (t) (by first | rfl | simp only [pk_mul, nI_add]) (⟨by omega, by decide⟩) ?_
  rw [h1]
  refine wp_istore3 9 rfl dX2_number_8 (by decide) rfl ?_
  rcases Nat.eq_or_lt_of_le hie with e0 | e0
  · subst e0
    rw [Nat.sub_self]
    refine wp_iload3 10 rfl dX2_number_9 ?_
    refine wp_aload0 11 rfl dX2_number_10 ?_
    refine wp_getr 14 rfl dX2_number_11 fX2_70_3 (o3 hK) (p3_5 hK) ?_
    refine wp_iload1 15 rfl dX2_number_14 ?_
    refine wp_sald 16 rfl dX2_number_15 (s3_5 hK) (t) (by first | rfl | simp only [pk_mul, nI_add]) (⟨by omega, by decide⟩) ?_
    rw [h2]
    refine wp_icmp_ge 19 40 rfl rfl dX2_number_16 (fun c16 => ?_) (fun c16 => absurd (Int32.le_refl _) c16)
    refine wp_iload2 41 rfl dX2_number_40 ?_
    refine wp_iret dX2_number_41 rfl ?_
    exact sm_ei rfl
  · obtain ⟨i1, i2⟩ := hi e0
    refine sm_for (P := fun q => sm_V G xX2_number d 9 [.ref 66, .int (nI t), .int (nI (ky_nu (ky_c P.1 P.2) i q)), .int (nI (i + q))] [] I ρ _) 0 (e - i) (Nat.zero_le _) ?_ (fun q _ hq ih => ?_)
    · refine wp_iload3 10 rfl dX2_number_9 ?_
      refine wp_aload0 11 rfl dX2_number_10 ?_
      refine wp_getr 14 rfl dX2_number_11 fX2_70_3 (o3 hK) (p3_5 hK) ?_
      refine wp_iload1 15 rfl dX2_number_14 ?_
      refine wp_sald 16 rfl dX2_number_15 (s3_5 hK) (t) (by first | rfl | simp only [pk_mul, nI_add]) (⟨by omega, by decide⟩) ?_
      rw [h2]
      refine wp_icmp_ge 19 40 rfl rfl dX2_number_16 (fun c16 => ?_) (fun c16 => absurd (nI_le (by omega) (by omega)) c16)
      refine wp_iload2 41 rfl dX2_number_40 ?_
      refine wp_iret dX2_number_41 rfl ?_
      exact sm_ei rfl
    · have hD := hd (i + q) (by omega) (by omega)
      have hlt : i + q < P.1 := ky_c_lt (n := P.1) (b := P.2) (by omega)
      have eb : I 68 (i + q) = nI (ky_c P.1 P.2 (i + q)) := (hP.at hlt).trans (sb_lt ⟨ky_c P.1 P.2 (i + q), by omega⟩)
      have es : ky_nu (ky_c P.1 P.2) i (q + 1) = if q < 4 then 10 * ky_nu (ky_c P.1 P.2) i q + (ky_c P.1 P.2 (i + q) - 48) else ky_nu (ky_c P.1 P.2) i q := rfl
      rw [es, if_pos (by omega)] at ih
      refine wp_iload3 10 rfl dX2_number_9 ?_
      refine wp_aload0 11 rfl dX2_number_10 ?_
      refine wp_getr 14 rfl dX2_number_11 fX2_70_3 (o3 hK) (p3_5 hK) ?_
      refine wp_iload1 15 rfl dX2_number_14 ?_
      refine wp_sald 16 rfl dX2_number_15 (s3_5 hK) (t) (by first | rfl | simp only [pk_mul, nI_add]) (⟨by omega, by decide⟩) ?_
      rw [h2]
      refine wp_icmp_ge 19 40 rfl rfl dX2_number_16 (fun c16 => absurd c16 (nI_ge (by omega) (by omega))) (fun c16 => ?_)
      refine wp_bipush (nI 10) 21 rfl dX2_number_19 (by decide) ?_
      refine wp_iload2 22 rfl dX2_number_21 ?_
      refine wp_imul 23 rfl dX2_number_22 ?_
      refine wp_aload0 24 rfl dX2_number_23 ?_
      refine wp_getr 27 rfl dX2_number_24 fX2_59_3 (o3 hK) (p3_1 hK) ?_
      refine wp_iload3 28 rfl dX2_number_27 ?_
      refine wp_bald 29 rfl dX2_number_28 (s3_1 hK) (i + q) (by first | rfl | simp only [pk_mul, nI_add]) (⟨by omega, by decide⟩) ?_
      rw [eb]
      refine wp_iadd 30 rfl dX2_number_29 ?_
      refine wp_bipush (nI 48) 32 rfl dX2_number_30 (by decide) ?_
      refine wp_isub 33 rfl dX2_number_32 ?_
      rw [pk_mul, nI_add, pk_sub (by omega), Nat.add_sub_assoc hD.1]
      refine wp_istore2 34 rfl dX2_number_33 (by decide) rfl ?_
      refine wp_iincN3 37 rfl dX2_number_34 (by decide) rfl ?_
      refine wp_goto 9 rfl dX2_number_37 ?_
      exact ih
end F3
