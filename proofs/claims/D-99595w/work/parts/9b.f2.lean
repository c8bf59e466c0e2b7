/-! ===== the component's tokens: sign, add ===== -/
set_option maxRecDepth 100000
theorem sb_lt : ∀ c : Fin 128, sb c.val = nI c.val := by decide +kernel
theorem sb_out : ∀ c : Fin 256, ¬ (40 ≤ c.val ∧ c.val ≤ 61) → (sb c.val).toInt < 40 ∨ 61 < (sb c.val).toInt := by decide +kernel
theorem nar_s : ∀ m : Fin 2002, (nI m.val).toInt16.toInt32 = nI m.val := by decide +kernel
theorem nar_s1 : ((-1 : Int32)).toInt16.toInt32 = -1 := by decide +kernel
theorem nar_b : ∀ m : Fin 128, (nI m.val).toInt8.toInt32 = nI m.val := by decide +kernel
/-- a sign is its own number -/
def sgc (c : Nat) : Int32 := if ky_sg c = 3 then nI 0 else nI c
section F2
variable {G : sm_G} {d : Nat} {I : sm_I} {ρ : sm_R} {P : Nat × (Nat → Int32)}
theorem sg_out {c : Nat} (h : ¬ (40 ≤ c ∧ c ≤ 61)) : ky_sg c = 3 := by
  unfold ky_sg
  rw [if_neg (by omega), if_neg (by omega), if_neg (by omega), if_neg (by omega), if_neg (by omega), if_neg (by omega), if_neg (by omega), if_neg (by omega), if_neg (by omega)]
theorem s_tsign (hK : kd ρ) (hP : cP I P) {i : Nat} (hi : i < 100000) : sm_M G xX2_sign (d + 1) [.ref 66, .int (nI i)] I ρ (sm_Qe (some (.int (sgc (ky_c P.1 P.2 i)))) I ρ) := by
  show sm_V G xX2_sign (d + 1) 0 [.ref 66, .int (nI i), .retAddr 0] [] I ρ _
  refine wp_aload0 1 rfl dX2_sign_0 ?_
  refine wp_iload1 2 rfl dX2_sign_1 ?_
  refine wp_Ve1 5 rfl dX2_sign_2 kX2_at lX2_80 (o3 hK) (nl rfl) (nl rfl) (s_tat hK hP hi) ?_
  refine wp_istore2 6 rfl dX2_sign_5 (by decide) rfl ?_
  refine wp_iload2 7 rfl dX2_sign_6 ?_
  have h256 := ky_c_256 P.1 P.2 i
  obtain ⟨c, hc⟩ : ∃ c, c = ky_c P.1 P.2 i := ⟨_, rfl⟩
  rw [← hc] at h256 ⊢
  by_cases h : 40 ≤ c ∧ c ≤ 61
  · rw [show sb c = nI c from sb_lt ⟨c, by omega⟩]
    have h22 : c = 40 ∨ c = 41 ∨ c = 42 ∨ c = 43 ∨ c = 44 ∨ c = 45 ∨ c = 46 ∨ c = 47 ∨ c = 48 ∨ c = 49 ∨ c = 50 ∨ c = 51 ∨ c = 52 ∨ c = 53 ∨ c = 54 ∨ c = 55 ∨ c = 56 ∨ c = 57 ∨ c = 58 ∨ c = 59 ∨ c = 60 ∨ c = 61 := by omega
    rcases h22 with e | e | e | e | e | e | e | e | e | e | e | e | e | e | e | e | e | e | e | e | e | e
    · subst e
      refine wp_tableIn (off := 101) 108 dX2_sign_7 (by decide) (by decide) (by decide) rfl ?_
      refine wp_iload2 109 rfl dX2_sign_108 ?_
      refine wp_iret dX2_sign_109 rfl ?_
      exact sm_ei (by decide)
    · subst e
      refine wp_tableIn (off := 101) 108 dX2_sign_7 (by decide) (by decide) (by decide) rfl ?_
      refine wp_iload2 109 rfl dX2_sign_108 ?_
      refine wp_iret dX2_sign_109 rfl ?_
      exact sm_ei (by decide)
    · subst e
      refine wp_tableIn (off := 101) 108 dX2_sign_7 (by decide) (by decide) (by decide) rfl ?_
      refine wp_iload2 109 rfl dX2_sign_108 ?_
      refine wp_iret dX2_sign_109 rfl ?_
      exact sm_ei (by decide)
    · subst e
      refine wp_tableIn (off := 101) 108 dX2_sign_7 (by decide) (by decide) (by decide) rfl ?_
      refine wp_iload2 109 rfl dX2_sign_108 ?_
      refine wp_iret dX2_sign_109 rfl ?_
      exact sm_ei (by decide)
    · subst e
      refine wp_tableIn (off := 103) 110 dX2_sign_7 (by decide) (by decide) (by decide) rfl ?_
      refine wp_iconst (nI 0) 111 rfl dX2_sign_110 (by decide) ?_
      refine wp_iret dX2_sign_111 rfl ?_
      exact sm_ei (by decide)
    · subst e
      refine wp_tableIn (off := 101) 108 dX2_sign_7 (by decide) (by decide) (by decide) rfl ?_
      refine wp_iload2 109 rfl dX2_sign_108 ?_
      refine wp_iret dX2_sign_109 rfl ?_
      exact sm_ei (by decide)
    · subst e
      refine wp_tableIn (off := 103) 110 dX2_sign_7 (by decide) (by decide) (by decide) rfl ?_
      refine wp_iconst (nI 0) 111 rfl dX2_sign_110 (by decide) ?_
      refine wp_iret dX2_sign_111 rfl ?_
      exact sm_ei (by decide)
    · subst e
      refine wp_tableIn (off := 101) 108 dX2_sign_7 (by decide) (by decide) (by decide) rfl ?_
      refine wp_iload2 109 rfl dX2_sign_108 ?_
      refine wp_iret dX2_sign_109 rfl ?_
      exact sm_ei (by decide)
    · subst e
      refine wp_tableIn (off := 103) 110 dX2_sign_7 (by decide) (by decide) (by decide) rfl ?_
      refine wp_iconst (nI 0) 111 rfl dX2_sign_110 (by decide) ?_
      refine wp_iret dX2_sign_111 rfl ?_
      exact sm_ei (by decide)
    · subst e
      refine wp_tableIn (off := 103) 110 dX2_sign_7 (by decide) (by decide) (by decide) rfl ?_
      refine wp_iconst (nI 0) 111 rfl dX2_sign_110 (by decide) ?_
      refine wp_iret dX2_sign_111 rfl ?_
      exact sm_ei (by decide)
    · subst e
      refine wp_tableIn (off := 103) 110 dX2_sign_7 (by decide) (by decide) (by decide) rfl ?_
      refine wp_iconst (nI 0) 111 rfl dX2_sign_110 (by decide) ?_
      refine wp_iret dX2_sign_111 rfl ?_
      exact sm_ei (by decide)
    · subst e
      refine wp_tableIn (off := 103) 110 dX2_sign_7 (by decide) (by decide) (by decide) rfl ?_
      refine wp_iconst (nI 0) 111 rfl dX2_sign_110 (by decide) ?_
      refine wp_iret dX2_sign_111 rfl ?_
      exact sm_ei (by decide)
    · subst e
      refine wp_tableIn (off := 103) 110 dX2_sign_7 (by decide) (by decide) (by decide) rfl ?_
      refine wp_iconst (nI 0) 111 rfl dX2_sign_110 (by decide) ?_
      refine wp_iret dX2_sign_111 rfl ?_
      exact sm_ei (by decide)
    · subst e
      refine wp_tableIn (off := 103) 110 dX2_sign_7 (by decide) (by decide) (by decide) rfl ?_
      refine wp_iconst (nI 0) 111 rfl dX2_sign_110 (by decide) ?_
      refine wp_iret dX2_sign_111 rfl ?_
      exact sm_ei (by decide)
    · subst e
      refine wp_tableIn (off := 103) 110 dX2_sign_7 (by decide) (by decide) (by decide) rfl ?_
      refine wp_iconst (nI 0) 111 rfl dX2_sign_110 (by decide) ?_
      refine wp_iret dX2_sign_111 rfl ?_
      exact sm_ei (by decide)
    · subst e
      refine wp_tableIn (off := 103) 110 dX2_sign_7 (by decide) (by decide) (by decide) rfl ?_
      refine wp_iconst (nI 0) 111 rfl dX2_sign_110 (by decide) ?_
      refine wp_iret dX2_sign_111 rfl ?_
      exact sm_ei (by decide)
    · subst e
      refine wp_tableIn (off := 103) 110 dX2_sign_7 (by decide) (by decide) (by decide) rfl ?_
      refine wp_iconst (nI 0) 111 rfl dX2_sign_110 (by decide) ?_
      refine wp_iret dX2_sign_111 rfl ?_
      exact sm_ei (by decide)
    · subst e
      refine wp_tableIn (off := 103) 110 dX2_sign_7 (by decide) (by decide) (by decide) rfl ?_
      refine wp_iconst (nI 0) 111 rfl dX2_sign_110 (by decide) ?_
      refine wp_iret dX2_sign_111 rfl ?_
      exact sm_ei (by decide)
    · subst e
      refine wp_tableIn (off := 103) 110 dX2_sign_7 (by decide) (by decide) (by decide) rfl ?_
      refine wp_iconst (nI 0) 111 rfl dX2_sign_110 (by decide) ?_
      refine wp_iret dX2_sign_111 rfl ?_
      exact sm_ei (by decide)
    · subst e
      refine wp_tableIn (off := 101) 108 dX2_sign_7 (by decide) (by decide) (by decide) rfl ?_
      refine wp_iload2 109 rfl dX2_sign_108 ?_
      refine wp_iret dX2_sign_109 rfl ?_
      exact sm_ei (by decide)
    · subst e
      refine wp_tableIn (off := 101) 108 dX2_sign_7 (by decide) (by decide) (by decide) rfl ?_
      refine wp_iload2 109 rfl dX2_sign_108 ?_
      refine wp_iret dX2_sign_109 rfl ?_
      exact sm_ei (by decide)
    · subst e
      refine wp_tableIn (off := 101) 108 dX2_sign_7 (by decide) (by decide) (by decide) rfl ?_
      refine wp_iload2 109 rfl dX2_sign_108 ?_
      refine wp_iret dX2_sign_109 rfl ?_
      exact sm_ei (by decide)
  · have ho : (sb c).toInt < 40 ∨ 61 < (sb c).toInt := sb_out ⟨c, h256⟩ h
    have e : sgc c = nI 0 := by
      unfold sgc
      rw [if_pos (sg_out h)]
    rw [e]
    refine wp_tableOut 110 dX2_sign_7 (by omega) rfl ?_
    refine wp_iconst (nI 0) 111 rfl dX2_sign_110 (by decide) ?_
    refine wp_iret dX2_sign_111 rfl ?_
    exact sm_ei rfl
/-- a token laid -/
def M_ct (I : sm_I) (K : Nat) (s a b w : Int32) : sm_I := sm_u (sm_u (sm_u (sm_u (sm_u I 69 K s) 70 K a) 71 K b) 72 K w) 66 7 (nI (K + 1))
theorem s_tadd (hK : kd ρ) {K s a b : Nat} {w : Int32} (hm : I 66 7 = nI K) (hK2 : K ≤ 2000) (hs : s < 128) (ha : a ≤ 2001) (hb : b ≤ 2001) (hw : w.toInt16.toInt32 = w) : sm_M G xX2_add d [.ref 66, .int (nI s), .int (nI a), .int (nI b), .int w] I ρ (sm_Qe none (M_ct I K (nI s) (nI a) (nI b) w) ρ) := by
  show sm_V G xX2_add d 0 [.ref 66, .int (nI s), .int (nI a), .int (nI b), .int w] [] I ρ _
  have es : (nI s).toInt8.toInt32 = nI s := nar_b ⟨s, hs⟩
  have ea : (nI a).toInt16.toInt32 = nI a := nar_s ⟨a, by omega⟩
  have eb : (nI b).toInt16.toInt32 = nI b := nar_s ⟨b, by omega⟩
  refine wp_aload0 1 rfl dX2_add_0 ?_
  refine wp_getr 4 rfl dX2_add_1 fX2_63_3 (o3 hK) (p3_3 hK) ?_
  refine wp_aload0 5 rfl dX2_add_4 ?_
  refine wp_geti 8 rfl dX2_add_5 fX2_84_3 (o3 hK) ?_
  refine wp_iload1 9 rfl dX2_add_8 ?_
  refine wp_i2b 10 rfl dX2_add_9 ?_
  rw [es]
  refine wp_bast 11 rfl dX2_add_10 (s3_3 hK) (K) (hm) (⟨by omega, by decide⟩) ?_
  rw [vp_nar_byte, es]
  have m1 : sm_u I 69 K (nI s) 66 7 = nI K := by rw [sm_u_ne _ _ _ (by decide)]; exact hm
  refine wp_aload0 12 rfl dX2_add_11 ?_
  refine wp_getr 15 rfl dX2_add_12 fX2_66_3 (o3 hK) (p3_4 hK) ?_
  refine wp_aload0 16 rfl dX2_add_15 ?_
  refine wp_geti 19 rfl dX2_add_16 fX2_84_3 (o3 hK) ?_
  refine wp_iload2 20 rfl dX2_add_19 ?_
  refine wp_i2s 21 rfl dX2_add_20 ?_
  rw [ea]
  refine wp_sast 22 rfl dX2_add_21 (s3_4 hK) (K) (m1) (⟨by omega, by decide⟩) ?_
  rw [vp_nar_short, ea]
  have m2 : sm_u (sm_u I 69 K (nI s)) 70 K (nI a) 66 7 = nI K := by rw [sm_u_ne _ _ _ (by decide)]; exact m1
  refine wp_aload0 23 rfl dX2_add_22 ?_
  refine wp_getr 26 rfl dX2_add_23 fX2_70_3 (o3 hK) (p3_5 hK) ?_
  refine wp_aload0 27 rfl dX2_add_26 ?_
  refine wp_geti 30 rfl dX2_add_27 fX2_84_3 (o3 hK) ?_
  refine wp_iload3 31 rfl dX2_add_30 ?_
  refine wp_i2s 32 rfl dX2_add_31 ?_
  rw [eb]
  refine wp_sast 33 rfl dX2_add_32 (s3_5 hK) (K) (m2) (⟨by omega, by decide⟩) ?_
  rw [vp_nar_short, eb]
  have m3 : sm_u (sm_u (sm_u I 69 K (nI s)) 70 K (nI a)) 71 K (nI b) 66 7 = nI K := by rw [sm_u_ne _ _ _ (by decide)]; exact m2
  refine wp_aload0 34 rfl dX2_add_33 ?_
  refine wp_getr 37 rfl dX2_add_34 fX2_73_3 (o3 hK) (p3_6 hK) ?_
  refine wp_aload0 38 rfl dX2_add_37 ?_
  refine wp_geti 41 rfl dX2_add_38 fX2_84_3 (o3 hK) ?_
  refine wp_iload4 43 rfl dX2_add_41 ?_
  refine wp_i2s 44 rfl dX2_add_43 ?_
  rw [hw]
  refine wp_sast 45 rfl dX2_add_44 (s3_6 hK) (K) (m3) (⟨by omega, by decide⟩) ?_
  rw [vp_nar_short, hw]
  have m4 : sm_u (sm_u (sm_u (sm_u I 69 K (nI s)) 70 K (nI a)) 71 K (nI b)) 72 K w 66 7 = nI K := by rw [sm_u_ne _ _ _ (by decide)]; exact m3
  refine wp_aload0 46 rfl dX2_add_45 ?_
  refine wp_dup 47 rfl dX2_add_46 rfl ?_
  refine wp_geti 50 rfl dX2_add_47 fX2_84_3 (o3 hK) ?_
  rw [m4]
  refine wp_iconst (nI 1) 51 rfl dX2_add_50 (by decide) ?_
  refine wp_iadd 52 rfl dX2_add_51 ?_
  rw [nI_add]
  refine wp_puti 55 rfl dX2_add_52 pX2_84_3 (o3 hK) (⟨rfl, rfl⟩) ?_
  refine wp_vret dX2_add_55 rfl ?_
  exact ⟨rfl, rfl, rfl⟩
end F2
