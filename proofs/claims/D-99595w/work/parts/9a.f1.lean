/-! ===== the component's tokens: bytes ===== -/
set_option maxRecDepth 100000
/-- a byte as the component has it -/
def sb (c : Nat) : Int32 := (nI c).toInt8.toInt32
theorem sb_of (x : Int32) : x.toInt8.toInt32 = sb (x.toBitVec.toNat % 2 ^ 8) := by
  unfold sb
  have e : x.toInt8 = (nI (x.toBitVec.toNat % 2 ^ 8)).toInt8 := by
    apply Int8.toBitVec_inj.mp
    rw [Int32.toBitVec_toInt8, Int32.toBitVec_toInt8]
    apply BitVec.eq_of_toNat_eq
    rw [BitVec.signExtend_eq_setWidth_of_le _ (by decide), BitVec.signExtend_eq_setWidth_of_le _ (by decide), BitVec.toNat_setWidth, BitVec.toNat_setWidth]
    have : (nI (x.toBitVec.toNat % 2 ^ 8)).toBitVec = BitVec.ofNat 32 (x.toBitVec.toNat % 2 ^ 8) := rfl
    rw [this, BitVec.toNat_ofNat]
    omega
  rw [e]
theorem sb_d : ∀ c : Fin 256, (sb c.val < nI 97 ↔ ¬ (97 ≤ c.val ∧ c.val < 128)) ∧ (nI 122 < sb c.val ↔ 122 < c.val ∧ c.val < 128) ∧ (sb c.val < nI 48 ↔ ¬ (48 ≤ c.val ∧ c.val < 128)) ∧ (nI 57 < sb c.val ↔ 57 < c.val ∧ c.val < 128) := by decide +kernel
theorem sb_n {c : Nat} (h : c < 256) : (sb c < nI 97 ↔ ¬ (97 ≤ c ∧ c < 128)) ∧ (nI 122 < sb c ↔ 122 < c ∧ c < 128) ∧ (sb c < nI 48 ↔ ¬ (48 ≤ c ∧ c < 128)) ∧ (nI 57 < sb c ↔ 57 < c ∧ c < 128) := sb_d ⟨c, h⟩
theorem sb_w : ∀ c : Fin 256, (sb c.val = nI 32 ↔ c.val = 32) ∧ (sb c.val = nI 9 ↔ c.val = 9) ∧ (sb c.val = nI 10 ↔ c.val = 10) ∧ (sb c.val = nI 13 ↔ c.val = 13) := by decide +kernel
section F1
variable {G : sm_G} {d : Nat} {I : sm_I} {ρ : sm_R} {P : Nat × (Nat → Int32)}
theorem cP.at (h : cP I P) {i : Nat} (hi : i < P.1) : I 68 i = sb (ky_c P.1 P.2 i) := by
  obtain ⟨h1, h2⟩ := h.2.2 i hi
  rw [h1, ← h2, vp_nar_byte, sb_of]
  unfold ky_c
  rw [if_pos hi]
theorem s_tat (hK : kd ρ) (hP : cP I P) {i : Nat} (hi : i < 100000) : sm_M G xX2_at d [.ref 66, .int (nI i)] I ρ (sm_Qe (some (.int (sb (ky_c P.1 P.2 i)))) I ρ) := by
  have p1 := hP.1
  have p2 := hP.2.1
  show sm_V G xX2_at d 0 [.ref 66, .int (nI i)] [] I ρ _
  refine wp_iload1 1 rfl dX2_at_0 ?_
  refine wp_aload0 2 rfl dX2_at_1 ?_
  refine wp_geti 5 rfl dX2_at_2 fX2_76_3 (o3 hK) ?_
  rw [p1]
  by_cases h : i < P.1
  · refine wp_icmp_ge 8 17 rfl rfl dX2_at_5 (fun c5 => absurd c5 (nI_ge h (by omega))) (fun c5 => ?_)
    refine wp_aload0 9 rfl dX2_at_8 ?_
    refine wp_getr 12 rfl dX2_at_9 fX2_59_3 (o3 hK) (p3_1 hK) ?_
    refine wp_iload1 13 rfl dX2_at_12 ?_
    refine wp_bald 14 rfl dX2_at_13 (s3_1 hK) (i) (by first | rfl | simp only [pk_mul, nI_add]) (⟨by omega, by decide⟩) ?_
    rw [hP.at h]
    refine wp_goto 18 rfl dX2_at_14 ?_
    refine wp_iret dX2_at_18 rfl ?_
    exact sm_ei rfl
  · refine wp_icmp_ge 8 17 rfl rfl dX2_at_5 (fun c5 => ?_) (fun c5 => absurd (nI_le (by omega) (by omega)) c5)
    refine wp_iconst (nI 0) 18 rfl dX2_at_17 (by decide) ?_
    refine wp_iret dX2_at_18 rfl ?_
    refine sm_ei ?_
    unfold ky_c
    rw [if_neg h]
    rfl
theorem s_tletter (hK : kd ρ) (hP : cP I P) {i : Nat} (hi : i < 100000) : sm_M G xX2_isLetter (d + 1) [.ref 66, .int (nI i)] I ρ (sm_Qe (some (.int (z_b (ky_L (ky_c P.1 P.2 i))))) I ρ) := by
  obtain ⟨b1, b2, -, -⟩ := sb_n (ky_c_256 P.1 P.2 i)
  show sm_V G xX2_isLetter (d + 1) 0 [.ref 66, .int (nI i)] [] I ρ _
  refine wp_aload0 1 rfl dX2_isLetter_0 ?_
  refine wp_iload1 2 rfl dX2_isLetter_1 ?_
  refine wp_Ve1 5 rfl dX2_isLetter_2 kX2_at lX2_80 (o3 hK) (nl rfl) (nl rfl) (s_tat hK hP hi) ?_
  refine wp_bipush (nI 97) 7 rfl dX2_isLetter_5 (by decide) ?_
  refine wp_icmp_lt 10 24 rfl rfl dX2_isLetter_7 (fun c7 => ?_) (fun c7 => ?_)
  · refine wp_iconst (nI 0) 25 rfl dX2_isLetter_24 (by decide) ?_
    refine wp_zret dX2_isLetter_25 rfl (rfl) ?_
    have := b1.mp c7
    exact sm_ei (z_bf (fun z => this ⟨z.1, by have := z.2; omega⟩)).symm
  · refine wp_aload0 11 rfl dX2_isLetter_10 ?_
    refine wp_iload1 12 rfl dX2_isLetter_11 ?_
    refine wp_Ve1 15 rfl dX2_isLetter_12 kX2_at lX2_80 (o3 hK) (nl rfl) (nl rfl) (s_tat hK hP hi) ?_
    refine wp_bipush (nI 122) 17 rfl dX2_isLetter_15 (by decide) ?_
    have h1 : 97 ≤ ky_c P.1 P.2 i ∧ ky_c P.1 P.2 i < 128 := Decidable.byContradiction (fun z => c7 (b1.mpr z))
    refine wp_icmp_gt 20 24 rfl rfl dX2_isLetter_17 (fun c17 => ?_) (fun c17 => ?_)
    · refine wp_iconst (nI 0) 25 rfl dX2_isLetter_24 (by decide) ?_
      refine wp_zret dX2_isLetter_25 rfl (rfl) ?_
      have := (b2.mp c17).1
      exact sm_ei (z_bf (fun z => by have := z.2; omega)).symm
    · refine wp_iconst (nI 1) 21 rfl dX2_isLetter_20 (by decide) ?_
      refine wp_goto 25 rfl dX2_isLetter_21 ?_
      refine wp_zret dX2_isLetter_25 rfl (rfl) ?_
      have : ¬ (122 < ky_c P.1 P.2 i ∧ ky_c P.1 P.2 i < 128) := fun z => c17 (b2.mpr z)
      exact sm_ei (z_bt ⟨h1.1, by omega⟩).symm
theorem s_tdigit (hK : kd ρ) (hP : cP I P) {i : Nat} (hi : i < 100000) : sm_M G xX2_isDigit (d + 1) [.ref 66, .int (nI i)] I ρ (sm_Qe (some (.int (z_b (ky_D (ky_c P.1 P.2 i))))) I ρ) := by
  obtain ⟨-, -, b1, b2⟩ := sb_n (ky_c_256 P.1 P.2 i)
  show sm_V G xX2_isDigit (d + 1) 0 [.ref 66, .int (nI i)] [] I ρ _
  refine wp_aload0 1 rfl dX2_isDigit_0 ?_
  refine wp_iload1 2 rfl dX2_isDigit_1 ?_
  refine wp_Ve1 5 rfl dX2_isDigit_2 kX2_at lX2_80 (o3 hK) (nl rfl) (nl rfl) (s_tat hK hP hi) ?_
  refine wp_bipush (nI 48) 7 rfl dX2_isDigit_5 (by decide) ?_
  refine wp_icmp_lt 10 24 rfl rfl dX2_isDigit_7 (fun c7 => ?_) (fun c7 => ?_)
  · refine wp_iconst (nI 0) 25 rfl dX2_isDigit_24 (by decide) ?_
    refine wp_zret dX2_isDigit_25 rfl (rfl) ?_
    have := b1.mp c7
    exact sm_ei (z_bf (fun z => this ⟨z.1, by have := z.2; omega⟩)).symm
  · refine wp_aload0 11 rfl dX2_isDigit_10 ?_
    refine wp_iload1 12 rfl dX2_isDigit_11 ?_
    refine wp_Ve1 15 rfl dX2_isDigit_12 kX2_at lX2_80 (o3 hK) (nl rfl) (nl rfl) (s_tat hK hP hi) ?_
    refine wp_bipush (nI 57) 17 rfl dX2_isDigit_15 (by decide) ?_
    have h1 : 48 ≤ ky_c P.1 P.2 i ∧ ky_c P.1 P.2 i < 128 := Decidable.byContradiction (fun z => c7 (b1.mpr z))
    refine wp_icmp_gt 20 24 rfl rfl dX2_isDigit_17 (fun c17 => ?_) (fun c17 => ?_)
    · refine wp_iconst (nI 0) 25 rfl dX2_isDigit_24 (by decide) ?_
      refine wp_zret dX2_isDigit_25 rfl (rfl) ?_
      have := (b2.mp c17).1
      exact sm_ei (z_bf (fun z => by have := z.2; omega)).symm
    · refine wp_iconst (nI 1) 21 rfl dX2_isDigit_20 (by decide) ?_
      refine wp_goto 25 rfl dX2_isDigit_21 ?_
      refine wp_zret dX2_isDigit_25 rfl (rfl) ?_
      have : ¬ (57 < ky_c P.1 P.2 i ∧ ky_c P.1 P.2 i < 128) := fun z => c17 (b2.mpr z)
      exact sm_ei (z_bt ⟨h1.1, by omega⟩).symm
end F1
