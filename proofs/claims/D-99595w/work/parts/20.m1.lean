/-! ===== the model, leaves ===== -/
set_option maxRecDepth 100000
theorem wp_weakK {G : sm_G} {X : sm_X} {d pc : Nat} {lv lv' st : List Value} {I : sm_I} {ρ : sm_R} {Q : sm_O → sm_I → sm_R → Prop} (k : sm_V G X d pc lv' st I ρ Q) (h : sm_sub lv lv') : sm_V G X d pc lv st I ρ Q := wp_weak h k
section M1
variable {G : sm_G} {d : Nat} {I : sm_I} {ρ : sm_R}
theorem sm_ei {v w : Int32} (h : v = w) : sm_Qe (some (.int w)) I ρ (.inl (some (.int v))) I ρ := ⟨by rw [h], rfl, rfl⟩
def z_off (a b : Int32) : Int32 := if a < b then b - a else a - b
def z_within (v l m : Int32) : Int32 := if v < l then l else if m < v then m else v
def z_b (p : Prop) [Decidable p] : Int32 := if p then 1 else 0
theorem z_bt {p : Prop} [Decidable p] (h : p) : z_b p = 1 := if_pos h
theorem z_bf {p : Prop} [Decidable p] (h : ¬ p) : z_b p = 0 := if_neg h
theorem z_b_ne {p : Prop} [Decidable p] : z_b p ≠ 0 ↔ p := by
  unfold z_b
  by_cases h : p
  · simp [h]
  · simp [h]
theorem z_b_eq {p : Prop} [Decidable p] : z_b p = 0 ↔ ¬ p := by
  unfold z_b
  by_cases h : p
  · simp [h]
  · simp [h]
theorem i_lt_le {a b : Int32} (h : b ≤ a) : ¬ a < b := by
  simp only [Int32.lt_iff_toInt_lt, Int32.le_iff_toInt_le] at *
  omega
theorem i_nle {a b : Int32} (h : ¬ b ≤ a) : a < b := by
  simp only [Int32.lt_iff_toInt_lt, Int32.le_iff_toInt_le] at *
  omega
theorem i_nlt {a b : Int32} (h : ¬ a < b) : b ≤ a := by
  simp only [Int32.lt_iff_toInt_lt, Int32.le_iff_toInt_le] at *
  omega
theorem s_off (a b : Int32) : sm_M G xX10_off d [.int a, .int b] I ρ (sm_Qe (some (.int (z_off a b))) I ρ) := by
  show sm_V G xX10_off d 0 [.int a, .int b] [] I ρ _
  refine wp_iload0 1 rfl dX10_off_0 ?_
  refine wp_iload1 2 rfl dX10_off_1 ?_
  refine wp_icmp_ge 5 11 rfl rfl dX10_off_2 (fun c2 => ?_) (fun c2 => ?_)
  · refine wp_iload0 12 rfl dX10_off_11 ?_
    refine wp_iload1 13 rfl dX10_off_12 ?_
    refine wp_isub 14 rfl dX10_off_13 ?_
    refine wp_iret dX10_off_14 rfl ?_
    exact sm_ei (if_neg (i_lt_le c2)).symm
  · refine wp_iload1 6 rfl dX10_off_5 ?_
    refine wp_iload0 7 rfl dX10_off_6 ?_
    refine wp_isub 8 rfl dX10_off_7 ?_
    refine wp_goto 14 rfl dX10_off_8 ?_
    refine wp_iret dX10_off_14 rfl ?_
    exact sm_ei (if_pos (i_nle c2)).symm
theorem s_within (v l m : Int32) : sm_M G xX10_within d [.int v, .int l, .int m] I ρ (sm_Qe (some (.int (z_within v l m))) I ρ) := by
  show sm_V G xX10_within d 0 [.int v, .int l, .int m] [] I ρ _
  refine wp_iload0 1 rfl dX10_within_0 ?_
  refine wp_iload1 2 rfl dX10_within_1 ?_
  refine wp_icmp_ge 5 9 rfl rfl dX10_within_2 (fun c2 => ?_) (fun c2 => ?_)
  · refine wp_iload0 10 rfl dX10_within_9 ?_
    refine wp_iload2 11 rfl dX10_within_10 ?_
    refine wp_icmp_le 14 18 rfl rfl dX10_within_11 (fun c11 => ?_) (fun c11 => ?_)
    · refine wp_iload0 19 rfl dX10_within_18 ?_
      refine wp_iret dX10_within_19 rfl ?_
      refine sm_ei ?_
      unfold z_within
      rw [if_neg (i_lt_le c2), if_neg (i_lt_le c11)]
    · refine wp_iload2 15 rfl dX10_within_14 ?_
      refine wp_goto 19 rfl dX10_within_15 ?_
      refine wp_iret dX10_within_19 rfl ?_
      refine sm_ei ?_
      unfold z_within
      rw [if_neg (i_lt_le c2), if_pos (i_nle c11)]
  · refine wp_iload1 6 rfl dX10_within_5 ?_
    refine wp_goto 19 rfl dX10_within_6 ?_
    refine wp_iret dX10_within_19 rfl ?_
    refine sm_ei ?_
    unfold z_within
    rw [if_pos (i_nle c2)]
theorem s_in (v l m : Int32) : sm_M G xX10_in d [.int v, .int l, .int m] I ρ (sm_Qe (some (.int (z_b (l ≤ v ∧ v ≤ m)))) I ρ) := by
  show sm_V G xX10_in d 0 [.int v, .int l, .int m] [] I ρ _
  refine wp_iload0 1 rfl dX10_in_0 ?_
  refine wp_iload1 2 rfl dX10_in_1 ?_
  refine wp_icmp_lt 5 14 rfl rfl dX10_in_2 (fun c2 => ?_) (fun c2 => ?_)
  · refine wp_iconst (nI 0) 15 rfl dX10_in_14 (by decide) ?_
    refine wp_zret dX10_in_15 rfl (rfl) ?_
    exact sm_ei (z_bf (fun h => i_lt_le h.1 c2)).symm
  · refine wp_iload0 6 rfl dX10_in_5 ?_
    refine wp_iload2 7 rfl dX10_in_6 ?_
    refine wp_icmp_gt 10 14 rfl rfl dX10_in_7 (fun c7 => ?_) (fun c7 => ?_)
    · refine wp_iconst (nI 0) 15 rfl dX10_in_14 (by decide) ?_
      refine wp_zret dX10_in_15 rfl (rfl) ?_
      exact sm_ei (z_bf (fun h => i_lt_le h.2 c7)).symm
    · refine wp_iconst (nI 1) 11 rfl dX10_in_10 (by decide) ?_
      refine wp_goto 15 rfl dX10_in_11 ?_
      refine wp_zret dX10_in_15 rfl (rfl) ?_
      exact sm_ei (z_bt ⟨i_nlt c2, i_nlt c7⟩).symm
theorem s_facePart (hm : md ρ) (lv c p : Nat) (hl : I mM 18 = nI lv) (hlv : lv < 2) (hc : c < 5) (hp : p < 4) : sm_M G xX10_facePart d [.ref mM, .int (nI c), .int (nI p)] I ρ (sm_Qe (some (.int (I m_faceOf (20 * lv + 4 * c + p)))) I ρ) := by
  show sm_V G xX10_facePart d 0 [.ref mM, .int (nI c), .int (nI p)] [] I ρ _
  refine wp_aload0 1 rfl dX10_facePart_0 ?_
  refine wp_getr 4 rfl dX10_facePart_1 fX10_55_10 (md_M hm) (mp_faceOf hm) ?_
  refine wp_bipush (nI 20) 6 rfl dX10_facePart_4 (by decide) ?_
  refine wp_aload0 7 rfl dX10_facePart_6 ?_
  refine wp_geti 10 rfl dX10_facePart_7 fX10_233_10 (md_M hm) ?_
  refine wp_imul 11 rfl dX10_facePart_10 ?_
  refine wp_iconst (nI 4) 12 rfl dX10_facePart_11 (by decide) ?_
  refine wp_iload1 13 rfl dX10_facePart_12 ?_
  refine wp_imul 14 rfl dX10_facePart_13 ?_
  refine wp_iadd 15 rfl dX10_facePart_14 ?_
  refine wp_iload2 16 rfl dX10_facePart_15 ?_
  refine wp_iadd 17 rfl dX10_facePart_16 ?_
  refine wp_iald 18 rfl dX10_facePart_17 (ms_faceOf hm) (20 * lv + 4 * c + p) (by rw [hl]; simp only [pk_mul, nI_add]) (⟨by omega, by decide⟩) ?_
  refine wp_iret dX10_facePart_18 rfl ?_
  exact sm_ei rfl
/-- by how much a door's face in a row is unlike a caller's -/
def z_unl (row cf : Nat → Int32) (d c : Nat) : Int32 := nI 0 + z_off (row (4 * d + 0)) (cf (4 * c + 0)) + z_off (row (4 * d + 1)) (cf (4 * c + 1)) + z_off (row (4 * d + 2)) (cf (4 * c + 2)) + z_off (row (4 * d + 3)) (cf (4 * c + 3))
end M1
