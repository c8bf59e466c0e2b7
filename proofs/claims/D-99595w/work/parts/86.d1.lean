/-! ===== the component: what it stands on; door, unlike, tells ===== -/
set_option maxRecDepth 100000
theorem z_b_iff {p q : Prop} [Decidable p] [Decidable q] (h : p ↔ q) : z_b p = z_b q := by
  unfold z_b
  by_cases hp : p
  · rw [if_pos hp, if_pos (h.mp hp)]
  · rw [if_neg hp, if_neg (fun x => hp (h.mpr x))]
theorem z_nix {x : Int32} {n : Nat} (hn : n < 1000) (h : ¬ ∃ j, j < n ∧ x = nI j) : x.toInt < 0 ∨ (n : Int) ≤ x.toInt := by
  rcases pk_ix x (n := n) (by omega) with h1 | h1 | h1
  · left
    rw [Int32.lt_iff_toInt_lt] at h1
    exact h1
  · right
    rw [Int32.le_iff_toInt_le, nI_toInt (by omega)] at h1
    exact h1
  · exact absurd h1 h
/-- cells that asking may change -/
def cs (a : Nat) : Prop := (95 ≤ a ∧ a < 111) ∨ (162 ≤ a ∧ a < 242) ∨ (245 ≤ a ∧ a ≤ 253) ∨ a = 257 ∨ (92 ≤ a ∧ a ≤ 94)
def cq (I I1 : sm_I) : Prop := ∀ a, ¬ cs a → I1 a = I a
theorem cq.rf {I : sm_I} : cq I I := fun _ _ => rfl
theorem cq.tr {I I1 I2 : sm_I} (h : cq I I1) (h2 : cq I1 I2) : cq I I2 := fun a ha => (h2 a ha).trans (h a ha)
theorem cq.of {W : List Nat} {I I1 : sm_I} (h : cf W I I1) (hW : ∀ a ∈ W, cs a) : cq I I1 := fun a ha => h a (fun z => ha (hW a z))
theorem cq.T {I I1 : sm_I} (h : cq I I1) : ∀ a, tA a → I1 a = I a := fun a ha => h a (fun z => by
  unfold tA at ha
  unfold cs at z
  omega)
theorem cs_town {b : Nat} (hb : b = 95 ∨ ∃ k, k < 5 ∧ b = 162 + 16 * k) : ∀ a ∈ tWs b, cs a := fun a ha => by
  have := tWs_mem.mp ha
  unfold cs
  rcases hb with e | ⟨k, hk, e⟩ <;> omega
theorem cs_scr : ∀ a ∈ [79 + 14, 79 + 15], cs a := fun a ha => by
  have : a = 79 + 14 ∨ a = 79 + 15 := by simpa using ha
  unfold cs
  omega
/-- what asking stands on: layout, the text, the row that stands -/
def cA (I : sm_I) (ρ : sm_R) (tp : Nat) (q : tq4) (T : tx) (w : Nat → Int32) : Prop := kd ρ ∧ ρ.2.1 64 3 = some tp ∧ cT I ρ tp q T ∧ tok T ∧ (wok w ∧ wkT T w) ∧ tR I 79 w (tx_seed T)
theorem cA.q {I I1 : sm_I} {ρ : sm_R} {tp : Nat} {q : tq4} {T : tx} {w : Nat → Int32} (h : cA I ρ tp q T w) (hq : cq I I1) : cA I1 ρ tp q T w := by
  obtain ⟨hK, hP, hT, hk, hw, hR⟩ := h
  refine ⟨hK, hP, hT.kept hq.T, hk, hw, ?_⟩
  have e : ∀ k, k ≤ 12 → I1 (79 + k) = I (79 + k) := fun k hk => hq _ (by
    unfold cs
    omega)
  obtain ⟨h1, h2, h3, h4⟩ := hR
  refine ⟨fun d k hd hk => ?_, fun d hd => ?_, fun c hc => ?_, ?_⟩
  · rw [show 79 + 2 + d = 79 + (2 + d) by omega, e _ (by omega), show 79 + (2 + d) = 79 + 2 + d by omega]
    exact h1 d k hd hk
  · rw [e 8 (by omega), e 9 (by omega), e 10 (by omega), e 11 (by omega)]
    exact h2 d hd
  · rw [e 12 (by omega)]
    exact h3 c hc
  · rw [e 0 (by omega)]
    exact h4
abbrev cPost (I : sm_I) (ρ : sm_R) (v : Int32) : sm_O → sm_I → sm_R → Prop := sm_Qi (fun r I1 ρ1 => ρ1 = ρ ∧ cq I I1 ∧ r = v)
theorem sm_ci {I J : sm_I} {ρ : sm_R} {v r : Int32} (h : cq I J) (e : v = r) : cPost I ρ r (.inl (some (.int v))) J ρ := ⟨v, rfl, rfl, h, e⟩
section D1
variable {G : sm_G} {d : Nat} {I : sm_I} {ρ : sm_R} {tp : Nat} {q : tq4} {T : tx} {w : Nat → Int32}
theorem s_isIn (v l m : Int32) : sm_M G xX0_isIn d [.int v, .int l, .int m] I ρ (sm_Qe (some (.int (z_b (l ≤ v ∧ v ≤ m)))) I ρ) := by
  show sm_V G xX0_isIn d 0 [.int v, .int l, .int m] [] I ρ _
  refine wp_iload0 1 rfl dX0_isIn_0 ?_
  refine wp_iload1 2 rfl dX0_isIn_1 ?_
  refine wp_icmp_lt 5 14 rfl rfl dX0_isIn_2 (fun c2 => ?_) (fun c2 => ?_)
  · refine wp_iconst (nI 0) 15 rfl dX0_isIn_14 (by decide) ?_
    refine wp_zret dX0_isIn_15 rfl (rfl) ?_
    exact sm_ei (z_bf (fun h => i_lt_le h.1 c2)).symm
  · refine wp_iload0 6 rfl dX0_isIn_5 ?_
    refine wp_iload2 7 rfl dX0_isIn_6 ?_
    refine wp_icmp_gt 10 14 rfl rfl dX0_isIn_7 (fun c7 => ?_) (fun c7 => ?_)
    · refine wp_iconst (nI 0) 15 rfl dX0_isIn_14 (by decide) ?_
      refine wp_zret dX0_isIn_15 rfl (rfl) ?_
      exact sm_ei (z_bf (fun h => i_lt_le h.2 c7)).symm
    · refine wp_iconst (nI 1) 11 rfl dX0_isIn_10 (by decide) ?_
      refine wp_goto 15 rfl dX0_isIn_11 ?_
      refine wp_zret dX0_isIn_15 rfl (rfl) ?_
      exact sm_ei (z_bt ⟨i_nlt c2, i_nlt c7⟩).symm
theorem s_doors (hK : kd ρ) (hP : ρ.2.1 64 3 = some tp) (hT : cT I ρ tp q T) : sm_M G xX0_doors (d + 1) [.ref 64] I ρ (sm_Qe (some (.int (nI (tx_D T)))) I ρ) := by
  show sm_V G xX0_doors (d + 1) 0 [.ref 64] [] I ρ _
  refine wp_aload0 1 rfl dX0_doors_0 ?_
  refine wp_getr 4 rfl dX0_doors_1 fX0_51_1 (o1 hK) (hP) ?_
  refine wp_getr 7 rfl dX0_doors_4 fX0_146_5 (o5 hT) (p5_0 hT) ?_
  refine wp_Ve0 10 rfl dX0_doors_7 kJ5_size lX0_150 (o18 (cT_d hT)) (nl rfl) (nl rfl) (s_size (cT_d hT)) ?_
  refine wp_iret dX0_doors_10 rfl ?_
  exact sm_ei rfl
theorem s_callers (hK : kd ρ) (hP : ρ.2.1 64 3 = some tp) (hT : cT I ρ tp q T) : sm_M G xX0_callers (d + 1) [.ref 64] I ρ (sm_Qe (some (.int (nI (tx_C T)))) I ρ) := by
  show sm_V G xX0_callers (d + 1) 0 [.ref 64] [] I ρ _
  refine wp_aload0 1 rfl dX0_callers_0 ?_
  refine wp_getr 4 rfl dX0_callers_1 fX0_51_1 (o1 hK) (hP) ?_
  refine wp_getr 7 rfl dX0_callers_4 fX0_156_5 (o5 hT) (p5_1 hT) ?_
  refine wp_Ve0 10 rfl dX0_callers_7 kJ5_size lX0_150 (o18 (cT_c hT)) (nl rfl) (nl rfl) (s_size (cT_c hT)) ?_
  refine wp_iret dX0_callers_10 rfl ?_
  exact sm_ei rfl
theorem s_cisDoor (hK : kd ρ) (hP : ρ.2.1 64 3 = some tp) (hT : cT I ρ tp q T) (hk : tok T) (x : Int32) : sm_M G xX0_isDoor (d + 2) [.ref 64, .int x] I ρ (sm_Qe (some (.int (z_b (∃ j, j < tx_D T ∧ x = nI j)))) I ρ) := by
  show sm_V G xX0_isDoor (d + 2) 0 [.ref 64, .int x] [] I ρ _
  have h6 : tx_D T ≤ 6 := hk.1.1
  refine wp_iload1 1 rfl dX0_isDoor_0 ?_
  refine wp_iconst (nI 0) 2 rfl dX0_isDoor_1 (by decide) ?_
  refine wp_aload0 3 rfl dX0_isDoor_2 ?_
  refine wp_Ve0 6 rfl dX0_isDoor_3 kX0_doors lX0_159 (o1 hK) (nl rfl) (nl rfl) (s_doors hK hP hT) ?_
  refine wp_iconst (nI 1) 7 rfl dX0_isDoor_6 (by decide) ?_
  refine wp_isub 8 rfl dX0_isDoor_7 ?_
  refine wp_Se3 11 rfl dX0_isDoor_8 kX0_isIn lX0_161 (nl rfl) (nl rfl) (s_isIn _ _ _) ?_
  refine wp_zret dX0_isDoor_11 rfl (z_bn) ?_
  exact sm_ei (z_b_iff (z_in_iff (by omega)))
theorem s_cisCaller (hK : kd ρ) (hP : ρ.2.1 64 3 = some tp) (hT : cT I ρ tp q T) (hk : tok T) (x : Int32) : sm_M G xX0_isCaller (d + 2) [.ref 64, .int x] I ρ (sm_Qe (some (.int (z_b (∃ j, j < tx_C T ∧ x = nI j)))) I ρ) := by
  show sm_V G xX0_isCaller (d + 2) 0 [.ref 64, .int x] [] I ρ _
  have h6 : tx_C T ≤ 5 := hk.1.2.1
  refine wp_iload1 1 rfl dX0_isCaller_0 ?_
  refine wp_iconst (nI 0) 2 rfl dX0_isCaller_1 (by decide) ?_
  refine wp_aload0 3 rfl dX0_isCaller_2 ?_
  refine wp_Ve0 6 rfl dX0_isCaller_3 kX0_callers lX0_165 (o1 hK) (nl rfl) (nl rfl) (s_callers hK hP hT) ?_
  refine wp_iconst (nI 1) 7 rfl dX0_isCaller_6 (by decide) ?_
  refine wp_isub 8 rfl dX0_isCaller_7 ?_
  refine wp_Se3 11 rfl dX0_isCaller_8 kX0_isIn lX0_161 (nl rfl) (nl rfl) (s_isIn _ _ _) ?_
  refine wp_zret dX0_isCaller_11 rfl (z_bn) ?_
  exact sm_ei (z_b_iff (z_in_iff (by omega)))
theorem s_cisRound (hK : kd ρ) (hP : ρ.2.1 64 3 = some tp) (hT : cT I ρ tp q T) (hk : tok T) (x : Int32) : sm_M G xX0_isRound (d + 1) [.ref 64, .int x] I ρ (sm_Qe (some (.int (z_b (∃ j, j < tx_R T ∧ x = nI j)))) I ρ) := by
  show sm_V G xX0_isRound (d + 1) 0 [.ref 64, .int x] [] I ρ _
  have h6 : tx_R T ≤ 10 := hk.1.2.2
  refine wp_iload1 1 rfl dX0_isRound_0 ?_
  refine wp_iconst (nI 0) 2 rfl dX0_isRound_1 (by decide) ?_
  refine wp_aload0 3 rfl dX0_isRound_2 ?_
  refine wp_getr 6 rfl dX0_isRound_3 fX0_51_1 (o1 hK) (hP) ?_
  refine wp_getr 9 rfl dX0_isRound_6 fX0_167_5 (o5 hT) (p5_2 hT) ?_
  refine wp_Ve0 12 rfl dX0_isRound_9 kJ5_size lX0_150 (o18 (cT_r hT)) (nl rfl) (nl rfl) (s_size (cT_r hT)) ?_
  refine wp_iconst (nI 1) 13 rfl dX0_isRound_12 (by decide) ?_
  refine wp_isub 14 rfl dX0_isRound_13 ?_
  refine wp_Se3 17 rfl dX0_isRound_14 kX0_isIn lX0_161 (nl rfl) (nl rfl) (s_isIn _ _ _) ?_
  refine wp_zret dX0_isRound_17 rfl (z_bn) ?_
  exact sm_ei (z_b_iff (z_in_iff (by omega)))
theorem z_p4 {k : Nat} (h : k < 4) : nI 0 ≤ nI k ∧ nI k ≤ nI 3 := (z_in_lo (n := 4) (m := 3) rfl (by decide)).mpr ⟨k, h, rfl⟩
theorem z_p4n {x : Int32} (h : ¬ ∃ k, k < 4 ∧ x = nI k) : ¬ (nI 0 ≤ x ∧ x ≤ nI 3) := fun z => h ((z_in_lo (n := 4) (m := 3) rfl (by decide)).mp z)
theorem s_cisPart (x : Int32) : sm_M G xX0_isPart (d + 1) [.int x] I ρ (sm_Qe (some (.int (z_b (nI 0 ≤ x ∧ x ≤ nI 3)))) I ρ) := by
  show sm_V G xX0_isPart (d + 1) 0 [.int x] [] I ρ _
  refine wp_iload0 1 rfl dX0_isPart_0 ?_
  refine wp_iconst (nI 0) 2 rfl dX0_isPart_1 (by decide) ?_
  refine wp_iconst (nI 3) 3 rfl dX0_isPart_2 (by decide) ?_
  refine wp_Se3 6 rfl dX0_isPart_3 kX0_isIn lX0_161 (nl rfl) (nl rfl) (s_isIn _ _ _) ?_
  refine wp_zret dX0_isPart_6 rfl (z_bn) ?_
  exact sm_ei rfl
theorem s_isAhead (x : Int32) : sm_M G xX0_isAhead (d + 1) [.int x] I ρ (sm_Qe (some (.int (z_b (nI 0 ≤ x ∧ x ≤ nI 60)))) I ρ) := by
  show sm_V G xX0_isAhead (d + 1) 0 [.int x] [] I ρ _
  refine wp_iload0 1 rfl dX0_isAhead_0 ?_
  refine wp_iconst (nI 0) 2 rfl dX0_isAhead_1 (by decide) ?_
  refine wp_bipush (nI 60) 4 rfl dX0_isAhead_2 (by decide) ?_
  refine wp_Se3 7 rfl dX0_isAhead_4 kX0_isIn lX0_161 (nl rfl) (nl rfl) (s_isIn _ _ _) ?_
  refine wp_zret dX0_isAhead_7 rfl (z_bn) ?_
  exact sm_ei rfl
theorem s_worn {b : Nat} {s : Int32} (hK : kd ρ) (hP : ρ.2.1 64 3 = some tp) (hT : cT I ρ tp q T) (hk : tok T) (ht : td ρ b) (hR : tR I b w s) (hw : wok w) {j : Nat} (hj : j < tx_D T) : sm_M G xX0_worn (d + 3) [.ref 64, .ref b, .int (nI j)] I ρ (sm_Qe (some (.int (r_unf T w j))) I ρ) := by
  show sm_V G xX0_worn (d + 3) 0 [.ref 64, .ref b, .int (nI j)] [] I ρ _
  have h6 : tx_D T ≤ 6 := hk.1.1
  have hF := cT_df hT hj
  refine wp_aload1 1 rfl dX0_worn_0 ?_
  refine wp_getr 4 rfl dX0_worn_1 fX0_170_6 (o6 ht) (p6_0 ht) ?_
  refine wp_iload2 5 rfl dX0_worn_4 ?_
  refine wp_aald (t := 10) 6 rfl dX0_worn_5 (by decide) rfl rfl (s6_0 ht) (j) (by first | rfl | simp only [pk_mul, nI_add]) (⟨by omega, by decide⟩) (e6_0 ht (by omega)) ?_
  refine wp_aload0 7 rfl dX0_worn_6 ?_
  refine wp_getr 10 rfl dX0_worn_7 fX0_51_1 (o1 hK) (hP) ?_
  refine wp_getr 13 rfl dX0_worn_10 fX0_146_5 (o5 hT) (p5_0 hT) ?_
  refine wp_iload2 14 rfl dX0_worn_13 ?_
  refine wp_Ve1 17 rfl dX0_worn_14 kJ5_get lX0_173 (o18 (cT_d hT)) (nl rfl) (nl rfl) (s_get (cT_d hT) (hj)) ?_
  refine wp_cast 20 rfl dX0_worn_17 caX0_177_15 (o15 (cT_df hT (hj))) ?_
  refine wp_getr 23 rfl dX0_worn_20 fX0_179_15 (o15 (cT_df hT (hj))) (p15_1 (cT_df hT (hj))) ?_
  refine wp_Se2 26 rfl dX0_worn_23 kX0_unlikeOf lX0_181 (nl rfl) (nl rfl) (s_unlikeOf (i6_0 ht (by omega)) hF.2.2.1.1 (fun p hp => by rw [hR.1 j p (by omega) hp]; exact hw.1 _ (by omega)) (fun p hp => by rw [hF.2.2.2 p hp]; exact hk.2.2.1 _ (by omega))) ?_
  refine wp_iret dX0_worn_26 rfl ?_
  refine sm_ei ?_
  exact z_sum_congr (fun p hp => by rw [hR.1 j p (by omega) hp, hF.2.2.2 p hp])
theorem c_door (hA : cA I ρ tp q T w) (x what : Int32) : sm_M G xX0_door (d + 6) [.ref 64, .int x, .int what] I ρ (cPost I ρ (o_door T w x what)) := by
  obtain ⟨hK, hP, hT, hk, ⟨hw, hz⟩, hR⟩ := hA
  show sm_V G xX0_door (d + 6) 0 [.ref 64, .int x, .int what] [] I ρ _
  have h6 : tx_D T ≤ 6 := hk.1.1
  have ht := k_town hK
  refine wp_aload0 1 rfl dX0_door_0 ?_
  refine wp_iload1 2 rfl dX0_door_1 ?_
  refine wp_Ve1 5 rfl dX0_door_2 kX0_isDoor lX0_185 (o1 hK) (nl rfl) (nl rfl) (s_cisDoor hK hP hT hk x) ?_
  by_cases hx : ∃ j, j < tx_D T ∧ x = nI j
  · obtain ⟨j, hj, e⟩ := hx
    subst e
    have e1 : z_ix (nI j) (tx_D T) = some j := z_ix_n hj (by omega)
    unfold o_door
    rw [e1]
    refine wp_if_ne 8 10 rfl rfl dX0_door_5 (fun c5 => ?_) (fun c5 => absurd c5 (z_b_ne.mpr ⟨j, hj, rfl⟩))
    refine wp_iload2 11 rfl dX0_door_10 ?_
    refine wp_Se1 14 rfl dX0_door_11 kX0_isPart lX0_189 (nl rfl) (nl rfl) (s_cisPart what) ?_
    by_cases hp : ∃ k, k < 4 ∧ what = nI k
    · obtain ⟨k, hk4, e⟩ := hp
      subst e
      have e2 : z_ix (nI k) 10 = some k := z_ix_n (by omega) (by decide)
      refine wp_if_eq 17 29 rfl rfl dX0_door_14 (fun c14 => absurd c14 (z_b_ne.mpr (z_p4 hk4))) (fun c14 => ?_)
      refine wp_aload0 18 rfl dX0_door_17 ?_
      refine wp_getr 21 rfl dX0_door_18 fX0_62_1 (o1 hK) (p1_7 hK) ?_
      refine wp_getr 24 rfl dX0_door_21 fX0_170_6 (o6 (k_town hK)) (p6_0 (k_town hK)) ?_
      refine wp_iload1 25 rfl dX0_door_24 ?_
      refine wp_aald (t := 10) 26 rfl dX0_door_25 (by decide) rfl rfl (s6_0 (k_town hK)) (j) (by first | rfl | simp only [pk_mul, nI_add]) (⟨by omega, by decide⟩) (e6_0 (k_town hK) (by omega)) ?_
      refine wp_iload2 27 rfl dX0_door_26 ?_
      refine wp_iald 28 rfl dX0_door_27 (i6_0 (k_town hK) (by omega)) (k) (by first | rfl | simp only [pk_mul, nI_add]) (⟨by omega, by decide⟩) ?_
      refine wp_iret dX0_door_28 rfl ?_
      refine sm_ci cq.rf ?_
      rw [hR.1 j k (by omega) hk4]
      simp only [e2]
      exact (if_pos hk4).symm
    · by_cases h10 : ∃ k, k < 10 ∧ what = nI k
      · obtain ⟨k, hk10, e⟩ := h10
        subst e
        have n4 : ¬ k < 4 := fun z => hp ⟨k, z, rfl⟩
        have e2 : z_ix (nI k) 10 = some k := z_ix_n (by omega) (by decide)
        obtain ⟨r1, r2, r3, r4⟩ := hR.2.1 j (by omega)
        refine wp_if_eq 17 29 rfl rfl dX0_door_14 (fun c14 => ?_) (fun c14 => absurd (z_b_eq.mpr (z_p4n hp)) c14)
        refine wp_iload2 30 rfl dX0_door_29 ?_
        have k6 : k = 4 ∨ k = 5 ∨ k = 6 ∨ k = 7 ∨ k = 8 ∨ k = 9 := by omega
        rcases k6 with e | e | e | e | e | e
        · subst e
          refine wp_tableIn (off := 38) 68 dX0_door_30 (by decide) (by decide) (by decide) rfl ?_
          refine wp_aload0 69 rfl dX0_door_68 ?_
          refine wp_getr 72 rfl dX0_door_69 fX0_62_1 (o1 hK) (p1_7 hK) ?_
          refine wp_getr 75 rfl dX0_door_72 fX0_192_6 (o6 (k_town hK)) (p6_1 (k_town hK)) ?_
          refine wp_iload1 76 rfl dX0_door_75 ?_
          refine wp_iald 77 rfl dX0_door_76 (s6_1 (k_town hK)) (j) (by first | rfl | simp only [pk_mul, nI_add]) (⟨by omega, by decide⟩) ?_
          refine wp_iret dX0_door_77 rfl ?_
          exact sm_ci cq.rf r1
        · subst e
          refine wp_tableIn (off := 48) 78 dX0_door_30 (by decide) (by decide) (by decide) rfl ?_
          refine wp_aload0 79 rfl dX0_door_78 ?_
          refine wp_getr 82 rfl dX0_door_79 fX0_62_1 (o1 hK) (p1_7 hK) ?_
          refine wp_getr 85 rfl dX0_door_82 fX0_195_6 (o6 (k_town hK)) (p6_2 (k_town hK)) ?_
          refine wp_iload1 86 rfl dX0_door_85 ?_
          refine wp_iald 87 rfl dX0_door_86 (s6_2 (k_town hK)) (j) (by first | rfl | simp only [pk_mul, nI_add]) (⟨by omega, by decide⟩) ?_
          refine wp_iret dX0_door_87 rfl ?_
          exact sm_ci cq.rf r2
        · subst e
          refine wp_tableIn (off := 58) 88 dX0_door_30 (by decide) (by decide) (by decide) rfl ?_
          refine wp_aload0 89 rfl dX0_door_88 ?_
          refine wp_getr 92 rfl dX0_door_89 fX0_62_1 (o1 hK) (p1_7 hK) ?_
          refine wp_getr 95 rfl dX0_door_92 fX0_198_6 (o6 (k_town hK)) (p6_3 (k_town hK)) ?_
          refine wp_iload1 96 rfl dX0_door_95 ?_
          refine wp_iald 97 rfl dX0_door_96 (s6_3 (k_town hK)) (j) (by first | rfl | simp only [pk_mul, nI_add]) (⟨by omega, by decide⟩) ?_
          refine wp_iret dX0_door_97 rfl ?_
          exact sm_ci cq.rf r3
        · subst e
          refine wp_tableIn (off := 68) 98 dX0_door_30 (by decide) (by decide) (by decide) rfl ?_
          refine wp_aload0 99 rfl dX0_door_98 ?_
          refine wp_getr 102 rfl dX0_door_99 fX0_62_1 (o1 hK) (p1_7 hK) ?_
          refine wp_getr 105 rfl dX0_door_102 fX0_201_6 (o6 (k_town hK)) (p6_4 (k_town hK)) ?_
          refine wp_iload1 106 rfl dX0_door_105 ?_
          refine wp_iald 107 rfl dX0_door_106 (s6_4 (k_town hK)) (j) (by first | rfl | simp only [pk_mul, nI_add]) (⟨by omega, by decide⟩) ?_
          refine wp_iret dX0_door_107 rfl ?_
          exact sm_ci cq.rf r4
        · subst e
          refine wp_tableIn (off := 78) 108 dX0_door_30 (by decide) (by decide) (by decide) rfl ?_
          refine wp_aload0 109 rfl dX0_door_108 ?_
          refine wp_getr 112 rfl dX0_door_109 fX0_62_1 (o1 hK) (p1_7 hK) ?_
          refine wp_aload0 113 rfl dX0_door_112 ?_
          refine wp_getr 116 rfl dX0_door_113 fX0_51_1 (o1 hK) (hP) ?_
          refine wp_iload1 117 rfl dX0_door_116 ?_
          refine wp_Ve2 120 rfl dX0_door_117 kX5_known lX0_204 (o6 (k_town hK)) (nl rfl) (nl rfl) (s_known' ht hR hw hT hk (by omega)) ?_
          refine wp_iret dX0_door_120 rfl ?_
          exact sm_ci cq.rf rfl
        · subst e
          refine wp_tableIn (off := 91) 121 dX0_door_30 (by decide) (by decide) (by decide) rfl ?_
          refine wp_aload0 122 rfl dX0_door_121 ?_
          refine wp_aload0 123 rfl dX0_door_122 ?_
          refine wp_getr 126 rfl dX0_door_123 fX0_62_1 (o1 hK) (p1_7 hK) ?_
          refine wp_iload1 127 rfl dX0_door_126 ?_
          refine wp_Ve2 130 rfl dX0_door_127 kX0_worn lX0_208 (o1 hK) (nl rfl) (nl rfl) (s_worn hK hP hT hk ht hR hw hj) ?_
          refine wp_iret dX0_door_130 rfl ?_
          exact sm_ci cq.rf rfl
      · have e2 : z_ix what 10 = none := z_ix_no (by decide) h10
        have ho := z_nix (by decide) h10
        refine wp_if_eq 17 29 rfl rfl dX0_door_14 (fun c14 => ?_) (fun c14 => absurd (z_b_eq.mpr (z_p4n hp)) c14)
        refine wp_iload2 30 rfl dX0_door_29 ?_
        refine wp_tableOut 131 dX0_door_30 (by omega) rfl ?_
        refine wp_iconst (-1) 132 rfl dX0_door_131 (by decide) ?_
        refine wp_iret dX0_door_132 rfl ?_
        refine sm_ci cq.rf ?_
        simp only [e2]
  · unfold o_door
    rw [z_ix_no (by omega) hx]
    refine wp_if_ne 8 10 rfl rfl dX0_door_5 (fun c5 => absurd (z_b_eq.mpr hx) c5) (fun c5 => ?_)
    refine wp_iconst (-1) 9 rfl dX0_door_8 (by decide) ?_
    refine wp_iret dX0_door_9 rfl ?_
    exact sm_ci cq.rf rfl
theorem c_unlike (hA : cA I ρ tp q T w) (x y : Int32) : sm_M G xX0_unlike (d + 6) [.ref 64, .int x, .int y] I ρ (cPost I ρ (o_unlike T w x y)) := by
  obtain ⟨hK, hP, hT, hk, ⟨hw, hz⟩, hR⟩ := hA
  show sm_V G xX0_unlike (d + 6) 0 [.ref 64, .int x, .int y] [] I ρ _
  obtain ⟨h6, h5, h10⟩ := hk.1
  have ht := k_town hK
  unfold o_unlike
  refine wp_aload0 1 rfl dX0_unlike_0 ?_
  refine wp_iload1 2 rfl dX0_unlike_1 ?_
  refine wp_Ve1 5 rfl dX0_unlike_2 kX0_isDoor lX0_185 (o1 hK) (nl rfl) (nl rfl) (s_cisDoor hK hP hT hk x) ?_
  by_cases hx : ∃ j, j < tx_D T ∧ x = nI j
  · obtain ⟨j, hj, e⟩ := hx
    subst e
    rw [z_ix_n hj (by omega)]
    refine wp_if_eq 8 32 rfl rfl dX0_unlike_5 (fun c5 => absurd c5 (z_b_ne.mpr ⟨j, hj, rfl⟩)) (fun c5 => ?_)
    refine wp_aload0 9 rfl dX0_unlike_8 ?_
    refine wp_iload2 10 rfl dX0_unlike_9 ?_
    refine wp_Ve1 13 rfl dX0_unlike_10 kX0_isCaller lX0_212 (o1 hK) (nl rfl) (nl rfl) (s_cisCaller hK hP hT hk y) ?_
    by_cases hy : ∃ j, j < tx_C T ∧ y = nI j
    · obtain ⟨c, hc, e⟩ := hy
      subst e
      rw [z_ix_n hc (by omega)]
      refine wp_if_eq 16 32 rfl rfl dX0_unlike_13 (fun c13 => absurd c13 (z_b_ne.mpr ⟨c, hc, rfl⟩)) (fun c13 => ?_)
      refine wp_aload0 17 rfl dX0_unlike_16 ?_
      refine wp_getr 20 rfl dX0_unlike_17 fX0_62_1 (o1 hK) (p1_7 hK) ?_
      refine wp_aload0 21 rfl dX0_unlike_20 ?_
      refine wp_getr 24 rfl dX0_unlike_21 fX0_51_1 (o1 hK) (hP) ?_
      refine wp_iload1 25 rfl dX0_unlike_24 ?_
      refine wp_iload2 26 rfl dX0_unlike_25 ?_
      refine wp_Ve3 29 rfl dX0_unlike_26 kX5_unlike lX0_247 (o6 (k_town hK)) (nl rfl) (nl rfl) (s_tunlike ht hR hw hT hk (by omega) hc) ?_
      refine wp_goto 33 rfl dX0_unlike_29 ?_
      refine wp_iret dX0_unlike_33 rfl ?_
      exact sm_ci cq.rf rfl
    · rw [z_ix_no (by omega) hy]
      refine wp_if_eq 16 32 rfl rfl dX0_unlike_13 (fun c13 => ?_) (fun c13 => absurd (z_b_eq.mpr hy) c13)
      refine wp_iconst (-1) 33 rfl dX0_unlike_32 (by decide) ?_
      refine wp_iret dX0_unlike_33 rfl ?_
      exact sm_ci cq.rf rfl
  · rw [z_ix_no (by omega) hx]
    refine wp_if_eq 8 32 rfl rfl dX0_unlike_5 (fun c5 => ?_) (fun c5 => absurd (z_b_eq.mpr hx) c5)
    refine wp_iconst (-1) 33 rfl dX0_unlike_32 (by decide) ?_
    refine wp_iret dX0_unlike_33 rfl ?_
    exact sm_ci cq.rf rfl
theorem c_tells (hA : cA I ρ tp q T w) (x y what : Int32) : sm_M G xX0_tells (d + 405) [.ref 64, .int x, .int y, .int what] I ρ (cPost I ρ (o_tells T w x y what)) := by
  obtain ⟨hK, hP, hT, hk, ⟨hw, hz⟩, hR⟩ := hA
  show sm_V G xX0_tells (d + 405) 0 [.ref 64, .int x, .int y, .int what] [] I ρ _
  obtain ⟨h6, h5, h10⟩ := hk.1
  have ht := k_town hK
  unfold o_tells
  refine wp_aload0 1 rfl dX0_tells_0 ?_
  refine wp_iload1 2 rfl dX0_tells_1 ?_
  refine wp_Ve1 5 rfl dX0_tells_2 kX0_isDoor lX0_185 (o1 hK) (nl rfl) (nl rfl) (s_cisDoor hK hP hT hk x) ?_
  by_cases hx : ∃ j, j < tx_D T ∧ x = nI j
  · obtain ⟨j, hj, e⟩ := hx
    subst e
    rw [z_ix_n hj (by omega)]
    refine wp_if_eq 8 25 rfl rfl dX0_tells_5 (fun c5 => absurd c5 (z_b_ne.mpr ⟨j, hj, rfl⟩)) (fun c5 => ?_)
    refine wp_aload0 9 rfl dX0_tells_8 ?_
    refine wp_iload2 10 rfl dX0_tells_9 ?_
    refine wp_Ve1 13 rfl dX0_tells_10 kX0_isCaller lX0_212 (o1 hK) (nl rfl) (nl rfl) (s_cisCaller hK hP hT hk y) ?_
    by_cases hy : ∃ j, j < tx_C T ∧ y = nI j
    · obtain ⟨c, hc, e⟩ := hy
      subst e
      rw [z_ix_n hc (by omega)]
      refine wp_if_eq 16 25 rfl rfl dX0_tells_13 (fun c13 => absurd c13 (z_b_ne.mpr ⟨c, hc, rfl⟩)) (fun c13 => ?_)
      refine wp_iload3 17 rfl dX0_tells_16 ?_
      refine wp_iconst (nI 0) 18 rfl dX0_tells_17 (by decide) ?_
      refine wp_iconst (nI 4) 19 rfl dX0_tells_18 (by decide) ?_
      refine wp_Se3 22 rfl dX0_tells_19 kX0_isIn lX0_161 (nl rfl) (nl rfl) (s_isIn _ _ _) ?_
      by_cases hp : ∃ k, k < 5 ∧ what = nI k
      · obtain ⟨k, hk5, e⟩ := hp
        subst e
        rw [z_ix_n hk5 (by decide)]
        have hin := (z_in_lo (x := nI k) (n := 5) (m := 4) rfl (by decide)).mpr ⟨k, hk5, rfl⟩
        by_cases e4 : k = 4
        · subst e4
          refine wp_if_ne 25 27 rfl rfl dX0_tells_22 (fun c22 => ?_) (fun c22 => absurd c22 (z_b_ne.mpr hin))
          refine wp_iload3 28 rfl dX0_tells_27 ?_
          refine wp_iconst (nI 4) 29 rfl dX0_tells_28 (by decide) ?_
          refine wp_icmp_ne 32 48 rfl rfl dX0_tells_29 (fun c29 => absurd (rfl) c29) (fun c29 => ?_)
          refine wp_aload0 33 rfl dX0_tells_32 ?_
          refine wp_getr 36 rfl dX0_tells_33 fX0_62_1 (o1 hK) (p1_7 hK) ?_
          refine wp_aload0 37 rfl dX0_tells_36 ?_
          refine wp_getr 40 rfl dX0_tells_37 fX0_51_1 (o1 hK) (hP) ?_
          refine wp_iload1 41 rfl dX0_tells_40 ?_
          refine wp_iload2 42 rfl dX0_tells_41 ?_
          refine wp_Vi3 45 rfl dX0_tells_42 kX5_pays lX0_251 (o6 (k_town hK)) (nl rfl) (nl rfl) (s_pays ht ⟨by decide, by decide⟩ hR hw hT hk (by omega) hc) (fun r J ρ1 hq => ?_)
          refine wp_goto 62 rfl dX0_tells_45 ?_
          refine wp_iret dX0_tells_62 rfl ?_
          obtain ⟨e1, f1, e2⟩ := hq
          have e1 := e1.symm
          subst e1
          exact sm_ci (cq.of f1 cs_scr) e2
        · refine wp_if_ne 25 27 rfl rfl dX0_tells_22 (fun c22 => ?_) (fun c22 => absurd c22 (z_b_ne.mpr hin))
          refine wp_iload3 28 rfl dX0_tells_27 ?_
          refine wp_iconst (nI 4) 29 rfl dX0_tells_28 (by decide) ?_
          refine wp_icmp_ne 32 48 rfl rfl dX0_tells_29 (fun c29 => ?_) (fun c29 => absurd c29 (fun z => e4 ((nI_eq (by omega) (by decide)).mp z)))
          refine wp_aload0 49 rfl dX0_tells_48 ?_
          refine wp_getr 52 rfl dX0_tells_49 fX0_62_1 (o1 hK) (p1_7 hK) ?_
          refine wp_aload0 53 rfl dX0_tells_52 ?_
          refine wp_getr 56 rfl dX0_tells_53 fX0_51_1 (o1 hK) (hP) ?_
          refine wp_iload1 57 rfl dX0_tells_56 ?_
          refine wp_iload2 58 rfl dX0_tells_57 ?_
          refine wp_iload3 59 rfl dX0_tells_58 ?_
          refine wp_Vi4 62 rfl dX0_tells_59 kX5_gives lX0_254 (o6 (k_town hK)) (nl rfl) (nl rfl) (s_gives ht ⟨by decide, by decide⟩ hR hw hT hk (by omega) hc (by omega)) (fun r J ρ1 hq => ?_)
          refine wp_iret dX0_tells_62 rfl ?_
          obtain ⟨e1, f1, e2⟩ := hq
          have e1 := e1.symm
          subst e1
          refine sm_ci (cq.of f1 cs_scr) ?_
          rw [e2]
          exact (if_neg e4).symm
      · rw [z_ix_no (by decide) hp]
        refine wp_if_ne 25 27 rfl rfl dX0_tells_22 (fun c22 => absurd (z_b_eq.mpr (fun z => hp ((z_in_lo (n := 5) (m := 4) rfl (by decide)).mp z))) c22) (fun c22 => ?_)
        refine wp_iconst (-1) 26 rfl dX0_tells_25 (by decide) ?_
        refine wp_iret dX0_tells_26 rfl ?_
        exact sm_ci cq.rf rfl
    · rw [z_ix_no (by omega) hy]
      refine wp_if_eq 16 25 rfl rfl dX0_tells_13 (fun c13 => ?_) (fun c13 => absurd (z_b_eq.mpr hy) c13)
      refine wp_iconst (-1) 26 rfl dX0_tells_25 (by decide) ?_
      refine wp_iret dX0_tells_26 rfl ?_
      exact sm_ci cq.rf rfl
  · rw [z_ix_no (by omega) hx]
    refine wp_if_eq 8 25 rfl rfl dX0_tells_5 (fun c5 => ?_) (fun c5 => absurd (z_b_eq.mpr hx) c5)
    refine wp_iconst (-1) 26 rfl dX0_tells_25 (by decide) ?_
    refine wp_iret dX0_tells_26 rfl ?_
    exact sm_ci cq.rf rfl
end D1
