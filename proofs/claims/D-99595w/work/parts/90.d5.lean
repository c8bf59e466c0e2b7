/-! ===== the component: towards, richest, twins, confused, calls, busy ===== -/
set_option maxRecDepth 100000
def z_o0 (s : Option Nat) : Int32 := match s with
  | none => nI 0
  | some b => nI b
def z_am (f : Nat → Int32) (k : Nat) (s : Option Nat) : Int32 := match s with
  | none => -2
  | some b => if k = 0 then nI b else f b
theorem z_arg_none {f : Nat → Int32} {n : Nat} (hn : 0 < n) : ¬ z_arg f n = none := by
  cases n with
  | zero => omega
  | succ n =>
    have e : z_arg f (n + 1) = match z_arg f n with
      | none => some n
      | some b => if f n < f b then some n else some b := rfl
    intro z
    rw [e] at z
    cases h : z_arg f n with
    | none => rw [h] at z; cases z
    | some b =>
      rw [h] at z
      simp only [] at z
      split at z <;> cases z
section D5
variable {G : sm_G} {d : Nat} {I : sm_I} {ρ : sm_R} {tp : Nat} {q : tq4} {T : tx} {w : Nat → Int32}
theorem c_towards (hA : cA I ρ tp q T w) (x y what : Int32) : sm_M G xX0_towards (d + 408) [.ref 64, .int x, .int y, .int what] I ρ (cPost I ρ (o_towards T w x y what)) := by
  obtain ⟨hK, hP, hT, hk, ⟨hw, hz⟩, hR⟩ := hA
  show sm_V G xX0_towards (d + 408) 0 [.ref 64, .int x, .int y, .int what, .retAddr 0, .retAddr 0, .retAddr 0, .retAddr 0] [] I ρ _
  obtain ⟨h6, h5, h10⟩ := hk.1
  have ht := k_town hK
  have ht2 := k_trial hK
  unfold o_towards
  refine wp_aload0 1 rfl dX0_towards_0 ?_
  refine wp_iload1 2 rfl dX0_towards_1 ?_
  refine wp_Ve1 5 rfl dX0_towards_2 kX0_isDoor lX0_185 (o1 hK) (nl rfl) (nl rfl) (s_cisDoor hK hP hT hk x) ?_
  by_cases hX : ∃ j, j < tx_D T ∧ x = nI j
  · obtain ⟨j, hj, e⟩ := hX
    subst e
    rw [z_ix_n hj (by omega)]
    refine wp_if_eq 8 25 rfl rfl dX0_towards_5 (fun c5 => absurd c5 (z_b_ne.mpr ⟨j, hj, rfl⟩)) (fun c5 => ?_)
    refine wp_aload0 9 rfl dX0_towards_8 ?_
    refine wp_iload2 10 rfl dX0_towards_9 ?_
    refine wp_Ve1 13 rfl dX0_towards_10 kX0_isCaller lX0_212 (o1 hK) (nl rfl) (nl rfl) (s_cisCaller hK hP hT hk y) ?_
    by_cases hX : ∃ j, j < tx_C T ∧ y = nI j
    · obtain ⟨c, hc, e⟩ := hX
      subst e
      rw [z_ix_n hc (by omega)]
      refine wp_if_eq 16 25 rfl rfl dX0_towards_13 (fun c13 => absurd c13 (z_b_ne.mpr ⟨c, hc, rfl⟩)) (fun c13 => ?_)
      refine wp_iload3 17 rfl dX0_towards_16 ?_
      refine wp_iconst (nI 0) 18 rfl dX0_towards_17 (by decide) ?_
      refine wp_iconst (nI 1) 19 rfl dX0_towards_18 (by decide) ?_
      refine wp_Se3 22 rfl dX0_towards_19 kX0_isIn lX0_161 (nl rfl) (nl rfl) (s_isIn _ _ _) ?_
      by_cases hX : ∃ j, j < 2 ∧ what = nI j
      · obtain ⟨kk, hkk, e⟩ := hX
        subst e
        rw [z_ix_n hkk (by decide)]
        show sm_V G xX0_towards (d + 408) 22 _ _ I ρ (cPost I ρ (z_am (fun i => r_unl T (r_lift T w j i) j c) kk (z_arg (fun i => r_unl T (r_lift T w j i) j c) (tx_C T))))
        refine wp_if_ne 25 27 rfl rfl dX0_towards_22 (fun c22 => ?_) (fun c22 => absurd c22 (z_b_ne.mpr ((z_in_lo (n := 2) (m := 1) rfl (by decide)).mpr ⟨kk, hkk, rfl⟩)))
        refine wp_iconst (nI 0) 28 rfl dX0_towards_27 (by decide) ?_
        refine wp_istore4 30 rfl dX0_towards_28 (by decide) rfl ?_
        refine wp_ldcw 33 rfl dX0_towards_30 q1359 ?_
        refine wp_istore5 35 rfl dX0_towards_33 (by decide) rfl ?_
        refine wp_iconst (nI 0) 36 rfl dX0_towards_35 (by decide) ?_
        refine wp_istore6 38 rfl dX0_towards_36 (by decide) rfl ?_
        have hT9 := hT
        have hR9 := hR
        refine sm_for (P := fun i => ∀ J : sm_I, cq I J → sm_V G xX0_towards (d + 408) 38 [.ref 64, .int (nI j), .int (nI c), .int (nI kk), .int (z_o0 (z_arg (fun i => r_unl T (r_lift T w j i) j c) i)), .int (z_fw (fun i => r_unl T (r_lift T w j i) j c) (z_arg (fun i => r_unl T (r_lift T w j i) j c) i)), .int (nI i), .retAddr 0] [] J ρ _) 0 (tx_C T) (Nat.zero_le _) ?_ (fun i _ hi ih => ?_) I cq.rf
        · intro J hJ
          have hT := hT9.kept hJ.T
          refine wp_iload6 40 rfl dX0_towards_38 ?_
          refine wp_aload0 41 rfl dX0_towards_40 ?_
          refine wp_Ve0 44 rfl dX0_towards_41 kX0_callers lX0_165 (o1 hK) (nl rfl) (nl rfl) (s_callers hK hP hT) ?_
          refine wp_icmp_ge 47 111 rfl rfl dX0_towards_44 (fun c44 => ?_) (fun c44 => absurd (nI_le (Nat.le_refl _) (by omega)) c44)
          cases hs : z_arg (fun i => r_unl T (r_lift T w j i) j c) (tx_C T) with
          | none => exact absurd hs (z_arg_none (by omega))
          | some b =>
            by_cases e : kk = 0
            · subst e
              refine wp_iload3 112 rfl dX0_towards_111 ?_
              refine wp_if_ne 115 120 rfl rfl dX0_towards_112 (fun c112 => absurd (rfl) c112) (fun c112 => ?_)
              refine wp_iload4 117 rfl dX0_towards_115 ?_
              refine wp_goto 122 rfl dX0_towards_117 ?_
              refine wp_iret dX0_towards_122 rfl ?_
              exact sm_ci hJ rfl
            · refine wp_iload3 112 rfl dX0_towards_111 ?_
              refine wp_if_ne 115 120 rfl rfl dX0_towards_112 (fun c112 => ?_) (fun c112 => absurd c112 (fun z => e ((nI_eq (b := 0) (by omega) (by decide)).mp z)))
              refine wp_iload5 122 rfl dX0_towards_120 ?_
              refine wp_iret dX0_towards_122 rfl ?_
              exact sm_ci hJ (if_neg e).symm
        · intro J hJ
          obtain ⟨-, -, hT, -, -, hR⟩ := cA.q (I1 := J) ⟨hK, hP, hT9, hk, ⟨hw, hz⟩, hR9⟩ hJ
          have w1 := wok_lift (T := T) hw hk (dd := j) (c := i) (by omega) hi
          have e0 := z_arg_s (f := fun i => r_unl T (r_lift T w j i) j c) (n := i) (r_unl_far w1 hk (by omega) hc)
          rw [e0] at ih
          refine wp_iload6 40 rfl dX0_towards_38 ?_
          refine wp_aload0 41 rfl dX0_towards_40 ?_
          refine wp_Ve0 44 rfl dX0_towards_41 kX0_callers lX0_165 (o1 hK) (nl rfl) (nl rfl) (s_callers hK hP hT) ?_
          refine wp_icmp_ge 47 111 rfl rfl dX0_towards_44 (fun c44 => absurd c44 (nI_ge hi (by omega))) (fun c44 => ?_)
          refine wp_aload0 48 rfl dX0_towards_47 ?_
          refine wp_getr 51 rfl dX0_towards_48 fX0_66_1 (o1 hK) (p1_8 hK) ?_
          refine wp_aload0 52 rfl dX0_towards_51 ?_
          refine wp_getr 55 rfl dX0_towards_52 fX0_62_1 (o1 hK) (p1_7 hK) ?_
          refine wp_Vv1 58 rfl dX0_towards_55 kX5_takes lX0_261 (o6 (k_trial hK)) (nl rfl) (nl rfl) (s_takes ht2 ht (by omega) hR) (fun J0 ρ1 hq9 => ?_)
          obtain ⟨e1, f0, hR0⟩ := hq9
          have e1 := e1.symm
          subst e1
          have hq0 := hJ.tr9 f0
          have hT := hT9.kept hq0.T
          refine wp_aload0 59 rfl dX0_towards_58 ?_
          refine wp_getr 62 rfl dX0_towards_59 fX0_66_1 (o1 hK) (p1_8 hK) ?_
          refine wp_aload0 63 rfl dX0_towards_62 ?_
          refine wp_getr 66 rfl dX0_towards_63 fX0_51_1 (o1 hK) (hP) ?_
          refine wp_iload1 67 rfl dX0_towards_66 ?_
          refine wp_iload6 69 rfl dX0_towards_67 ?_
          refine wp_Vv3 72 rfl dX0_towards_69 kX5_lift lX0_271 (o6 (k_trial hK)) (nl rfl) (nl rfl) (s_clift (d := d + 2) ht2 ⟨by decide, by decide⟩ hR0 hw hT hk (by omega) hi) (fun J1 ρ1 hq9 => ?_)
          obtain ⟨e1, f1, hR1⟩ := hq9
          have e1 := e1.symm
          subst e1
          have hq1 := hq0.tr9 f1
          have hT := hT9.kept hq1.T
          have ih := ih J1 hq1
          refine wp_aload0 73 rfl dX0_towards_72 ?_
          refine wp_getr 76 rfl dX0_towards_73 fX0_66_1 (o1 hK) (p1_8 hK) ?_
          refine wp_aload0 77 rfl dX0_towards_76 ?_
          refine wp_getr 80 rfl dX0_towards_77 fX0_51_1 (o1 hK) (hP) ?_
          refine wp_iload1 81 rfl dX0_towards_80 ?_
          refine wp_iload2 82 rfl dX0_towards_81 ?_
          refine wp_Ve3 85 rfl dX0_towards_82 kX5_unlike lX0_247 (o6 (k_trial hK)) (nl rfl) (nl rfl) (s_tunlike ht2 hR1 w1 hT hk (by omega) hc) ?_
          refine wp_istore7 87 rfl dX0_towards_85 (by decide) rfl ?_
          refine wp_iload7 89 rfl dX0_towards_87 ?_
          refine wp_iload5 91 rfl dX0_towards_89 ?_
          refine wp_icmp_lt 94 97 rfl rfl dX0_towards_91 (fun c91 => ?_) (fun c91 => ?_)
          · rw [if_pos c91] at ih
            refine wp_iload6 99 rfl dX0_towards_97 ?_
            refine wp_istore4 101 rfl dX0_towards_99 (by decide) rfl ?_
            refine wp_iload7 103 rfl dX0_towards_101 ?_
            refine wp_istore5 105 rfl dX0_towards_103 (by decide) rfl ?_
            refine wp_iincN6 108 rfl dX0_towards_105 (by decide) rfl ?_
            refine wp_goto 38 rfl dX0_towards_108 ?_
            exact wp_weakK ih ⟨Or.inr rfl, Or.inr rfl, Or.inr rfl, Or.inr rfl, Or.inr rfl, Or.inr rfl, Or.inr rfl, Or.inl rfl, trivial⟩
          · rw [if_neg c91] at ih
            refine wp_goto 105 rfl dX0_towards_94 ?_
            refine wp_iincN6 108 rfl dX0_towards_105 (by decide) rfl ?_
            refine wp_goto 38 rfl dX0_towards_108 ?_
            exact wp_weakK ih ⟨Or.inr rfl, Or.inr rfl, Or.inr rfl, Or.inr rfl, Or.inr rfl, Or.inr rfl, Or.inr rfl, Or.inl rfl, trivial⟩
      · rw [z_ix_no (by decide) hX]
        refine wp_if_ne 25 27 rfl rfl dX0_towards_22 (fun c22 => absurd (z_b_eq.mpr (fun z => hX ((z_in_lo (n := 2) (m := 1) rfl (by decide)).mp z))) c22) (fun c22 => ?_)
        refine wp_iconst (-1) 26 rfl dX0_towards_25 (by decide) ?_
        refine wp_iret dX0_towards_26 rfl ?_
        exact sm_ci cq.rf rfl
    · rw [z_ix_no (by omega) hX]
      refine wp_if_eq 16 25 rfl rfl dX0_towards_13 (fun c13 => ?_) (fun c13 => absurd (z_b_eq.mpr hX) c13)
      refine wp_iconst (-1) 26 rfl dX0_towards_25 (by decide) ?_
      refine wp_iret dX0_towards_26 rfl ?_
      exact sm_ci cq.rf rfl
  · rw [z_ix_no (by omega) hX]
    refine wp_if_eq 8 25 rfl rfl dX0_towards_5 (fun c5 => ?_) (fun c5 => absurd (z_b_eq.mpr hX) c5)
    refine wp_iconst (-1) 26 rfl dX0_towards_25 (by decide) ?_
    refine wp_iret dX0_towards_26 rfl ?_
    exact sm_ci cq.rf rfl
theorem c_richest (hA : cA I ρ tp q T w) (n what : Int32) : sm_M G xX0_richest (d + 408) [.ref 64, .int n, .int what] I ρ (cPost I ρ (o_richest T w n what)) := by
  obtain ⟨hK, hP, hT, hk, ⟨hw, hz⟩, hR⟩ := hA
  show sm_V G xX0_richest (d + 408) 0 [.ref 64, .int n, .int what, .retAddr 0, .retAddr 0] [] I ρ _
  obtain ⟨h6, h5, h10⟩ := hk.1
  have ht := k_town hK
  have ht2 := k_trial hK
  unfold o_richest
  refine wp_iload1 1 rfl dX0_richest_0 ?_
  refine wp_Se1 4 rfl dX0_richest_1 kX0_isAhead lX0_286 (nl rfl) (nl rfl) (s_isAhead n) ?_
  by_cases hX : ∃ j, (0 ≤ j ∧ j ≤ 60) ∧ n = nI j
  · obtain ⟨m, hm, e⟩ := hX
    subst e
    rw [z_iv_n (l := 0) (m := 60) hm (by decide) (by decide)]
    refine wp_if_eq 7 16 rfl rfl dX0_richest_4 (fun c4 => absurd c4 (z_b_ne.mpr ((z_iv_iff (l := 0) (m := 60) (by decide) (by decide)).mpr ⟨m, hm, rfl⟩))) (fun c4 => ?_)
    refine wp_iload2 8 rfl dX0_richest_7 ?_
    refine wp_iconst (nI 0) 9 rfl dX0_richest_8 (by decide) ?_
    refine wp_iconst (nI 1) 10 rfl dX0_richest_9 (by decide) ?_
    refine wp_Se3 13 rfl dX0_richest_10 kX0_isIn lX0_161 (nl rfl) (nl rfl) (s_isIn _ _ _) ?_
    by_cases hX : ∃ j, j < 2 ∧ what = nI j
    · obtain ⟨kk, hkk, e⟩ := hX
      subst e
      rw [z_ix_n hkk (by decide)]
      show sm_V G xX0_richest (d + 408) 13 _ _ I ρ (cPost I ρ (z_am (fun i => r_still T w m (42 + i)) kk (z_argM (fun i => r_still T w m (42 + i)) (tx_D T))))
      refine wp_if_ne 16 18 rfl rfl dX0_richest_13 (fun c13 => ?_) (fun c13 => absurd c13 (z_b_ne.mpr ((z_in_lo (n := 2) (m := 1) rfl (by decide)).mpr ⟨kk, hkk, rfl⟩)))
      refine wp_bipush (-2) 20 rfl dX0_richest_18 (by decide) ?_
      refine wp_istore3 21 rfl dX0_richest_20 (by decide) rfl ?_
      refine wp_aload0 22 rfl dX0_richest_21 ?_
      refine wp_getr 25 rfl dX0_richest_22 fX0_66_1 (o1 hK) (p1_8 hK) ?_
      refine wp_aload0 26 rfl dX0_richest_25 ?_
      refine wp_getr 29 rfl dX0_richest_26 fX0_62_1 (o1 hK) (p1_7 hK) ?_
      refine wp_Vv1 32 rfl dX0_richest_29 kX5_takes lX0_261 (o6 (k_trial hK)) (nl rfl) (nl rfl) (s_takes ht2 ht (by omega) hR) (fun J0 ρ1 hq9 => ?_)
      obtain ⟨e1, f0, hR0⟩ := hq9
      have e1 := e1.symm
      subst e1
      have hq0 : cq I J0 := cq.of f0 (cs_town (Or.inl rfl))
      have hT0 := hT.kept hq0.T
      have hT := hT0
      refine wp_aload0 33 rfl dX0_richest_32 ?_
      refine wp_aload0 34 rfl dX0_richest_33 ?_
      refine wp_getr 37 rfl dX0_richest_34 fX0_66_1 (o1 hK) (p1_8 hK) ?_
      refine wp_iload1 38 rfl dX0_richest_37 ?_
      refine wp_aload0 39 rfl dX0_richest_38 ?_
      refine wp_getr 42 rfl dX0_richest_39 fX0_89_1 (o1 hK) (p1_13 hK) ?_
      refine wp_Vv3 45 rfl dX0_richest_42 kX0_runs lX0_289 (o1 hK) (nl rfl) (nl rfl) (s_runs (d := d) hK hP ht2 ⟨by decide, by decide⟩ hR0 hw hz hT hk (Or.inr ⟨rfl, rfl⟩) m hm.2) (fun J1 ρ1 hq9 => ?_)
      obtain ⟨e1, f1, hR1⟩ := hq9
      have e1 := e1.symm
      subst e1
      have hq1 := hq0.tr9 f1
      have hT := hT.kept (cq.of f1 (cs_town (Or.inl rfl))).T
      refine wp_iconst (nI 0) 46 rfl dX0_richest_45 (by decide) ?_
      refine wp_istore4 48 rfl dX0_richest_46 (by decide) rfl ?_
      refine sm_for (P := fun p => sm_V G xX0_richest (d + 408) 48 [.ref 64, .int (nI m), .int (nI kk), .int (z_on (z_argM (fun i => r_still T w m (42 + i)) p)), .int (nI p)] [] J1 ρ _) 0 (tx_D T) (Nat.zero_le _) ?_ (fun p _ hp ih => ?_)
      · refine wp_iload4 50 rfl dX0_richest_48 ?_
        refine wp_aload0 51 rfl dX0_richest_50 ?_
        refine wp_Ve0 54 rfl dX0_richest_51 kX0_doors lX0_159 (o1 hK) (nl rfl) (nl rfl) (s_doors hK hP hT) ?_
        refine wp_icmp_ge 57 92 rfl rfl dX0_richest_54 (fun c54 => ?_) (fun c54 => absurd (nI_le (Nat.le_refl _) (by omega)) c54)
        have hl : ∀ b, z_argM (fun i => r_still T w m (42 + i)) (tx_D T) = some b → b < tx_D T := fun b hb => z_argM_lt hb
        cases hs : z_argM (fun i => r_still T w m (42 + i)) (tx_D T) with
        | none =>
          refine wp_iload3 93 rfl dX0_richest_92 ?_
          refine wp_if_lt 96 100 rfl rfl dX0_richest_93 (fun c93 => ?_) (fun c93 => absurd ((by decide : (-2 : Int32) < 0)) c93)
          refine wp_iload3 101 rfl dX0_richest_100 ?_
          refine wp_goto 113 rfl dX0_richest_101 ?_
          refine wp_iret dX0_richest_113 rfl ?_
          exact sm_ci hq1 rfl
        | some b =>
          have hb := hl b hs
          by_cases e : kk = 0
          · subst e
            refine wp_iload3 93 rfl dX0_richest_92 ?_
            refine wp_if_lt 96 100 rfl rfl dX0_richest_93 (fun c93 => absurd c93 (nI_pos (n := b) (by omega))) (fun c93 => ?_)
            refine wp_iload2 97 rfl dX0_richest_96 ?_
            refine wp_if_ne 100 104 rfl rfl dX0_richest_97 (fun c97 => absurd (rfl) c97) (fun c97 => ?_)
            refine wp_iload3 101 rfl dX0_richest_100 ?_
            refine wp_goto 113 rfl dX0_richest_101 ?_
            refine wp_iret dX0_richest_113 rfl ?_
            exact sm_ci hq1 rfl
          · refine wp_iload3 93 rfl dX0_richest_92 ?_
            refine wp_if_lt 96 100 rfl rfl dX0_richest_93 (fun c93 => absurd c93 (nI_pos (n := b) (by omega))) (fun c93 => ?_)
            refine wp_iload2 97 rfl dX0_richest_96 ?_
            refine wp_if_ne 100 104 rfl rfl dX0_richest_97 (fun c97 => ?_) (fun c97 => absurd c97 (fun z => e ((nI_eq (b := 0) (by omega) (by decide)).mp z)))
            refine wp_aload0 105 rfl dX0_richest_104 ?_
            refine wp_getr 108 rfl dX0_richest_105 fX0_66_1 (o1 hK) (p1_8 hK) ?_
            refine wp_getr 111 rfl dX0_richest_108 fX0_201_6 (o6 (k_trial hK)) (p6_4 (k_trial hK)) ?_
            refine wp_iload3 112 rfl dX0_richest_111 ?_
            refine wp_iald 113 rfl dX0_richest_112 (s6_4 (k_trial hK)) (b) (by first | rfl | simp only [pk_mul, nI_add]) (⟨by omega, by decide⟩) ?_
            refine wp_iret dX0_richest_113 rfl ?_
            refine sm_ci hq1 ?_
            exact ((hR1.2.1 b (by omega)).2.2.2).trans (if_neg e).symm
      · have e0 : z_argM (fun i => r_still T w m (42 + i)) (p + 1) = match z_argM (fun i => r_still T w m (42 + i)) p with
          | none => some p
          | some b => if r_still T w m (42 + b) < r_still T w m (42 + p) then some p else some b := rfl
        rw [e0] at ih
        have hl : ∀ b, z_argM (fun i => r_still T w m (42 + i)) p = some b → b < p := fun b hb => z_argM_lt hb
        cases hs : z_argM (fun i => r_still T w m (42 + i)) p with
        | none =>
          rw [hs] at ih
          refine wp_iload4 50 rfl dX0_richest_48 ?_
          refine wp_aload0 51 rfl dX0_richest_50 ?_
          refine wp_Ve0 54 rfl dX0_richest_51 kX0_doors lX0_159 (o1 hK) (nl rfl) (nl rfl) (s_doors hK hP hT) ?_
          refine wp_icmp_ge 57 92 rfl rfl dX0_richest_54 (fun c54 => absurd c54 (nI_ge hp (by omega))) (fun c54 => ?_)
          refine wp_iload3 58 rfl dX0_richest_57 ?_
          refine wp_if_lt 61 83 rfl rfl dX0_richest_58 (fun c58 => ?_) (fun c58 => absurd ((by decide : (-2 : Int32) < 0)) c58)
          refine wp_iload4 85 rfl dX0_richest_83 ?_
          refine wp_istore3 86 rfl dX0_richest_85 (by decide) rfl ?_
          refine wp_iincN4 89 rfl dX0_richest_86 (by decide) rfl ?_
          refine wp_goto 48 rfl dX0_richest_89 ?_
          exact ih
        | some b =>
          rw [hs] at ih
          have hb := hl b hs
          refine wp_iload4 50 rfl dX0_richest_48 ?_
          refine wp_aload0 51 rfl dX0_richest_50 ?_
          refine wp_Ve0 54 rfl dX0_richest_51 kX0_doors lX0_159 (o1 hK) (nl rfl) (nl rfl) (s_doors hK hP hT) ?_
          refine wp_icmp_ge 57 92 rfl rfl dX0_richest_54 (fun c54 => absurd c54 (nI_ge hp (by omega))) (fun c54 => ?_)
          refine wp_iload3 58 rfl dX0_richest_57 ?_
          refine wp_if_lt 61 83 rfl rfl dX0_richest_58 (fun c58 => absurd c58 (nI_pos (n := b) (by omega))) (fun c58 => ?_)
          refine wp_aload0 62 rfl dX0_richest_61 ?_
          refine wp_getr 65 rfl dX0_richest_62 fX0_66_1 (o1 hK) (p1_8 hK) ?_
          refine wp_getr 68 rfl dX0_richest_65 fX0_201_6 (o6 (k_trial hK)) (p6_4 (k_trial hK)) ?_
          refine wp_iload4 70 rfl dX0_richest_68 ?_
          refine wp_iald 71 rfl dX0_richest_70 (s6_4 (k_trial hK)) (p) (by first | rfl | simp only [pk_mul, nI_add]) (⟨by omega, by decide⟩) ?_
          refine wp_aload0 72 rfl dX0_richest_71 ?_
          refine wp_getr 75 rfl dX0_richest_72 fX0_66_1 (o1 hK) (p1_8 hK) ?_
          refine wp_getr 78 rfl dX0_richest_75 fX0_201_6 (o6 (k_trial hK)) (p6_4 (k_trial hK)) ?_
          refine wp_iload3 79 rfl dX0_richest_78 ?_
          refine wp_iald 80 rfl dX0_richest_79 (s6_4 (k_trial hK)) (b) (by first | rfl | simp only [pk_mul, nI_add]) (⟨by omega, by decide⟩) ?_
          have r1 := (hR1.2.1 p (by omega)).2.2.2
          have r2 := (hR1.2.1 b (by omega)).2.2.2
          rw [r1, r2]
          refine wp_icmp_le 83 86 rfl rfl dX0_richest_80 (fun c80 => ?_) (fun c80 => ?_)
          · have ih : sm_V G xX0_richest (d + 408) 48 [.ref 64, .int (nI m), .int (nI kk), .int (z_on (if r_still T w m (42 + b) < r_still T w m (42 + p) then some p else some b)), .int (nI (p + 1))] [] J1 ρ _ := ih
            rw [if_neg (i_lt_le c80)] at ih
            refine wp_iincN4 89 rfl dX0_richest_86 (by decide) rfl ?_
            refine wp_goto 48 rfl dX0_richest_89 ?_
            exact ih
          · have ih : sm_V G xX0_richest (d + 408) 48 [.ref 64, .int (nI m), .int (nI kk), .int (z_on (if r_still T w m (42 + b) < r_still T w m (42 + p) then some p else some b)), .int (nI (p + 1))] [] J1 ρ _ := ih
            rw [if_pos (i_nle c80)] at ih
            refine wp_iload4 85 rfl dX0_richest_83 ?_
            refine wp_istore3 86 rfl dX0_richest_85 (by decide) rfl ?_
            refine wp_iincN4 89 rfl dX0_richest_86 (by decide) rfl ?_
            refine wp_goto 48 rfl dX0_richest_89 ?_
            exact ih
    · rw [z_ix_no (by decide) hX]
      refine wp_if_ne 16 18 rfl rfl dX0_richest_13 (fun c13 => absurd (z_b_eq.mpr (fun z => hX ((z_in_lo (n := 2) (m := 1) rfl (by decide)).mp z))) c13) (fun c13 => ?_)
      refine wp_iconst (-1) 17 rfl dX0_richest_16 (by decide) ?_
      refine wp_iret dX0_richest_17 rfl ?_
      exact sm_ci cq.rf rfl
  · rw [z_iv_o (l := 0) (m := 60) (fun z => hX ((z_iv_iff (by decide) (by decide)).mp z))]
    refine wp_if_eq 7 16 rfl rfl dX0_richest_4 (fun c4 => ?_) (fun c4 => absurd (z_b_eq.mpr (fun z => hX ((z_iv_iff (l := 0) (m := 60) (by decide) (by decide)).mp z))) c4)
    refine wp_iconst (-1) 17 rfl dX0_richest_16 (by decide) ?_
    refine wp_iret dX0_richest_17 rfl ?_
    exact sm_ci cq.rf rfl
theorem c_twins (hA : cA I ρ tp q T w) (x : Int32) : sm_M G xX0_twins (d + 408) [.ref 64, .int x] I ρ (cPost I ρ (o_twins T w x)) := by
  obtain ⟨hK, hP, hT, hk, ⟨hw, hz⟩, hR⟩ := hA
  show sm_V G xX0_twins (d + 408) 0 [.ref 64, .int x, .retAddr 0, .retAddr 0, .retAddr 0, .retAddr 0, .retAddr 0] [] I ρ _
  obtain ⟨h6, h5, h10⟩ := hk.1
  have ht := k_town hK
  have ht2 := k_trial hK
  unfold o_twins
  refine wp_iload1 1 rfl dX0_twins_0 ?_
  refine wp_iconst (nI 0) 2 rfl dX0_twins_1 (by decide) ?_
  refine wp_iconst (nI 1) 3 rfl dX0_twins_2 (by decide) ?_
  refine wp_Se3 6 rfl dX0_twins_3 kX0_isIn lX0_161 (nl rfl) (nl rfl) (s_isIn _ _ _) ?_
  by_cases hX : ∃ j, j < 2 ∧ x = nI j
  · obtain ⟨kk, hkk, e⟩ := hX
    subst e
    rw [z_ix_n hkk (by decide)]
    refine wp_if_ne 9 11 rfl rfl dX0_twins_6 (fun c6 => ?_) (fun c6 => absurd c6 (z_b_ne.mpr ((z_in_lo (n := 2) (m := 1) rfl (by decide)).mpr ⟨kk, hkk, rfl⟩)))
    refine wp_bipush (-2) 13 rfl dX0_twins_11 (by decide) ?_
    refine wp_istore2 14 rfl dX0_twins_13 (by decide) rfl ?_
    refine wp_ldcw 17 rfl dX0_twins_14 q1359 ?_
    refine wp_istore3 18 rfl dX0_twins_17 (by decide) rfl ?_
    refine wp_iconst (nI 0) 19 rfl dX0_twins_18 (by decide) ?_
    refine wp_istore4 21 rfl dX0_twins_19 (by decide) rfl ?_
    have hok := fun a (ha : a ≤ tx_D T) => z_pok_O (f := r_dap w) (N := tx_D T) a ha
    refine sm_for (P := fun a => sm_V G xX0_twins (d + 408) 21 [.ref 64, .int (nI kk), .int (z_pb (z_pO (r_dap w) (tx_D T) a)), .int (z_pfw (r_dap w) (z_pO (r_dap w) (tx_D T) a)), .int (nI a), .retAddr 0, .retAddr 0] [] I ρ _) 0 (tx_D T) (Nat.zero_le _) ?_ (fun a _ ha ih => ?_)
    · refine wp_iload4 23 rfl dX0_twins_21 ?_
      refine wp_aload0 24 rfl dX0_twins_23 ?_
      refine wp_Ve0 27 rfl dX0_twins_24 kX0_doors lX0_159 (o1 hK) (nl rfl) (nl rfl) (s_doors hK hP hT) ?_
      refine wp_icmp_ge 30 103 rfl rfl dX0_twins_27 (fun c27 => ?_) (fun c27 => absurd (nI_le (Nat.le_refl _) (by omega)) c27)
      have hx := hok _ (Nat.le_refl _)
      match hs : z_pO (r_dap w) (tx_D T) (tx_D T) with
      | none =>
        refine wp_iload2 104 rfl dX0_twins_103 ?_
        refine wp_if_lt 107 111 rfl rfl dX0_twins_104 (fun c104 => ?_) (fun c104 => absurd ((by decide : (-2 : Int32) < 0)) c104)
        refine wp_iload2 112 rfl dX0_twins_111 ?_
        refine wp_goto 116 rfl dX0_twins_112 ?_
        refine wp_iret dX0_twins_116 rfl ?_
        refine sm_ci cq.rf ?_
        by_cases e : kk = 0
        · exact (if_pos e).symm
        · exact (if_neg e).symm
      | some (a, b) =>
        have hab := hx a b hs
        by_cases e : kk = 0
        · subst e
          refine wp_iload2 104 rfl dX0_twins_103 ?_
          refine wp_if_lt 107 111 rfl rfl dX0_twins_104 (fun c104 => absurd c104 (nI_pos (n := 10 * a + b) (by omega))) (fun c104 => ?_)
          refine wp_iload1 108 rfl dX0_twins_107 ?_
          refine wp_if_ne 111 115 rfl rfl dX0_twins_108 (fun c108 => absurd (rfl) c108) (fun c108 => ?_)
          refine wp_iload2 112 rfl dX0_twins_111 ?_
          refine wp_goto 116 rfl dX0_twins_112 ?_
          refine wp_iret dX0_twins_116 rfl ?_
          exact sm_ci cq.rf rfl
        · refine wp_iload2 104 rfl dX0_twins_103 ?_
          refine wp_if_lt 107 111 rfl rfl dX0_twins_104 (fun c104 => absurd c104 (nI_pos (n := 10 * a + b) (by omega))) (fun c104 => ?_)
          refine wp_iload1 108 rfl dX0_twins_107 ?_
          refine wp_if_ne 111 115 rfl rfl dX0_twins_108 (fun c108 => ?_) (fun c108 => absurd c108 (fun z => e ((nI_eq (b := 0) (by omega) (by decide)).mp z)))
          refine wp_iload3 116 rfl dX0_twins_115 ?_
          refine wp_iret dX0_twins_116 rfl ?_
          exact sm_ci cq.rf (if_neg e).symm
    · have e1 : z_pO (r_dap w) (tx_D T) (a + 1) = z_pI (r_dap w) a (z_pO (r_dap w) (tx_D T) a) (tx_D T - (a + 1)) := rfl
      rw [e1] at ih
      refine wp_iload4 23 rfl dX0_twins_21 ?_
      refine wp_aload0 24 rfl dX0_twins_23 ?_
      refine wp_Ve0 27 rfl dX0_twins_24 kX0_doors lX0_159 (o1 hK) (nl rfl) (nl rfl) (s_doors hK hP hT) ?_
      refine wp_icmp_ge 30 103 rfl rfl dX0_twins_27 (fun c27 => absurd c27 (nI_ge ha (by omega))) (fun c27 => ?_)
      refine wp_iload4 32 rfl dX0_twins_30 ?_
      refine wp_iconst (nI 1) 33 rfl dX0_twins_32 (by decide) ?_
      refine wp_iadd 34 rfl dX0_twins_33 ?_
      rw [nI_add]
      refine wp_istore5 36 rfl dX0_twins_34 (by decide) rfl ?_
      refine sm_for (P := fun b => sm_V G xX0_twins (d + 408) 36 [.ref 64, .int (nI kk), .int (z_pb (z_pI (r_dap w) a (z_pO (r_dap w) (tx_D T) a) b)), .int (z_pfw (r_dap w) (z_pI (r_dap w) a (z_pO (r_dap w) (tx_D T) a) b)), .int (nI a), .int (nI (a + 1 + b)), .retAddr 0] [] I ρ _) 0 (tx_D T - (a + 1)) (Nat.zero_le _) ?_ (fun b _ hb ih2 => ?_)
      · refine wp_iload5 38 rfl dX0_twins_36 ?_
        refine wp_aload0 39 rfl dX0_twins_38 ?_
        refine wp_Ve0 42 rfl dX0_twins_39 kX0_doors lX0_159 (o1 hK) (nl rfl) (nl rfl) (s_doors hK hP hT) ?_
        refine wp_icmp_ge 45 97 rfl rfl dX0_twins_42 (fun c42 => ?_) (fun c42 => absurd (nI_le (by omega) (by omega)) c42)
        refine wp_iincN4 100 rfl dX0_twins_97 (by decide) rfl ?_
        refine wp_goto 21 rfl dX0_twins_100 ?_
        exact wp_weakK ih ⟨Or.inr rfl, Or.inr rfl, Or.inr rfl, Or.inr rfl, Or.inr rfl, Or.inl rfl, Or.inl rfl, trivial⟩
      · have hb' : a + 1 + b < tx_D T := by omega
        have e2 : z_pI (r_dap w) a (z_pO (r_dap w) (tx_D T) a) (b + 1) = z_pS (r_dap w) (z_pI (r_dap w) a (z_pO (r_dap w) (tx_D T) a) b) a (a + 1 + b) := rfl
        rw [e2, z_pS_s (f := r_dap w) (a := a) (b := a + 1 + b) (show r_dap w a (a + 1 + b) < 1000000 from z_so4 (x := fun p => w (4 * a + p)) (y := fun p => w (4 * (a + 1 + b) + p)) (fun p hp => hw.1 _ (by omega)) (fun p hp => hw.1 _ (by omega)))] at ih2
        have eU : z_sum (fun p => z_off (I (79 + 2 + a) p) (I (79 + 2 + (a + 1 + b)) p)) 4 = r_dap w a (a + 1 + b) := z_sum_congr (fun p hp => by rw [hR.1 a p (by omega) hp, hR.1 (a + 1 + b) p (by omega) hp])
        refine wp_iload5 38 rfl dX0_twins_36 ?_
        refine wp_aload0 39 rfl dX0_twins_38 ?_
        refine wp_Ve0 42 rfl dX0_twins_39 kX0_doors lX0_159 (o1 hK) (nl rfl) (nl rfl) (s_doors hK hP hT) ?_
        refine wp_icmp_ge 45 97 rfl rfl dX0_twins_42 (fun c42 => absurd c42 (nI_ge hb' (by omega))) (fun c42 => ?_)
        refine wp_aload0 46 rfl dX0_twins_45 ?_
        refine wp_getr 49 rfl dX0_twins_46 fX0_62_1 (o1 hK) (p1_7 hK) ?_
        refine wp_getr 52 rfl dX0_twins_49 fX0_170_6 (o6 (k_town hK)) (p6_0 (k_town hK)) ?_
        refine wp_iload4 54 rfl dX0_twins_52 ?_
        refine wp_aald (t := 10) 55 rfl dX0_twins_54 (by decide) rfl rfl (s6_0 (k_town hK)) (a) (by first | rfl | simp only [pk_mul, nI_add]) (⟨by omega, by decide⟩) (e6_0 (k_town hK) (by omega)) ?_
        refine wp_aload0 56 rfl dX0_twins_55 ?_
        refine wp_getr 59 rfl dX0_twins_56 fX0_62_1 (o1 hK) (p1_7 hK) ?_
        refine wp_getr 62 rfl dX0_twins_59 fX0_170_6 (o6 (k_town hK)) (p6_0 (k_town hK)) ?_
        refine wp_iload5 64 rfl dX0_twins_62 ?_
        refine wp_aald (t := 10) 65 rfl dX0_twins_64 (by decide) rfl rfl (s6_0 (k_town hK)) (a + 1 + b) (by first | rfl | simp only [pk_mul, nI_add]) (⟨by omega, by decide⟩) (e6_0 (k_town hK) (by omega)) ?_
        refine wp_Se2 68 rfl dX0_twins_65 kX0_unlikeOf lX0_181 (nl rfl) (nl rfl) (s_unlikeOf (i6_0 ht (by omega)) (i6_0 ht (by omega)) (fun p hp => by rw [hR.1 a p (by omega) hp]; exact hw.1 _ (by omega)) (fun p hp => by rw [hR.1 (a + 1 + b) p (by omega) hp]; exact hw.1 _ (by omega))) ?_
        rw [eU]
        refine wp_istore6 70 rfl dX0_twins_68 (by decide) rfl ?_
        refine wp_iload6 72 rfl dX0_twins_70 ?_
        refine wp_iload3 73 rfl dX0_twins_72 ?_
        refine wp_icmp_lt 76 79 rfl rfl dX0_twins_73 (fun c73 => ?_) (fun c73 => ?_)
        · rw [if_pos c73] at ih2
          refine wp_bipush (nI 10) 81 rfl dX0_twins_79 (by decide) ?_
          refine wp_iload4 83 rfl dX0_twins_81 ?_
          refine wp_imul 84 rfl dX0_twins_83 ?_
          refine wp_iload5 86 rfl dX0_twins_84 ?_
          refine wp_iadd 87 rfl dX0_twins_86 ?_
          rw [pk_mul, nI_add]
          refine wp_istore2 88 rfl dX0_twins_87 (by decide) rfl ?_
          refine wp_iload6 90 rfl dX0_twins_88 ?_
          refine wp_istore3 91 rfl dX0_twins_90 (by decide) rfl ?_
          refine wp_iincN5 94 rfl dX0_twins_91 (by decide) rfl ?_
          refine wp_goto 36 rfl dX0_twins_94 ?_
          exact wp_weakK ih2 ⟨Or.inr rfl, Or.inr rfl, Or.inr rfl, Or.inr rfl, Or.inr rfl, Or.inr rfl, Or.inl rfl, trivial⟩
        · rw [if_neg c73] at ih2
          refine wp_goto 91 rfl dX0_twins_76 ?_
          refine wp_iincN5 94 rfl dX0_twins_91 (by decide) rfl ?_
          refine wp_goto 36 rfl dX0_twins_94 ?_
          exact wp_weakK ih2 ⟨Or.inr rfl, Or.inr rfl, Or.inr rfl, Or.inr rfl, Or.inr rfl, Or.inr rfl, Or.inl rfl, trivial⟩
  · rw [z_ix_no (by decide) hX]
    refine wp_if_ne 9 11 rfl rfl dX0_twins_6 (fun c6 => absurd (z_b_eq.mpr (fun z => hX ((z_in_lo (n := 2) (m := 1) rfl (by decide)).mp z))) c6) (fun c6 => ?_)
    refine wp_iconst (-1) 10 rfl dX0_twins_9 (by decide) ?_
    refine wp_iret dX0_twins_10 rfl ?_
    exact sm_ci cq.rf rfl
theorem c_confused (hA : cA I ρ tp q T w) (x : Int32) : sm_M G xX0_confused (d + 408) [.ref 64, .int x] I ρ (cPost I ρ (o_confused T x)) := by
  obtain ⟨hK, hP, hT, hk, ⟨hw, hz⟩, hR⟩ := hA
  show sm_V G xX0_confused (d + 408) 0 [.ref 64, .int x, .retAddr 0, .retAddr 0, .retAddr 0, .retAddr 0, .retAddr 0] [] I ρ _
  obtain ⟨h6, h5, h10⟩ := hk.1
  have ht := k_town hK
  have ht2 := k_trial hK
  show sm_V G xX0_confused (d + 408) 0 _ [] I ρ (cPost I ρ (o_confused T x))
  unfold o_confused
  refine wp_iload1 1 rfl dX0_confused_0 ?_
  refine wp_iconst (nI 0) 2 rfl dX0_confused_1 (by decide) ?_
  refine wp_iconst (nI 1) 3 rfl dX0_confused_2 (by decide) ?_
  refine wp_Se3 6 rfl dX0_confused_3 kX0_isIn lX0_161 (nl rfl) (nl rfl) (s_isIn _ _ _) ?_
  by_cases hX : ∃ j, j < 2 ∧ x = nI j
  · obtain ⟨kk, hkk, e⟩ := hX
    subst e
    rw [z_ix_n hkk (by decide)]
    refine wp_if_ne 9 11 rfl rfl dX0_confused_6 (fun c6 => ?_) (fun c6 => absurd c6 (z_b_ne.mpr ((z_in_lo (n := 2) (m := 1) rfl (by decide)).mpr ⟨kk, hkk, rfl⟩)))
    refine wp_bipush (-2) 13 rfl dX0_confused_11 (by decide) ?_
    refine wp_istore2 14 rfl dX0_confused_13 (by decide) rfl ?_
    refine wp_ldcw 17 rfl dX0_confused_14 q1359 ?_
    refine wp_istore3 18 rfl dX0_confused_17 (by decide) rfl ?_
    refine wp_iconst (nI 0) 19 rfl dX0_confused_18 (by decide) ?_
    refine wp_istore4 21 rfl dX0_confused_19 (by decide) rfl ?_
    have hok := fun a (ha : a ≤ tx_C T) => z_pok_O (f := r_dap (tx_cf T)) (N := tx_C T) a ha
    refine sm_for (P := fun a => sm_V G xX0_confused (d + 408) 21 [.ref 64, .int (nI kk), .int (z_pb (z_pO (r_dap (tx_cf T)) (tx_C T) a)), .int (z_pfw (r_dap (tx_cf T)) (z_pO (r_dap (tx_cf T)) (tx_C T) a)), .int (nI a), .retAddr 0, .retAddr 0] [] I ρ _) 0 (tx_C T) (Nat.zero_le _) ?_ (fun a _ ha ih => ?_)
    · refine wp_iload4 23 rfl dX0_confused_21 ?_
      refine wp_aload0 24 rfl dX0_confused_23 ?_
      refine wp_Ve0 27 rfl dX0_confused_24 kX0_callers lX0_165 (o1 hK) (nl rfl) (nl rfl) (s_callers hK hP hT) ?_
      refine wp_icmp_ge 30 119 rfl rfl dX0_confused_27 (fun c27 => ?_) (fun c27 => absurd (nI_le (Nat.le_refl _) (by omega)) c27)
      have hx := hok _ (Nat.le_refl _)
      match hs : z_pO (r_dap (tx_cf T)) (tx_C T) (tx_C T) with
      | none =>
        refine wp_iload2 120 rfl dX0_confused_119 ?_
        refine wp_if_lt 123 127 rfl rfl dX0_confused_120 (fun c120 => ?_) (fun c120 => absurd ((by decide : (-2 : Int32) < 0)) c120)
        refine wp_iload2 128 rfl dX0_confused_127 ?_
        refine wp_goto 132 rfl dX0_confused_128 ?_
        refine wp_iret dX0_confused_132 rfl ?_
        refine sm_ci cq.rf ?_
        by_cases e : kk = 0
        · exact (if_pos e).symm
        · exact (if_neg e).symm
      | some (a, b) =>
        have hab := hx a b hs
        by_cases e : kk = 0
        · subst e
          refine wp_iload2 120 rfl dX0_confused_119 ?_
          refine wp_if_lt 123 127 rfl rfl dX0_confused_120 (fun c120 => absurd c120 (nI_pos (n := 10 * a + b) (by omega))) (fun c120 => ?_)
          refine wp_iload1 124 rfl dX0_confused_123 ?_
          refine wp_if_ne 127 131 rfl rfl dX0_confused_124 (fun c124 => absurd (rfl) c124) (fun c124 => ?_)
          refine wp_iload2 128 rfl dX0_confused_127 ?_
          refine wp_goto 132 rfl dX0_confused_128 ?_
          refine wp_iret dX0_confused_132 rfl ?_
          exact sm_ci cq.rf rfl
        · refine wp_iload2 120 rfl dX0_confused_119 ?_
          refine wp_if_lt 123 127 rfl rfl dX0_confused_120 (fun c120 => absurd c120 (nI_pos (n := 10 * a + b) (by omega))) (fun c120 => ?_)
          refine wp_iload1 124 rfl dX0_confused_123 ?_
          refine wp_if_ne 127 131 rfl rfl dX0_confused_124 (fun c124 => ?_) (fun c124 => absurd c124 (fun z => e ((nI_eq (b := 0) (by omega) (by decide)).mp z)))
          refine wp_iload3 132 rfl dX0_confused_131 ?_
          refine wp_iret dX0_confused_132 rfl ?_
          exact sm_ci cq.rf (if_neg e).symm
    · have e1 : z_pO (r_dap (tx_cf T)) (tx_C T) (a + 1) = z_pI (r_dap (tx_cf T)) a (z_pO (r_dap (tx_cf T)) (tx_C T) a) (tx_C T - (a + 1)) := rfl
      rw [e1] at ih
      refine wp_iload4 23 rfl dX0_confused_21 ?_
      refine wp_aload0 24 rfl dX0_confused_23 ?_
      refine wp_Ve0 27 rfl dX0_confused_24 kX0_callers lX0_165 (o1 hK) (nl rfl) (nl rfl) (s_callers hK hP hT) ?_
      refine wp_icmp_ge 30 119 rfl rfl dX0_confused_27 (fun c27 => absurd c27 (nI_ge ha (by omega))) (fun c27 => ?_)
      refine wp_iload4 32 rfl dX0_confused_30 ?_
      refine wp_iconst (nI 1) 33 rfl dX0_confused_32 (by decide) ?_
      refine wp_iadd 34 rfl dX0_confused_33 ?_
      rw [nI_add]
      refine wp_istore5 36 rfl dX0_confused_34 (by decide) rfl ?_
      refine sm_for (P := fun b => sm_V G xX0_confused (d + 408) 36 [.ref 64, .int (nI kk), .int (z_pb (z_pI (r_dap (tx_cf T)) a (z_pO (r_dap (tx_cf T)) (tx_C T) a) b)), .int (z_pfw (r_dap (tx_cf T)) (z_pI (r_dap (tx_cf T)) a (z_pO (r_dap (tx_cf T)) (tx_C T) a) b)), .int (nI a), .int (nI (a + 1 + b)), .retAddr 0] [] I ρ _) 0 (tx_C T - (a + 1)) (Nat.zero_le _) ?_ (fun b _ hb ih2 => ?_)
      · refine wp_iload5 38 rfl dX0_confused_36 ?_
        refine wp_aload0 39 rfl dX0_confused_38 ?_
        refine wp_Ve0 42 rfl dX0_confused_39 kX0_callers lX0_165 (o1 hK) (nl rfl) (nl rfl) (s_callers hK hP hT) ?_
        refine wp_icmp_ge 45 113 rfl rfl dX0_confused_42 (fun c42 => ?_) (fun c42 => absurd (nI_le (by omega) (by omega)) c42)
        refine wp_iincN4 116 rfl dX0_confused_113 (by decide) rfl ?_
        refine wp_goto 21 rfl dX0_confused_116 ?_
        exact wp_weakK ih ⟨Or.inr rfl, Or.inr rfl, Or.inr rfl, Or.inr rfl, Or.inr rfl, Or.inl rfl, Or.inl rfl, trivial⟩
      · have hb' : a + 1 + b < tx_C T := by omega
        have e2 : z_pI (r_dap (tx_cf T)) a (z_pO (r_dap (tx_cf T)) (tx_C T) a) (b + 1) = z_pS (r_dap (tx_cf T)) (z_pI (r_dap (tx_cf T)) a (z_pO (r_dap (tx_cf T)) (tx_C T) a) b) a (a + 1 + b) := rfl
        rw [e2, z_pS_s (f := r_dap (tx_cf T)) (a := a) (b := a + 1 + b) (show r_dap (tx_cf T) a (a + 1 + b) < 1000000 from z_so4 (x := fun p => tx_cf T (4 * a + p)) (y := fun p => tx_cf T (4 * (a + 1 + b) + p)) (fun p hp => hk.2.1 _ (by omega)) (fun p hp => hk.2.1 _ (by omega)))] at ih2
        have hF1 := cT_cf hT ha
        have hF2 := cT_cf hT hb'
        have eU : z_sum (fun p => z_off (I (q.2.2.2.2.1 a) p) (I (q.2.2.2.2.1 (a + 1 + b)) p)) 4 = r_dap (tx_cf T) a (a + 1 + b) := z_sum_congr (fun p hp => by rw [hF1.2.2.2 p hp, hF2.2.2.2 p hp])
        refine wp_iload5 38 rfl dX0_confused_36 ?_
        refine wp_aload0 39 rfl dX0_confused_38 ?_
        refine wp_Ve0 42 rfl dX0_confused_39 kX0_callers lX0_165 (o1 hK) (nl rfl) (nl rfl) (s_callers hK hP hT) ?_
        refine wp_icmp_ge 45 113 rfl rfl dX0_confused_42 (fun c42 => absurd c42 (nI_ge hb' (by omega))) (fun c42 => ?_)
        refine wp_aload0 46 rfl dX0_confused_45 ?_
        refine wp_getr 49 rfl dX0_confused_46 fX0_51_1 (o1 hK) (hP) ?_
        refine wp_getr 52 rfl dX0_confused_49 fX0_156_5 (o5 hT) (p5_1 hT) ?_
        refine wp_iload4 54 rfl dX0_confused_52 ?_
        refine wp_Ve1 57 rfl dX0_confused_54 kJ5_get lX0_173 (o18 (cT_c hT)) (nl rfl) (nl rfl) (s_get (cT_c hT) (ha)) ?_
        refine wp_cast 60 rfl dX0_confused_57 caX0_215_16 (o16 (cT_cf hT (ha))) ?_
        refine wp_getr 63 rfl dX0_confused_60 fX0_217_16 (o16 (cT_cf hT (ha))) (p16_1 (cT_cf hT (ha))) ?_
        refine wp_aload0 64 rfl dX0_confused_63 ?_
        refine wp_getr 67 rfl dX0_confused_64 fX0_51_1 (o1 hK) (hP) ?_
        refine wp_getr 70 rfl dX0_confused_67 fX0_156_5 (o5 hT) (p5_1 hT) ?_
        refine wp_iload5 72 rfl dX0_confused_70 ?_
        refine wp_Ve1 75 rfl dX0_confused_72 kJ5_get lX0_173 (o18 (cT_c hT)) (nl rfl) (nl rfl) (s_get (cT_c hT) (hb')) ?_
        refine wp_cast 78 rfl dX0_confused_75 caX0_215_16 (o16 (cT_cf hT (hb'))) ?_
        refine wp_getr 81 rfl dX0_confused_78 fX0_217_16 (o16 (cT_cf hT (hb'))) (p16_1 (cT_cf hT (hb'))) ?_
        refine wp_Se2 84 rfl dX0_confused_81 kX0_unlikeOf lX0_181 (nl rfl) (nl rfl) (s_unlikeOf hF1.2.2.1.1 hF2.2.2.1.1 (fun p hp => by rw [hF1.2.2.2 p hp]; exact hk.2.1 _ (by omega)) (fun p hp => by rw [hF2.2.2.2 p hp]; exact hk.2.1 _ (by omega))) ?_
        rw [eU]
        refine wp_istore6 86 rfl dX0_confused_84 (by decide) rfl ?_
        refine wp_iload6 88 rfl dX0_confused_86 ?_
        refine wp_iload3 89 rfl dX0_confused_88 ?_
        refine wp_icmp_lt 92 95 rfl rfl dX0_confused_89 (fun c89 => ?_) (fun c89 => ?_)
        · rw [if_pos c89] at ih2
          refine wp_bipush (nI 10) 97 rfl dX0_confused_95 (by decide) ?_
          refine wp_iload4 99 rfl dX0_confused_97 ?_
          refine wp_imul 100 rfl dX0_confused_99 ?_
          refine wp_iload5 102 rfl dX0_confused_100 ?_
          refine wp_iadd 103 rfl dX0_confused_102 ?_
          rw [pk_mul, nI_add]
          refine wp_istore2 104 rfl dX0_confused_103 (by decide) rfl ?_
          refine wp_iload6 106 rfl dX0_confused_104 ?_
          refine wp_istore3 107 rfl dX0_confused_106 (by decide) rfl ?_
          refine wp_iincN5 110 rfl dX0_confused_107 (by decide) rfl ?_
          refine wp_goto 36 rfl dX0_confused_110 ?_
          exact wp_weakK ih2 ⟨Or.inr rfl, Or.inr rfl, Or.inr rfl, Or.inr rfl, Or.inr rfl, Or.inr rfl, Or.inl rfl, trivial⟩
        · rw [if_neg c89] at ih2
          refine wp_goto 107 rfl dX0_confused_92 ?_
          refine wp_iincN5 110 rfl dX0_confused_107 (by decide) rfl ?_
          refine wp_goto 36 rfl dX0_confused_110 ?_
          exact wp_weakK ih2 ⟨Or.inr rfl, Or.inr rfl, Or.inr rfl, Or.inr rfl, Or.inr rfl, Or.inr rfl, Or.inl rfl, trivial⟩
  · rw [z_ix_no (by decide) hX]
    refine wp_if_ne 9 11 rfl rfl dX0_confused_6 (fun c6 => absurd (z_b_eq.mpr (fun z => hX ((z_in_lo (n := 2) (m := 1) rfl (by decide)).mp z))) c6) (fun c6 => ?_)
    refine wp_iconst (-1) 10 rfl dX0_confused_9 (by decide) ?_
    refine wp_iret dX0_confused_10 rfl ?_
    exact sm_ci cq.rf rfl
end D5
