/-! ===== the component: worstOf, ask ===== -/
set_option maxRecDepth 100000
section E2
variable {G : sm_G} {d : Nat} {I : sm_I} {ρ : sm_R} {tp : Nat} {q : tq4} {T : tx} {w : Nat → Int32} {L : List (Nat × Nat × Int32)}
/-- how many of the first callers would move a part so -/
def r_cn (T : tx) (w : Nat → Int32) (s : Int32) (d p : Nat) (v : Int32) : Nat → Int32 := z_sum (fun c => if (s >>> (nI c &&& 31)) &&& nI 1 = nI 1 ∧ r_wayOf T w d p c = v then nI 1 else nI 0)
theorem r_cn_n (T : tx) (w : Nat → Int32) (s : Int32) (d p : Nat) (v : Int32) (n : Nat) : ∃ m, m ≤ n ∧ r_cn T w s d p v n = nI m := by
  obtain ⟨m, h1, h2⟩ := z_sum_1 (B := 1) (f := fun c => if (s >>> (nI c &&& 31)) &&& nI 1 = nI 1 ∧ r_wayOf T w d p c = v then nI 1 else nI 0) (fun c => by
    show ∃ m, m ≤ 1 ∧ (if (s >>> (nI c &&& 31)) &&& nI 1 = nI 1 ∧ r_wayOf T w d p c = v then nI 1 else nI 0) = nI m
    by_cases g : (s >>> (nI c &&& 31)) &&& nI 1 = nI 1 ∧ r_wayOf T w d p c = v
    · exact ⟨1, Nat.le_refl _, if_pos g⟩
    · exact ⟨0, Nat.zero_le _, if_neg g⟩) n
  exact ⟨m, by omega, h2⟩
theorem r_worst_max (hk : tok T) (s : Int32) (dd p : Nat) : z_max (r_cn T w s dd p (-1) (tx_C T)) (z_max (r_cn T w s dd p (nI 0) (tx_C T)) (r_cn T w s dd p (nI 1) (tx_C T))) = r_worst T w s dd p ∧ r_worst T w s dd p < 1000000 := by
  have h5 := hk.1.2.1
  obtain ⟨a, a1, a2⟩ := r_cn_n T w s dd p (-1) (tx_C T)
  obtain ⟨b, b1, b2⟩ := r_cn_n T w s dd p (nI 0) (tx_C T)
  obtain ⟨c, c1, c2⟩ := r_cn_n T w s dd p (nI 1) (tx_C T)
  have e : r_worst T w s dd p = z_mx (z_mx (z_mx (nI 0) (r_cn T w s dd p (-1) (tx_C T))) (r_cn T w s dd p (nI 0) (tx_C T))) (r_cn T w s dd p (nI 1) (tx_C T)) := rfl
  rw [e, a2, b2, c2]
  exact z_mx_n (by omega) (by omega) (by omega)
theorem r_way3 (T : tx) (w : Nat → Int32) (d p c : Nat) : ∃ j, j < 3 ∧ nI 1 + r_wayOf T w d p c = nI j ∧ r_wayOf T w d p c = (if j = 0 then -1 else if j = 1 then nI 0 else nI 1) := by
  unfold r_wayOf
  by_cases h : r_gives T w d c p = 0
  · exact ⟨1, by decide, by rw [if_pos h]; rfl, by rw [if_pos h]; rfl⟩
  · by_cases h2 : w (4 * d + p) ≤ tx_cf T (4 * c + p)
    · exact ⟨2, by decide, by rw [if_neg h, if_pos h2]; rfl, by rw [if_neg h, if_pos h2]; rfl⟩
    · exact ⟨0, by decide, by rw [if_neg h, if_neg h2]; rfl, by rw [if_neg h, if_neg h2]; rfl⟩
def r_v3 (j : Nat) : Int32 := if j = 0 then -1 else if j = 1 then nI 0 else nI 1
theorem r_v3_ne {i j : Nat} (hi : i < 3) (hj : j < 3) (h : ¬ i = j) : ¬ r_v3 i = r_v3 j := by
  have a : i = 0 ∨ i = 1 ∨ i = 2 := by omega
  have b : j = 0 ∨ j = 1 ∨ j = 2 := by omega
  rcases a with rfl | rfl | rfl <;> rcases b with rfl | rfl | rfl <;> first | exact absurd rfl h | decide
theorem s_cworst (hA : cA I ρ tp q T w) (s : Int32) {dd p : Nat} (hd : dd < tx_D T) (hp : p < 4) : sm_M G xX0_worstOf (d + 406) [.ref 64, .int s, .int (nI dd), .int (nI p)] I ρ (cPost I ρ (r_worst T w s dd p)) := by
  have hA0 := hA
  obtain ⟨hK, hP, hT, hk, ⟨hw, hz⟩, hR⟩ := hA
  obtain ⟨h6, h5, h10⟩ := hk.1
  show sm_V G xX0_worstOf (d + 406) 0 [.ref 64, .int s, .int (nI dd), .int (nI p), .retAddr 0] [] I ρ _
  have q7 : ∀ (J : sm_I) (k : Nat) (v : Int32), cq J (sm_u J 257 k v) := fun J k v a ha => sm_u_ne J k v (fun z => ha (by unfold cs; omega))
  refine wp_iconst (nI 0) 1 rfl dX0_worstOf_0 (by decide) ?_
  refine wp_istore4 3 rfl dX0_worstOf_1 (by decide) rfl ?_
  refine sm_for (P := fun k => ∀ J : sm_I, cq I J → (∀ i, i < k → J 257 i = nI 0) → sm_V G xX0_worstOf (d + 406) 3 [.ref 64, .int s, .int (nI dd), .int (nI p), .int (nI k)] [] J ρ _) 0 3 (nl rfl) ?_ (fun k _ hk3 ih => ?_) I cq.rf (fun i hi => absurd hi (Nat.not_lt_zero _))
  · intro J hJ h0
    refine wp_iload4 5 rfl dX0_worstOf_3 ?_
    refine wp_iconst (nI 3) 6 rfl dX0_worstOf_5 (by decide) ?_
    refine wp_icmp_ge 9 23 rfl rfl dX0_worstOf_6 (fun c6 => ?_) (fun c6 => absurd (nI_le (Nat.le_refl 3) (by decide)) c6)
    refine wp_iconst (nI 0) 24 rfl dX0_worstOf_23 (by decide) ?_
    refine wp_istore4 26 rfl dX0_worstOf_24 (by decide) rfl ?_
    refine sm_for (P := fun c => ∀ J : sm_I, cq I J → (∀ i, i < 3 → J 257 i = r_cn T w s dd p (r_v3 i) c) → sm_V G xX0_worstOf (d + 406) 26 [.ref 64, .int s, .int (nI dd), .int (nI p), .int (nI c)] [] J ρ _) 0 (tx_C T) (Nat.zero_le _) ?_ (fun c _ hc ih => ?_) J hJ h0
    · intro J hJ h3
      have hT := (hA0.q hJ).2.2.1
      have m0 := h3 0 (by decide)
      have m1 := h3 1 (by decide)
      have m2 := h3 2 (by decide)
      refine wp_iload4 28 rfl dX0_worstOf_26 ?_
      refine wp_aload0 29 rfl dX0_worstOf_28 ?_
      refine wp_Ve0 32 rfl dX0_worstOf_29 kX0_callers lX0_165 (o1 hK) (nl rfl) (nl rfl) (s_callers hK hP hT) ?_
      refine wp_icmp_ge 35 70 rfl rfl dX0_worstOf_32 (fun c32 => ?_) (fun c32 => absurd (nI_le (Nat.le_refl _) (by omega)) c32)
      refine wp_aload0 71 rfl dX0_worstOf_70 ?_
      refine wp_getr 74 rfl dX0_worstOf_71 fX0_114_1 (o1 hK) (p1_21 hK) ?_
      refine wp_iconst (nI 0) 75 rfl dX0_worstOf_74 (by decide) ?_
      refine wp_iald 76 rfl dX0_worstOf_75 (s1_21 hK) (0) (by first | rfl | simp only [pk_mul, nI_add]) (⟨by omega, by decide⟩) ?_
      rw [m0]
      refine wp_aload0 77 rfl dX0_worstOf_76 ?_
      refine wp_getr 80 rfl dX0_worstOf_77 fX0_114_1 (o1 hK) (p1_21 hK) ?_
      refine wp_iconst (nI 1) 81 rfl dX0_worstOf_80 (by decide) ?_
      refine wp_iald 82 rfl dX0_worstOf_81 (s1_21 hK) (1) (by first | rfl | simp only [pk_mul, nI_add]) (⟨by omega, by decide⟩) ?_
      rw [m1]
      refine wp_aload0 83 rfl dX0_worstOf_82 ?_
      refine wp_getr 86 rfl dX0_worstOf_83 fX0_114_1 (o1 hK) (p1_21 hK) ?_
      refine wp_iconst (nI 2) 87 rfl dX0_worstOf_86 (by decide) ?_
      refine wp_iald 88 rfl dX0_worstOf_87 (s1_21 hK) (2) (by first | rfl | simp only [pk_mul, nI_add]) (⟨by omega, by decide⟩) ?_
      rw [m2]
      refine wp_mmax 91 rfl dX0_worstOf_88 q1474 (nl rfl) ?_
      refine wp_mmax 94 rfl dX0_worstOf_91 q1474 (nl rfl) ?_
      refine wp_iret dX0_worstOf_94 rfl ?_
      exact sm_ci hJ (r_worst_max hk s dd p).1
    · intro J hJ h3
      have hA1 := hA0.q hJ
      have hT := hA1.2.2.1
      have es : ∀ v, r_cn T w s dd p v (c + 1) = r_cn T w s dd p v c + if (s >>> (nI c &&& 31)) &&& nI 1 = nI 1 ∧ r_wayOf T w dd p c = v then nI 1 else nI 0 := fun v => rfl
      by_cases b : (s >>> (nI c &&& 31)) &&& nI 1 = nI 1
      · refine wp_iload4 28 rfl dX0_worstOf_26 ?_
        refine wp_aload0 29 rfl dX0_worstOf_28 ?_
        refine wp_Ve0 32 rfl dX0_worstOf_29 kX0_callers lX0_165 (o1 hK) (nl rfl) (nl rfl) (s_callers hK hP hT) ?_
        refine wp_icmp_ge 35 70 rfl rfl dX0_worstOf_32 (fun c32 => absurd c32 (nI_ge hc (by omega))) (fun c32 => ?_)
        refine wp_iload1 36 rfl dX0_worstOf_35 ?_
        refine wp_iload4 38 rfl dX0_worstOf_36 ?_
        refine wp_ishr 39 rfl dX0_worstOf_38 ?_
        refine wp_iconst (nI 1) 40 rfl dX0_worstOf_39 (by decide) ?_
        refine wp_iand 41 rfl dX0_worstOf_40 ?_
        refine wp_iconst (nI 1) 42 rfl dX0_worstOf_41 (by decide) ?_
        refine wp_icmp_ne 45 64 rfl rfl dX0_worstOf_42 (fun c42 => absurd (b) c42) (fun c42 => ?_)
        refine wp_aload0 46 rfl dX0_worstOf_45 ?_
        refine wp_getr 49 rfl dX0_worstOf_46 fX0_114_1 (o1 hK) (p1_21 hK) ?_
        refine wp_iconst (nI 1) 50 rfl dX0_worstOf_49 (by decide) ?_
        refine wp_aload0 51 rfl dX0_worstOf_50 ?_
        refine wp_iload2 52 rfl dX0_worstOf_51 ?_
        refine wp_iload4 54 rfl dX0_worstOf_52 ?_
        refine wp_iload3 55 rfl dX0_worstOf_54 ?_
        refine wp_Vi3 58 rfl dX0_worstOf_55 kX0_wayOf lX0_312 (o1 hK) (nl rfl) (nl rfl) (s_cwayOf (d := d) hA1 hd hc hp) (fun r J1 ρ1 hq => ?_)
        obtain ⟨e1, f1, e2⟩ := hq
        have e1 := e1.symm
        subst e1
        subst e2
        obtain ⟨j, hj, j1, j2⟩ := r_way3 T w dd p c
        have h3 : ∀ i, i < 3 → J1 257 i = r_cn T w s dd p (r_v3 i) c := fun i hi => by
          rw [f1 257 (by decide)]
          exact h3 i hi
        have hJ1 := hJ.tr (cq.of f1 cs_scr)
        refine wp_iadd 59 rfl dX0_worstOf_58 ?_
        rw [j1]
        refine wp_dup2 60 rfl dX0_worstOf_59 rfl rfl ?_
        refine wp_iald 61 rfl dX0_worstOf_60 (s1_21 hK) (j) (rfl) (⟨hj, by decide⟩) ?_
        rw [h3 j hj]
        refine wp_iconst (nI 1) 62 rfl dX0_worstOf_61 (by decide) ?_
        refine wp_iadd 63 rfl dX0_worstOf_62 ?_
        refine wp_iast 64 rfl dX0_worstOf_63 (s1_21 hK) (j) (rfl) (⟨hj, by decide⟩) ?_
        refine wp_iincN4 67 rfl dX0_worstOf_64 (by decide) rfl ?_
        refine wp_goto 26 rfl dX0_worstOf_67 ?_
        refine ih _ (hJ1.tr (q7 _ _ _)) (fun i hi => ?_)
        rw [sm_u_eq, es]
        by_cases e : i = j
        · rw [e, pk_us, if_pos ⟨b, j2⟩]
        · rw [pk_un e, if_neg (fun z => r_v3_ne hi hj e (z.2.symm.trans j2)), i_add0]
          exact h3 i hi
      · refine wp_iload4 28 rfl dX0_worstOf_26 ?_
        refine wp_aload0 29 rfl dX0_worstOf_28 ?_
        refine wp_Ve0 32 rfl dX0_worstOf_29 kX0_callers lX0_165 (o1 hK) (nl rfl) (nl rfl) (s_callers hK hP hT) ?_
        refine wp_icmp_ge 35 70 rfl rfl dX0_worstOf_32 (fun c32 => absurd c32 (nI_ge hc (by omega))) (fun c32 => ?_)
        refine wp_iload1 36 rfl dX0_worstOf_35 ?_
        refine wp_iload4 38 rfl dX0_worstOf_36 ?_
        refine wp_ishr 39 rfl dX0_worstOf_38 ?_
        refine wp_iconst (nI 1) 40 rfl dX0_worstOf_39 (by decide) ?_
        refine wp_iand 41 rfl dX0_worstOf_40 ?_
        refine wp_iconst (nI 1) 42 rfl dX0_worstOf_41 (by decide) ?_
        refine wp_icmp_ne 45 64 rfl rfl dX0_worstOf_42 (fun c42 => ?_) (fun c42 => absurd c42 (b))
        refine wp_iincN4 67 rfl dX0_worstOf_64 (by decide) rfl ?_
        refine wp_goto 26 rfl dX0_worstOf_67 ?_
        refine ih J hJ (fun i hi => ?_)
        rw [es, if_neg (fun z => b z.1), i_add0]
        exact h3 i hi
  · intro J hJ h0
    refine wp_iload4 5 rfl dX0_worstOf_3 ?_
    refine wp_iconst (nI 3) 6 rfl dX0_worstOf_5 (by decide) ?_
    refine wp_icmp_ge 9 23 rfl rfl dX0_worstOf_6 (fun c6 => absurd c6 (nI_ge hk3 (by decide))) (fun c6 => ?_)
    refine wp_aload0 10 rfl dX0_worstOf_9 ?_
    refine wp_getr 13 rfl dX0_worstOf_10 fX0_114_1 (o1 hK) (p1_21 hK) ?_
    refine wp_iload4 15 rfl dX0_worstOf_13 ?_
    refine wp_iconst (nI 0) 16 rfl dX0_worstOf_15 (by decide) ?_
    refine wp_iast 17 rfl dX0_worstOf_16 (s1_21 hK) (k) (by first | rfl | simp only [pk_mul, nI_add]) (⟨by omega, by decide⟩) ?_
    refine wp_iincN4 20 rfl dX0_worstOf_17 (by decide) rfl ?_
    refine wp_goto 3 rfl dX0_worstOf_20 ?_
    refine ih _ (hJ.tr (q7 _ _ _)) (fun i hi => ?_)
    rw [sm_u_eq]
    by_cases e : i = k
    · rw [e, pk_us]
    · rw [pk_un e]
      exact h0 i (by omega)
theorem c_ask (hA : cA I ρ tp q T w) (hD : cD I T L) (x : Int32) : sm_M G xX0_ask (d + 408) [.ref 64, .int x] I ρ (cPost I ρ (o_ask T w L x)) := by
  have hA0 := hA
  obtain ⟨hK, hP, hT, hk, ⟨hw, hz⟩, hR⟩ := hA
  have hl := hD.2.1
  obtain ⟨h6, h5, h10⟩ := hk.1
  show sm_V G xX0_ask (d + 408) 0 [.ref 64, .int x, .retAddr 0, .retAddr 0, .retAddr 0, .retAddr 0, .retAddr 0, .retAddr 0] [] I ρ _
  unfold o_ask
  refine wp_iload1 1 rfl dX0_ask_0 ?_
  refine wp_iconst (nI 0) 2 rfl dX0_ask_1 (by decide) ?_
  refine wp_aload0 3 rfl dX0_ask_2 ?_
  refine wp_geti 6 rfl dX0_ask_3 fX0_139_1 (o1 hK) ?_
  rw [hD.1]
  refine wp_Se3 9 rfl dX0_ask_6 kX0_isIn lX0_161 (nl rfl) (nl rfl) (s_isIn _ _ _) ?_
  by_cases hX : ∃ j, (0 ≤ j ∧ j ≤ L.length) ∧ x = nI j
  · obtain ⟨k, hk1, e⟩ := hX
    subst e
    rw [z_iv_n (l := 0) (m := L.length) hk1 (by decide) (by omega)]
    show sm_V G xX0_ask (d + 408) 9 _ _ I ρ (cPost I ρ (if r_who T w L k = 0 then -2 else z_pk (z_arg (fun i => r_worst T w (r_who T w L k) (i / 4) (i % 4)) (4 * tx_D T))))
    refine wp_if_ne 12 14 rfl rfl dX0_ask_9 (fun c9 => ?_) (fun c9 => absurd c9 (z_b_ne.mpr ((z_iv_iff (l := 0) (m := L.length) (by decide) (by omega)).mpr ⟨k, hk1, rfl⟩)))
    refine wp_aload0 15 rfl dX0_ask_14 ?_
    refine wp_iload1 16 rfl dX0_ask_15 ?_
    refine wp_Vi1 19 rfl dX0_ask_16 kX0_whoBy lX0_315 (o1 hK) (nl rfl) (nl rfl) (s_whoBy (d := d + 1) hA0 hD hk1.2) (fun r J ρ1 hq => ?_)
    obtain ⟨e1, f1, e2⟩ := hq
    have e1 := e1.symm
    subst e1
    subst e2
    have hT := (hA0.q f1).2.2.1
    obtain ⟨s, hs⟩ : ∃ s, s = r_who T w L k := ⟨_, rfl⟩
    rw [← hs]
    refine wp_istore2 20 rfl dX0_ask_19 (by decide) rfl ?_
    refine wp_bipush (-2) 22 rfl dX0_ask_20 (by decide) ?_
    refine wp_istore3 23 rfl dX0_ask_22 (by decide) rfl ?_
    refine wp_ldcw 26 rfl dX0_ask_23 q1359 ?_
    refine wp_istore4 28 rfl dX0_ask_26 (by decide) rfl ?_
    refine wp_iconst (nI 0) 29 rfl dX0_ask_28 (by decide) ?_
    refine wp_istore5 31 rfl dX0_ask_29 (by decide) rfl ?_
    by_cases hs0 : s = 0
    · rw [if_pos hs0]
      by_cases hD0 : tx_D T = 0
      · refine wp_iload5 33 rfl dX0_ask_31 ?_
        refine wp_aload0 34 rfl dX0_ask_33 ?_
        refine wp_Ve0 37 rfl dX0_ask_34 kX0_doors lX0_159 (o1 hK) (nl rfl) (nl rfl) (s_doors hK hP hT) ?_
        refine wp_icmp_ge 40 99 rfl rfl dX0_ask_37 (fun c37 => ?_) (fun c37 => absurd (nI_le (show tx_D T ≤ 0 by omega) (by decide)) c37)
        refine wp_iload3 100 rfl dX0_ask_99 ?_
        refine wp_iret dX0_ask_100 rfl ?_
        exact sm_ci f1 rfl
      · refine wp_iload5 33 rfl dX0_ask_31 ?_
        refine wp_aload0 34 rfl dX0_ask_33 ?_
        refine wp_Ve0 37 rfl dX0_ask_34 kX0_doors lX0_159 (o1 hK) (nl rfl) (nl rfl) (s_doors hK hP hT) ?_
        refine wp_icmp_ge 40 99 rfl rfl dX0_ask_37 (fun c37 => absurd c37 (nI_ge (show 0 < tx_D T by omega) (by omega))) (fun c37 => ?_)
        refine wp_iload2 41 rfl dX0_ask_40 ?_
        refine wp_if_eq 44 99 rfl rfl dX0_ask_41 (fun c41 => ?_) (fun c41 => absurd (hs0) c41)
        refine wp_iload3 100 rfl dX0_ask_99 ?_
        refine wp_iret dX0_ask_100 rfl ?_
        exact sm_ci f1 rfl
    · rw [if_neg hs0]
      obtain ⟨f, hf⟩ : ∃ f : Nat → Int32, f = fun i => r_worst T w s (i / 4) (i % 4) := ⟨_, rfl⟩
      rw [← hf]
      refine sm_for (P := fun a => ∀ J : sm_I, cq I J → sm_V G xX0_ask (d + 408) 31 [.ref 64, .int (nI k), .int s, .int (z_pk (z_arg f (4 * a))), .int (z_fw f (z_arg f (4 * a))), .int (nI a), .retAddr 0, .retAddr 0] [] J ρ _) 0 (tx_D T) (Nat.zero_le _) ?_ (fun a _ ha ih => ?_) J f1
      · intro J hJ
        have hT := (hA0.q hJ).2.2.1
        refine wp_iload5 33 rfl dX0_ask_31 ?_
        refine wp_aload0 34 rfl dX0_ask_33 ?_
        refine wp_Ve0 37 rfl dX0_ask_34 kX0_doors lX0_159 (o1 hK) (nl rfl) (nl rfl) (s_doors hK hP hT) ?_
        refine wp_icmp_ge 40 99 rfl rfl dX0_ask_37 (fun c37 => ?_) (fun c37 => absurd (nI_le (Nat.le_refl _) (by omega)) c37)
        refine wp_iload3 100 rfl dX0_ask_99 ?_
        refine wp_iret dX0_ask_100 rfl ?_
        exact sm_ci hJ rfl
      · intro J hJ
        have hT := (hA0.q hJ).2.2.1
        refine wp_iload5 33 rfl dX0_ask_31 ?_
        refine wp_aload0 34 rfl dX0_ask_33 ?_
        refine wp_Ve0 37 rfl dX0_ask_34 kX0_doors lX0_159 (o1 hK) (nl rfl) (nl rfl) (s_doors hK hP hT) ?_
        refine wp_icmp_ge 40 99 rfl rfl dX0_ask_37 (fun c37 => absurd c37 (nI_ge ha (by omega))) (fun c37 => ?_)
        refine wp_iload2 41 rfl dX0_ask_40 ?_
        refine wp_if_eq 44 99 rfl rfl dX0_ask_41 (fun c41 => absurd c41 (hs0)) (fun c41 => ?_)
        refine wp_iconst (nI 0) 45 rfl dX0_ask_44 (by decide) ?_
        refine wp_istore6 47 rfl dX0_ask_45 (by decide) rfl ?_
        refine sm_for (P := fun p => ∀ J : sm_I, cq I J → sm_V G xX0_ask (d + 408) 47 [.ref 64, .int (nI k), .int s, .int (z_pk (z_arg f (4 * a + p))), .int (z_fw f (z_arg f (4 * a + p))), .int (nI a), .int (nI p), .retAddr 0] [] J ρ _) 0 4 (nl rfl) ?_ (fun p _ hp ih2 => ?_) J hJ
        · intro J hJ
          refine wp_iload6 49 rfl dX0_ask_47 ?_
          refine wp_iconst (nI 4) 50 rfl dX0_ask_49 (by decide) ?_
          refine wp_icmp_ge 53 93 rfl rfl dX0_ask_50 (fun c50 => ?_) (fun c50 => absurd (nI_le (Nat.le_refl 4) (by decide)) c50)
          refine wp_iincN5 96 rfl dX0_ask_93 (by decide) rfl ?_
          refine wp_goto 31 rfl dX0_ask_96 ?_
          exact wp_weakK (ih J hJ) ⟨Or.inr rfl, Or.inr rfl, Or.inr rfl, Or.inr rfl, Or.inr rfl, Or.inr rfl, Or.inl rfl, Or.inl rfl, trivial⟩
        · intro J hJ
          have ef : f (4 * a + p) = r_worst T w s a p := by
            rw [hf]
            show r_worst T w s ((4 * a + p) / 4) ((4 * a + p) % 4) = _
            rw [show (4 * a + p) / 4 = a by omega, show (4 * a + p) % 4 = p by omega]
          have e0 := z_arg_s (f := f) (n := 4 * a + p) (by rw [ef]; exact (r_worst_max hk s a p).2)
          rw [ef] at e0
          refine wp_iload6 49 rfl dX0_ask_47 ?_
          refine wp_iconst (nI 4) 50 rfl dX0_ask_49 (by decide) ?_
          refine wp_icmp_ge 53 93 rfl rfl dX0_ask_50 (fun c50 => absurd c50 (nI_ge hp (by decide))) (fun c50 => ?_)
          refine wp_aload0 54 rfl dX0_ask_53 ?_
          refine wp_iload2 55 rfl dX0_ask_54 ?_
          refine wp_iload5 57 rfl dX0_ask_55 ?_
          refine wp_iload6 59 rfl dX0_ask_57 ?_
          refine wp_Vi3 62 rfl dX0_ask_59 kX0_worstOf lX0_324 (o1 hK) (nl rfl) (nl rfl) (s_cworst (d := d + 1) (hA0.q hJ) s ha hp) (fun r J1 ρ1 hq => ?_)
          obtain ⟨e1, g1, e2⟩ := hq
          have e1 := e1.symm
          subst e1
          subst e2
          have ih2 := ih2 J1 (hJ.tr g1)
          rw [← Nat.add_assoc, e0] at ih2
          refine wp_istore7 64 rfl dX0_ask_62 (by decide) rfl ?_
          refine wp_iload7 66 rfl dX0_ask_64 ?_
          refine wp_iload4 68 rfl dX0_ask_66 ?_
          refine wp_icmp_lt 71 74 rfl rfl dX0_ask_68 (fun c68 => ?_) (fun c68 => ?_)
          · rw [if_pos c68] at ih2
            have e7 : z_pk (some (4 * a + p)) = nI (10 * a + p) := by
              show nI (10 * ((4 * a + p) / 4) + (4 * a + p) % 4) = _
              rw [show (4 * a + p) / 4 = a by omega, show (4 * a + p) % 4 = p by omega]
            have e8 : z_fw f (some (4 * a + p)) = r_worst T w s a p := ef
            rw [e7, e8] at ih2
            refine wp_bipush (nI 10) 76 rfl dX0_ask_74 (by decide) ?_
            refine wp_iload5 78 rfl dX0_ask_76 ?_
            refine wp_imul 79 rfl dX0_ask_78 ?_
            refine wp_iload6 81 rfl dX0_ask_79 ?_
            refine wp_iadd 82 rfl dX0_ask_81 ?_
            rw [pk_mul, nI_add]
            refine wp_istore3 83 rfl dX0_ask_82 (by decide) rfl ?_
            refine wp_iload7 85 rfl dX0_ask_83 ?_
            refine wp_istore4 87 rfl dX0_ask_85 (by decide) rfl ?_
            refine wp_iincN6 90 rfl dX0_ask_87 (by decide) rfl ?_
            refine wp_goto 47 rfl dX0_ask_90 ?_
            exact wp_weakK ih2 ⟨Or.inr rfl, Or.inr rfl, Or.inr rfl, Or.inr rfl, Or.inr rfl, Or.inr rfl, Or.inr rfl, Or.inl rfl, trivial⟩
          · rw [if_neg c68] at ih2
            refine wp_goto 87 rfl dX0_ask_71 ?_
            refine wp_iincN6 90 rfl dX0_ask_87 (by decide) rfl ?_
            refine wp_goto 47 rfl dX0_ask_90 ?_
            exact wp_weakK ih2 ⟨Or.inr rfl, Or.inr rfl, Or.inr rfl, Or.inr rfl, Or.inr rfl, Or.inr rfl, Or.inr rfl, Or.inl rfl, trivial⟩
  · rw [z_iv_o (l := 0) (m := L.length) (fun z => hX ((z_iv_iff (by decide) (by omega)).mp z))]
    refine wp_if_ne 12 14 rfl rfl dX0_ask_9 (fun c9 => absurd (z_b_eq.mpr (fun z => hX ((z_iv_iff (l := 0) (m := L.length) (by decide) (by omega)).mp z))) c9) (fun c9 => ?_)
    refine wp_iconst (-1) 13 rfl dX0_ask_12 (by decide) ?_
    refine wp_iret dX0_ask_13 rfl ?_
    exact sm_ci cq.rf rfl
end E2
