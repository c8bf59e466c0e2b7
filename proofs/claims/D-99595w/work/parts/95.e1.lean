/-! ===== the component: who, ask ===== -/
set_option maxRecDepth 100000
/-- what is told -/
def cD (I : sm_I) (T : tx) (L : List (Nat × Nat × Int32)) : Prop := I 64 17 = nI L.length ∧ L.length ≤ 20 ∧ ∀ i d p v, L[i]? = some (d, p, v) → (d < tx_D T ∧ p < 4) ∧ I 254 i = nI d ∧ I 255 i = nI p ∧ I 256 i = v
theorem cD.q {I J : sm_I} {T : tx} {L : List (Nat × Nat × Int32)} (h : cD I T L) (hq : cq I J) : cD J T L := by
  have e : ∀ a, a = 64 ∨ a = 254 ∨ a = 255 ∨ a = 256 → J a = I a := fun a ha => hq a (by
    unfold cs
    omega)
  refine ⟨by rw [e 64 (by omega)]; exact h.1, h.2.1, fun i d p v hi => ?_⟩
  rw [e 254 (by omega), e 255 (by omega), e 256 (by omega)]
  exact h.2.2 i d p v hi
def z_bo (b : Bool) : Int32 := if b = true then nI 1 else nI 0
def z_pk (s : Option Nat) : Int32 := match s with
  | none => -2
  | some b => nI (10 * (b / 4) + b % 4)
theorem z_mx_n {a b c : Nat} (ha : a ≤ 100) (hb : b ≤ 100) (hc : c ≤ 100) : z_max (nI a) (z_max (nI b) (nI c)) = z_mx (z_mx (z_mx (nI 0) (nI a)) (nI b)) (nI c) ∧ z_mx (z_mx (z_mx (nI 0) (nI a)) (nI b)) (nI c) < 1000000 := by
  have l : ∀ x y : Nat, x ≤ 100 → y ≤ 100 → (nI x < nI y ↔ x < y) := fun x y hx hy => by
    rw [Int32.lt_iff_toInt_lt, nI_toInt (by omega), nI_toInt (by omega)]
    omega
  have le : ∀ x y : Nat, x ≤ 100 → y ≤ 100 → (nI x ≤ nI y ↔ x ≤ y) := fun x y hx hy => by
    rw [Int32.le_iff_toInt_le, nI_toInt (by omega), nI_toInt (by omega)]
    omega
  have m1 : ∀ x y : Nat, x ≤ 100 → y ≤ 100 → z_max (nI x) (nI y) = nI (if x < y then y else x) := fun x y hx hy => by
    unfold z_max
    by_cases h : x < y
    · rw [if_pos h, if_pos ((l x y hx hy).mpr h)]
    · rw [if_neg h, if_neg (fun z => h ((l x y hx hy).mp z))]
  have m2 : ∀ x y : Nat, x ≤ 100 → y ≤ 100 → z_mx (nI x) (nI y) = nI (if x < y then y else x) := fun x y hx hy => by
    unfold z_mx
    by_cases h : x < y
    · rw [if_pos h, if_neg (fun z => absurd ((le y x hy hx).mp z) (by omega))]
    · rw [if_neg h, if_pos ((le y x hy hx).mpr (by omega))]
  have b1 : (if b < c then c else b) ≤ 100 := by split <;> omega
  have b2 : (if 0 < a then a else 0) = a := by split <;> omega
  have b3 : (if a < b then b else a) ≤ 100 := by split <;> omega
  have b4 : (if (if a < b then b else a) < c then c else if a < b then b else a) ≤ 100 := by split <;> split <;> omega
  rw [m1 b c hb hc, m1 a _ ha b1, m2 0 a (by omega) ha, b2, m2 a b ha hb, m2 _ c b3 hc]
  refine ⟨nI_cg ?_, nI_lt (b := 1000000) (by omega) (by decide)⟩
  split <;> split <;> (try split) <;> (try split) <;> omega
section E1
variable {G : sm_G} {d : Nat} {I : sm_I} {ρ : sm_R} {tp : Nat} {q : tq4} {T : tx} {w : Nat → Int32} {L : List (Nat × Nat × Int32)}
theorem s_cwayOf (hA : cA I ρ tp q T w) {dd c p : Nat} (hd : dd < tx_D T) (hc : c < tx_C T) (hp : p < 4) : sm_M G xX0_wayOf (d + 405) [.ref 64, .int (nI dd), .int (nI c), .int (nI p)] I ρ (sm_Qi (fun r I1 ρ1 => ρ1 = ρ ∧ cf [79 + 14, 79 + 15] I I1 ∧ r = r_wayOf T w dd p c)) := by
  have hA0 := hA
  obtain ⟨hK, hP, hT, hk, ⟨hw, hz⟩, hR⟩ := hA
  obtain ⟨h6, h5, h10⟩ := hk.1
  have ht := k_town hK
  show sm_V G xX0_wayOf (d + 405) 0 [.ref 64, .int (nI dd), .int (nI c), .int (nI p)] [] I ρ _
  refine wp_aload0 1 rfl dX0_wayOf_0 ?_
  refine wp_getr 4 rfl dX0_wayOf_1 fX0_62_1 (o1 hK) (p1_7 hK) ?_
  refine wp_aload0 5 rfl dX0_wayOf_4 ?_
  refine wp_getr 8 rfl dX0_wayOf_5 fX0_51_1 (o1 hK) (hP) ?_
  refine wp_iload1 9 rfl dX0_wayOf_8 ?_
  refine wp_iload2 10 rfl dX0_wayOf_9 ?_
  refine wp_iload3 11 rfl dX0_wayOf_10 ?_
  refine wp_Vi4 14 rfl dX0_wayOf_11 kX5_gives lX0_254 (o6 (k_town hK)) (nl rfl) (nl rfl) (s_gives ht ⟨by decide, by decide⟩ hR hw hT hk (by omega) hc hp) (fun r J ρ1 hq => ?_)
  obtain ⟨e1, f1, e2⟩ := hq
  have e1 := e1.symm
  subst e1
  subst e2
  obtain ⟨-, -, hT, -, -, hR⟩ := hA0.q (cq.of f1 cs_scr)
  obtain ⟨x, x1, x2⟩ := hw.1 (4 * dd + p) (by omega)
  obtain ⟨y, y1, y2⟩ := hk.2.1 (4 * c + p) (by omega)
  have eF := (cT_cf hT hc).2.2.2 p hp
  refine wp_if_ne 17 21 rfl rfl dX0_wayOf_14 (fun c14 => ?_) (fun c14 => ?_)
  · refine wp_aload0 22 rfl dX0_wayOf_21 ?_
    refine wp_getr 25 rfl dX0_wayOf_22 fX0_51_1 (o1 hK) (hP) ?_
    refine wp_getr 28 rfl dX0_wayOf_25 fX0_156_5 (o5 hT) (p5_1 hT) ?_
    refine wp_iload2 29 rfl dX0_wayOf_28 ?_
    refine wp_Ve1 32 rfl dX0_wayOf_29 kJ5_get lX0_173 (o18 (cT_c hT)) (nl rfl) (nl rfl) (s_get (cT_c hT) (hc)) ?_
    refine wp_cast 35 rfl dX0_wayOf_32 caX0_215_16 (o16 (cT_cf hT (hc))) ?_
    refine wp_getr 38 rfl dX0_wayOf_35 fX0_217_16 (o16 (cT_cf hT (hc))) (p16_1 (cT_cf hT (hc))) ?_
    refine wp_iload3 39 rfl dX0_wayOf_38 ?_
    refine wp_iald 40 rfl dX0_wayOf_39 (s16_1 (cT_cf hT (hc))) (p) (by first | rfl | simp only [pk_mul, nI_add]) (⟨by omega, by decide⟩) ?_
    refine wp_aload0 41 rfl dX0_wayOf_40 ?_
    refine wp_getr 44 rfl dX0_wayOf_41 fX0_62_1 (o1 hK) (p1_7 hK) ?_
    refine wp_getr 47 rfl dX0_wayOf_44 fX0_170_6 (o6 (k_town hK)) (p6_0 (k_town hK)) ?_
    refine wp_iload1 48 rfl dX0_wayOf_47 ?_
    refine wp_aald (t := 10) 49 rfl dX0_wayOf_48 (by decide) rfl rfl (s6_0 (k_town hK)) (dd) (by first | rfl | simp only [pk_mul, nI_add]) (⟨by omega, by decide⟩) (e6_0 (k_town hK) (by omega)) ?_
    refine wp_iload3 50 rfl dX0_wayOf_49 ?_
    refine wp_iald 51 rfl dX0_wayOf_50 (i6_0 (k_town hK) (by omega)) (p) (by first | rfl | simp only [pk_mul, nI_add]) (⟨by omega, by decide⟩) ?_
    rw [hR.1 dd p (by omega) hp, eF]
    refine wp_isub 52 rfl dX0_wayOf_51 ?_
    refine wp_Se1 55 rfl dX0_wayOf_52 kJ16_signum lX0_14 (nl rfl) (nl rfl) (s_signum _) ?_
    refine wp_iret dX0_wayOf_55 rfl ?_
    refine ⟨_, rfl, rfl, f1, ?_⟩
    have hne : ¬ w (4 * dd + p) = tx_cf T (4 * c + p) := fun z => c14 ((z_go (v := lw_val (r_var w dd (z_off (w (4 * dd + p)) (tx_cf T (4 * c + p))) (nI p) (w (4 * dd + p)) (r_unl T w dd c) (nI c)) (tx_law T 0) (nI 1)) ⟨x, x1, x2⟩ ⟨y, y1, y2⟩).2 z)
    unfold r_wayOf
    rw [if_neg c14]
    rw [x2, y2] at hne ⊢
    have hxy : ¬ x = y := fun z => hne (by rw [z])
    rw [z_sgn_d2 x1 y1]
    by_cases h : x < y
    · rw [if_pos h, if_pos (nI_le (by omega) (by omega))]
      rfl
    · rw [if_neg h, if_neg hxy, if_neg (nI_ge (by omega) (by omega))]
  · refine wp_iconst (nI 0) 18 rfl dX0_wayOf_17 (by decide) ?_
    refine wp_goto 55 rfl dX0_wayOf_18 ?_
    refine wp_iret dX0_wayOf_55 rfl ?_
    refine ⟨_, rfl, rfl, f1, ?_⟩
    unfold r_wayOf
    rw [if_pos c14]
theorem s_whoBy (hA : cA I ρ tp q T w) (hD : cD I T L) {k : Nat} (hkl : k ≤ L.length) : sm_M G xX0_whoBy (d + 406) [.ref 64, .int (nI k)] I ρ (cPost I ρ (r_who T w L k)) := by
  have hA0 := hA
  obtain ⟨hK, hP, hT, hk, ⟨hw, hz⟩, hR⟩ := hA
  obtain ⟨h6, h5, h10⟩ := hk.1
  have hl := hD.2.1
  show sm_V G xX0_whoBy (d + 406) 0 [.ref 64, .int (nI k), .retAddr 0, .retAddr 0, .retAddr 0, .retAddr 0] [] I ρ _
  unfold r_who
  refine wp_iconst (nI 0) 1 rfl dX0_whoBy_0 (by decide) ?_
  refine wp_istore2 2 rfl dX0_whoBy_1 (by decide) rfl ?_
  refine wp_iconst (nI 0) 3 rfl dX0_whoBy_2 (by decide) ?_
  refine wp_istore3 4 rfl dX0_whoBy_3 (by decide) rfl ?_
  refine sm_for (P := fun c => ∀ J : sm_I, cq I J → sm_V G xX0_whoBy (d + 406) 4 [.ref 64, .int (nI k), .int (z_set (fun c => r_may T w L c k = true) c), .int (nI c), .retAddr 0, .retAddr 0] [] J ρ _) 0 (tx_C T) (Nat.zero_le _) ?_ (fun c _ hc ih => ?_) I cq.rf
  · intro J hJ
    have hT := (hA0.q hJ).2.2.1
    refine wp_iload3 5 rfl dX0_whoBy_4 ?_
    refine wp_aload0 6 rfl dX0_whoBy_5 ?_
    refine wp_Ve0 9 rfl dX0_whoBy_6 kX0_callers lX0_165 (o1 hK) (nl rfl) (nl rfl) (s_callers hK hP hT) ?_
    refine wp_icmp_ge 12 92 rfl rfl dX0_whoBy_9 (fun c9 => ?_) (fun c9 => absurd (nI_le (Nat.le_refl _) (by omega)) c9)
    refine wp_iload2 93 rfl dX0_whoBy_92 ?_
    refine wp_iret dX0_whoBy_93 rfl ?_
    exact sm_ci hJ rfl
  · intro J hJ
    have hT := (hA0.q hJ).2.2.1
    refine wp_iload3 5 rfl dX0_whoBy_4 ?_
    refine wp_aload0 6 rfl dX0_whoBy_5 ?_
    refine wp_Ve0 9 rfl dX0_whoBy_6 kX0_callers lX0_165 (o1 hK) (nl rfl) (nl rfl) (s_callers hK hP hT) ?_
    refine wp_icmp_ge 12 92 rfl rfl dX0_whoBy_9 (fun c9 => absurd c9 (nI_ge hc (by omega))) (fun c9 => ?_)
    refine wp_iconst (nI 1) 13 rfl dX0_whoBy_12 (by decide) ?_
    refine wp_istore4 15 rfl dX0_whoBy_13 (by decide) rfl ?_
    refine wp_iconst (nI 0) 16 rfl dX0_whoBy_15 (by decide) ?_
    refine wp_istore5 18 rfl dX0_whoBy_16 (by decide) rfl ?_
    refine sm_for (P := fun i => ∀ J : sm_I, cq I J → sm_V G xX0_whoBy (d + 406) 18 [.ref 64, .int (nI k), .int (z_set (fun c => r_may T w L c k = true) c), .int (nI c), .int (z_bo (r_may T w L c i)), .int (nI i)] [] J ρ _) 0 k (Nat.zero_le _) ?_ (fun i _ hi ih2 => ?_) J hJ
    · intro J hJ
      have ih := ih J hJ
      have e0 : z_set (fun c => r_may T w L c k = true) (c + 1) = if r_may T w L c k = true then z_set (fun c => r_may T w L c k = true) c ||| nI 1 <<< (nI c &&& 31) else z_set (fun c => r_may T w L c k = true) c := rfl
      rw [e0] at ih
      refine wp_iload5 20 rfl dX0_whoBy_18 ?_
      refine wp_iload1 21 rfl dX0_whoBy_20 ?_
      refine wp_icmp_ge 24 71 rfl rfl dX0_whoBy_21 (fun c21 => ?_) (fun c21 => absurd (nI_le (Nat.le_refl _) (by omega)) c21)
      refine wp_iload2 72 rfl dX0_whoBy_71 ?_
      refine wp_iload4 74 rfl dX0_whoBy_72 ?_
      unfold z_bo
      by_cases hm : r_may T w L c k = true
      · rw [if_pos hm] at ih
        rw [if_pos hm]
        refine wp_if_eq 77 83 rfl rfl dX0_whoBy_74 (fun c74 => absurd c74 (by decide)) (fun c74 => ?_)
        refine wp_iconst (nI 1) 78 rfl dX0_whoBy_77 (by decide) ?_
        refine wp_iload3 79 rfl dX0_whoBy_78 ?_
        refine wp_ishl 80 rfl dX0_whoBy_79 ?_
        refine wp_goto 84 rfl dX0_whoBy_80 ?_
        refine wp_ior 85 rfl dX0_whoBy_84 ?_
        refine wp_istore2 86 rfl dX0_whoBy_85 (by decide) rfl ?_
        refine wp_iincN3 89 rfl dX0_whoBy_86 (by decide) rfl ?_
        refine wp_goto 4 rfl dX0_whoBy_89 ?_
        exact wp_weakK ih ⟨Or.inr rfl, Or.inr rfl, Or.inr rfl, Or.inr rfl, Or.inl rfl, Or.inl rfl, trivial⟩
      · rw [if_neg hm] at ih
        rw [if_neg hm]
        refine wp_if_eq 77 83 rfl rfl dX0_whoBy_74 (fun c74 => ?_) (fun c74 => absurd (rfl) c74)
        refine wp_iconst (nI 0) 84 rfl dX0_whoBy_83 (by decide) ?_
        refine wp_ior 85 rfl dX0_whoBy_84 ?_
        rw [i_or0]
        refine wp_istore2 86 rfl dX0_whoBy_85 (by decide) rfl ?_
        refine wp_iincN3 89 rfl dX0_whoBy_86 (by decide) rfl ?_
        refine wp_goto 4 rfl dX0_whoBy_89 ?_
        exact wp_weakK ih ⟨Or.inr rfl, Or.inr rfl, Or.inr rfl, Or.inr rfl, Or.inl rfl, Or.inl rfl, trivial⟩
    · intro J hJ
      have hA1 := hA0.q hJ
      obtain ⟨⟨dd, p, v⟩, hv⟩ : ∃ x, L[i]? = some x := ⟨L[i]'(by omega), List.getElem?_eq_getElem _⟩
      obtain ⟨⟨v1, v2⟩, v3, v4, v5⟩ := (hD.q hJ).2.2 i dd p v hv
      have e1 : r_may T w L c (i + 1) = (r_may T w L c i && decide (r_wayOf T w dd p c = v)) := by
        unfold r_may
        rw [hv]
        cases i <;> rfl
      by_cases hm : r_may T w L c i = true
      · have e2 : z_bo (r_may T w L c i) = nI 1 := by unfold z_bo; rw [if_pos hm]
        rw [e2]
        refine wp_iload5 20 rfl dX0_whoBy_18 ?_
        refine wp_iload1 21 rfl dX0_whoBy_20 ?_
        refine wp_icmp_ge 24 71 rfl rfl dX0_whoBy_21 (fun c21 => absurd c21 (nI_ge hi (by omega))) (fun c21 => ?_)
        refine wp_iload4 26 rfl dX0_whoBy_24 ?_
        refine wp_if_eq 29 62 rfl rfl dX0_whoBy_26 (fun c26 => absurd c26 (by decide)) (fun c26 => ?_)
        refine wp_aload0 30 rfl dX0_whoBy_29 ?_
        refine wp_aload0 31 rfl dX0_whoBy_30 ?_
        refine wp_getr 34 rfl dX0_whoBy_31 fX0_105_1 (o1 hK) (p1_18 hK) ?_
        refine wp_iload5 36 rfl dX0_whoBy_34 ?_
        refine wp_iald 37 rfl dX0_whoBy_36 (s1_18 hK) (i) (by first | rfl | simp only [pk_mul, nI_add]) (⟨by omega, by decide⟩) ?_
        refine wp_iload3 38 rfl dX0_whoBy_37 ?_
        rw [v3]
        refine wp_aload0 39 rfl dX0_whoBy_38 ?_
        refine wp_getr 42 rfl dX0_whoBy_39 fX0_108_1 (o1 hK) (p1_19 hK) ?_
        refine wp_iload5 44 rfl dX0_whoBy_42 ?_
        refine wp_iald 45 rfl dX0_whoBy_44 (s1_19 hK) (i) (by first | rfl | simp only [pk_mul, nI_add]) (⟨by omega, by decide⟩) ?_
        rw [v4]
        refine wp_Vi3 48 rfl dX0_whoBy_45 kX0_wayOf lX0_312 (o1 hK) (nl rfl) (nl rfl) (s_cwayOf (d := d) hA1 v1 hc v2) (fun r J1 ρ1 hq => ?_)
        obtain ⟨e1', f1, e2'⟩ := hq
        have e1' := e1'.symm
        subst e1'
        subst e2'
        have hJ1 := hJ.tr (cq.of f1 cs_scr)
        have v5 : J1 256 i = v := by rw [f1 256 (by decide)]; exact v5
        have ih2 := ih2 J1 hJ1
        refine wp_aload0 49 rfl dX0_whoBy_48 ?_
        refine wp_getr 52 rfl dX0_whoBy_49 fX0_111_1 (o1 hK) (p1_20 hK) ?_
        refine wp_iload5 54 rfl dX0_whoBy_52 ?_
        refine wp_iald 55 rfl dX0_whoBy_54 (s1_20 hK) (i) (by first | rfl | simp only [pk_mul, nI_add]) (⟨by omega, by decide⟩) ?_
        rw [v5]
        refine wp_icmp_ne 58 62 rfl rfl dX0_whoBy_55 (fun c55 => ?_) (fun c55 => ?_)
        · rw [e1, hm, decide_eq_false c55] at ih2
          refine wp_iconst (nI 0) 63 rfl dX0_whoBy_62 (by decide) ?_
          refine wp_istore4 65 rfl dX0_whoBy_63 (by decide) rfl ?_
          refine wp_iincN5 68 rfl dX0_whoBy_65 (by decide) rfl ?_
          refine wp_goto 18 rfl dX0_whoBy_68 ?_
          exact ih2
        · rw [e1, hm, decide_eq_true c55] at ih2
          refine wp_iconst (nI 1) 59 rfl dX0_whoBy_58 (by decide) ?_
          refine wp_goto 63 rfl dX0_whoBy_59 ?_
          refine wp_istore4 65 rfl dX0_whoBy_63 (by decide) rfl ?_
          refine wp_iincN5 68 rfl dX0_whoBy_65 (by decide) rfl ?_
          refine wp_goto 18 rfl dX0_whoBy_68 ?_
          exact ih2
      · have e2 : z_bo (r_may T w L c i) = nI 0 := by unfold z_bo; rw [if_neg hm]
        have ih2 := ih2 J hJ
        rw [e1, Bool.eq_false_iff.mpr hm] at ih2
        rw [e2]
        refine wp_iload5 20 rfl dX0_whoBy_18 ?_
        refine wp_iload1 21 rfl dX0_whoBy_20 ?_
        refine wp_icmp_ge 24 71 rfl rfl dX0_whoBy_21 (fun c21 => absurd c21 (nI_ge hi (by omega))) (fun c21 => ?_)
        refine wp_iload4 26 rfl dX0_whoBy_24 ?_
        refine wp_if_eq 29 62 rfl rfl dX0_whoBy_26 (fun c26 => ?_) (fun c26 => absurd (rfl) c26)
        refine wp_iconst (nI 0) 63 rfl dX0_whoBy_62 (by decide) ?_
        refine wp_istore4 65 rfl dX0_whoBy_63 (by decide) rfl ?_
        refine wp_iincN5 68 rfl dX0_whoBy_65 (by decide) rfl ?_
        refine wp_goto 18 rfl dX0_whoBy_68 ?_
        exact ih2
theorem c_who (hA : cA I ρ tp q T w) (hD : cD I T L) (x what : Int32) : sm_M G xX0_who (d + 408) [.ref 64, .int x, .int what] I ρ (cPost I ρ (o_who T w L x what)) := by
  have hA0 := hA
  obtain ⟨hK, hP, hT, hk, ⟨hw, hz⟩, hR⟩ := hA
  have hl := hD.2.1
  have h5 := hk.1.2.1
  show sm_V G xX0_who (d + 408) 0 [.ref 64, .int x, .int what, .retAddr 0] [] I ρ _
  unfold o_who
  refine wp_iload1 1 rfl dX0_who_0 ?_
  refine wp_iconst (nI 0) 2 rfl dX0_who_1 (by decide) ?_
  refine wp_aload0 3 rfl dX0_who_2 ?_
  refine wp_geti 6 rfl dX0_who_3 fX0_139_1 (o1 hK) ?_
  rw [hD.1]
  refine wp_Se3 9 rfl dX0_who_6 kX0_isIn lX0_161 (nl rfl) (nl rfl) (s_isIn _ _ _) ?_
  by_cases hX : ∃ j, (0 ≤ j ∧ j ≤ L.length) ∧ x = nI j
  · obtain ⟨k, hk1, e⟩ := hX
    subst e
    rw [z_iv_n (l := 0) (m := L.length) hk1 (by decide) (by omega)]
    refine wp_if_eq 12 21 rfl rfl dX0_who_9 (fun c9 => absurd c9 (z_b_ne.mpr ((z_iv_iff (l := 0) (m := L.length) (by decide) (by omega)).mpr ⟨k, hk1, rfl⟩))) (fun c9 => ?_)
    refine wp_iload2 13 rfl dX0_who_12 ?_
    refine wp_iconst (nI 0) 14 rfl dX0_who_13 (by decide) ?_
    refine wp_iconst (nI 1) 15 rfl dX0_who_14 (by decide) ?_
    refine wp_Se3 18 rfl dX0_who_15 kX0_isIn lX0_161 (nl rfl) (nl rfl) (s_isIn _ _ _) ?_
    by_cases hY : ∃ j, j < 2 ∧ what = nI j
    · obtain ⟨b, hb, e⟩ := hY
      subst e
      rw [z_ix_n hb (by decide)]
      refine wp_if_ne 21 23 rfl rfl dX0_who_18 (fun c18 => ?_) (fun c18 => absurd c18 (z_b_ne.mpr ((z_in_lo (n := 2) (m := 1) rfl (by decide)).mpr ⟨b, hb, rfl⟩)))
      refine wp_aload0 24 rfl dX0_who_23 ?_
      refine wp_iload1 25 rfl dX0_who_24 ?_
      refine wp_Vi1 28 rfl dX0_who_25 kX0_whoBy lX0_315 (o1 hK) (nl rfl) (nl rfl) (s_whoBy (d := d + 1) hA0 hD hk1.2) (fun r J ρ1 hq => ?_)
      obtain ⟨e1, f1, e2⟩ := hq
      have e1 := e1.symm
      subst e1
      subst e2
      by_cases e : b = 0
      · subst e
        refine wp_istore3 29 rfl dX0_who_28 (by decide) rfl ?_
        refine wp_iload2 30 rfl dX0_who_29 ?_
        refine wp_if_ne 33 40 rfl rfl dX0_who_30 (fun c30 => absurd (rfl) c30) (fun c30 => ?_)
        refine wp_iload3 34 rfl dX0_who_33 ?_
        refine wp_Se1 37 rfl dX0_who_34 kJ16_bitCount lX0_318 (nl rfl) (nl rfl) (s_bitCount _) ?_
        refine wp_goto 41 rfl dX0_who_37 ?_
        refine wp_iret dX0_who_41 rfl ?_
        refine sm_ci f1 ?_
        unfold r_who
        exact z_bct_set _ (by omega)
      · refine wp_istore3 29 rfl dX0_who_28 (by decide) rfl ?_
        refine wp_iload2 30 rfl dX0_who_29 ?_
        refine wp_if_ne 33 40 rfl rfl dX0_who_30 (fun c30 => ?_) (fun c30 => absurd c30 (fun z => e ((nI_eq (b := 0) (by omega) (by decide)).mp z)))
        refine wp_iload3 41 rfl dX0_who_40 ?_
        refine wp_iret dX0_who_41 rfl ?_
        exact sm_ci f1 (if_neg e).symm
    · rw [z_ix_no (by decide) hY]
      refine wp_if_ne 21 23 rfl rfl dX0_who_18 (fun c18 => absurd (z_b_eq.mpr (fun z => hY ((z_in_lo (n := 2) (m := 1) rfl (by decide)).mp z))) c18) (fun c18 => ?_)
      refine wp_iconst (-1) 22 rfl dX0_who_21 (by decide) ?_
      refine wp_iret dX0_who_22 rfl ?_
      exact sm_ci cq.rf rfl
  · rw [z_iv_o (l := 0) (m := L.length) (fun z => hX ((z_iv_iff (by decide) (by omega)).mp z))]
    refine wp_if_eq 12 21 rfl rfl dX0_who_9 (fun c9 => ?_) (fun c9 => absurd (z_b_eq.mpr (fun z => hX ((z_iv_iff (l := 0) (m := L.length) (by decide) (by omega)).mp z))) c9)
    refine wp_iconst (-1) 22 rfl dX0_who_21 (by decide) ?_
    refine wp_iret dX0_who_22 rfl ?_
    exact sm_ci cq.rf rfl
end E1
