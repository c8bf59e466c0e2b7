/-! ===== the component: caller, round, same, nearest, flat, towards, richest, twins, confused ===== -/
set_option maxRecDepth 100000
theorem i_or0 (a : Int32) : a ||| nI 0 = a := by
  rw [show nI 0 = (0 : Int32) from rfl]
  simp
/-- the least so far, FAR at first -/
def z_fw (f : Nat → Int32) (s : Option Nat) : Int32 := match s with
  | none => 1000000
  | some b => f b
theorem z_arg_s {f : Nat → Int32} {n : Nat} (h : f n < 1000000) : z_arg f (n + 1) = if f n < z_fw f (z_arg f n) then some n else z_arg f n := by
  have e : z_arg f (n + 1) = match z_arg f n with
    | none => some n
    | some b => if f n < f b then some n else some b := rfl
  rw [e]
  cases z_arg f n with
  | none => exact (if_pos h).symm
  | some b => rfl
/-- the most so far, below nought at first -/
def z_fm (f : Nat → Int32) (s : Option Nat) : Int32 := match s with
  | none => -1
  | some b => f b
theorem z_argM_s {f : Nat → Int32} {n : Nat} (h : -1 < f n) : z_argM f (n + 1) = if z_fm f (z_argM f n) < f n then some n else z_argM f n := by
  have e : z_argM f (n + 1) = match z_argM f n with
    | none => some n
    | some b => if f b < f n then some n else some b := rfl
  rw [e]
  cases z_argM f n with
  | none => exact (if_pos h).symm
  | some b => rfl
def z_pfw (f : Nat → Nat → Int32) (s : Option (Nat × Nat)) : Int32 := match s with
  | none => 1000000
  | some (i, j) => f i j
theorem z_pS_s {f : Nat → Nat → Int32} {s : Option (Nat × Nat)} {a b : Nat} (h : f a b < 1000000) : z_pS f s a b = if f a b < z_pfw f s then some (a, b) else s := by
  match s with
  | none => exact (if_pos h).symm
  | some (i, j) => rfl
theorem z_so {x y : Nat → Int32} (hx : ∀ p, p < 4 → ∃ f, f ≤ 99 ∧ x p = nI f) (hy : ∀ p, p < 4 → ∃ f, f ≤ 99 ∧ y p = nI f) : ∀ n, n ≤ 4 → ∃ m, m ≤ 99 * n ∧ z_sum (fun p => z_off (x p) (y p)) n = nI m
  | 0, _ => ⟨0, Nat.le_refl _, rfl⟩
  | n + 1, hn => by
    obtain ⟨m, h1, h2⟩ := z_so hx hy n (by omega)
    obtain ⟨f, f1, f2⟩ := hx n (by omega)
    obtain ⟨g, g1, g2⟩ := hy n (by omega)
    refine ⟨m + (if f < g then g - f else f - g), ?_, ?_⟩
    · split <;> omega
    · show z_sum (fun p => z_off (x p) (y p)) n + z_off (x n) (y n) = _
      rw [h2, f2, g2, z_off_n (by omega) (by omega), nI_add]
theorem z_so4 {x y : Nat → Int32} (hx : ∀ p, p < 4 → ∃ f, f ≤ 99 ∧ x p = nI f) (hy : ∀ p, p < 4 → ∃ f, f ≤ 99 ∧ y p = nI f) : z_sum (fun p => z_off (x p) (y p)) 4 < 1000000 := by
  obtain ⟨m, h1, h2⟩ := z_so hx hy 4 (Nat.le_refl _)
  rw [h2]
  exact nI_lt (a := m) (b := 1000000) (by omega) (by decide)
theorem z_pb_neg {s : Option (Nat × Nat)} {N : Nat} (hN : N < 100) (h : z_pok N s) : z_pb s < 0 ↔ s = none := by
  match s, h with
  | none, _ => exact ⟨fun _ => rfl, fun _ => (by decide : (-2 : Int32) < 0)⟩
  | some (i, j), h => exact ⟨fun z => absurd z (nI_pos (by have := h i j rfl; omega)), fun z => by cases z⟩
section D4
variable {G : sm_G} {d : Nat} {I : sm_I} {ρ : sm_R} {tp : Nat} {q : tq4} {T : tx} {w : Nat → Int32}
theorem r_unl_far (hw : wok w) (hk : tok T) {dd c : Nat} (hd : dd < 6) (hc : c < tx_C T) : r_unl T w dd c < 1000000 := z_so4 (x := fun p => w (4 * dd + p)) (y := fun p => tx_cf T (4 * c + p)) (fun p hp => hw.1 _ (by omega)) (fun p hp => hk.2.1 _ (by omega))
theorem r_unf_far (hw : wok w) (hk : tok T) {dd : Nat} (hd : dd < tx_D T) : r_unf T w dd < 1000000 := by
  have h6 := hk.1.1
  exact z_so4 (x := fun p => w (4 * dd + p)) (y := fun p => tx_ff T (4 * dd + p)) (fun p hp => hw.1 _ (by omega)) (fun p hp => hk.2.2.1 _ (by omega))
theorem c_caller (hA : cA I ρ tp q T w) (y what : Int32) : sm_M G xX0_caller (d + 408) [.ref 64, .int y, .int what] I ρ (cPost I ρ (o_caller T w y what)) := by
  obtain ⟨hK, hP, hT, hk, ⟨hw, hz⟩, hR⟩ := hA
  show sm_V G xX0_caller (d + 408) 0 [.ref 64, .int y, .int what, .retAddr 0, .retAddr 0] [] I ρ _
  obtain ⟨h6, h5, h10⟩ := hk.1
  have ht := k_town hK
  have ht2 := k_trial hK
  unfold o_caller
  refine wp_aload0 1 rfl dX0_caller_0 ?_
  refine wp_iload1 2 rfl dX0_caller_1 ?_
  refine wp_Ve1 5 rfl dX0_caller_2 kX0_isCaller lX0_212 (o1 hK) (nl rfl) (nl rfl) (s_cisCaller hK hP hT hk y) ?_
  by_cases hX : ∃ j, j < tx_C T ∧ y = nI j
  · obtain ⟨c, hc, e⟩ := hX
    subst e
    rw [z_ix_n hc (by omega)]
    refine wp_if_ne 8 10 rfl rfl dX0_caller_5 (fun c5 => ?_) (fun c5 => absurd c5 (z_b_ne.mpr ⟨c, hc, rfl⟩))
    refine wp_iload2 11 rfl dX0_caller_10 ?_
    refine wp_Se1 14 rfl dX0_caller_11 kX0_isPart lX0_189 (nl rfl) (nl rfl) (s_cisPart what) ?_
    by_cases hp : ∃ k, k < 4 ∧ what = nI k
    · obtain ⟨p, hp4, e⟩ := hp
      subst e
      rw [z_ix_n (show p < 6 by omega) (by decide)]
      have eF := (cT_cf hT hc).2.2.2 p hp4
      refine wp_if_eq 17 37 rfl rfl dX0_caller_14 (fun c14 => absurd c14 (z_b_ne.mpr (z_p4 hp4))) (fun c14 => ?_)
      refine wp_aload0 18 rfl dX0_caller_17 ?_
      refine wp_getr 21 rfl dX0_caller_18 fX0_51_1 (o1 hK) (hP) ?_
      refine wp_getr 24 rfl dX0_caller_21 fX0_156_5 (o5 hT) (p5_1 hT) ?_
      refine wp_iload1 25 rfl dX0_caller_24 ?_
      refine wp_Ve1 28 rfl dX0_caller_25 kJ5_get lX0_173 (o18 (cT_c hT)) (nl rfl) (nl rfl) (s_get (cT_c hT) (hc)) ?_
      refine wp_cast 31 rfl dX0_caller_28 caX0_215_16 (o16 (cT_cf hT (hc))) ?_
      refine wp_getr 34 rfl dX0_caller_31 fX0_217_16 (o16 (cT_cf hT (hc))) (p16_1 (cT_cf hT (hc))) ?_
      refine wp_iload2 35 rfl dX0_caller_34 ?_
      refine wp_iald 36 rfl dX0_caller_35 (s16_1 (cT_cf hT (hc))) (p) (by first | rfl | simp only [pk_mul, nI_add]) (⟨by omega, by decide⟩) ?_
      refine wp_iret dX0_caller_36 rfl ?_
      refine sm_ci cq.rf ?_
      rw [eF]
      exact (if_pos hp4).symm
    · refine wp_if_eq 17 37 rfl rfl dX0_caller_14 (fun c14 => ?_) (fun c14 => absurd (z_b_eq.mpr (z_p4n hp)) c14)
      refine wp_iconst (nI 0) 38 rfl dX0_caller_37 (by decide) ?_
      refine wp_istore3 39 rfl dX0_caller_38 (by decide) rfl ?_
      refine wp_iconst (nI 0) 40 rfl dX0_caller_39 (by decide) ?_
      refine wp_istore4 42 rfl dX0_caller_40 (by decide) rfl ?_
      refine sm_for (P := fun p => sm_V G xX0_caller (d + 408) 42 [.ref 64, .int (nI c), .int what, .int (z_set (fun i => r_known T w i = nI c) p), .int (nI p)] [] I ρ _) 0 (tx_D T) (Nat.zero_le _) ?_ (fun p _ hp ih => ?_)
      · refine wp_iload4 44 rfl dX0_caller_42 ?_
        refine wp_aload0 45 rfl dX0_caller_44 ?_
        refine wp_Ve0 48 rfl dX0_caller_45 kX0_doors lX0_159 (o1 hK) (nl rfl) (nl rfl) (s_doors hK hP hT) ?_
        refine wp_icmp_ge 51 85 rfl rfl dX0_caller_48 (fun c48 => ?_) (fun c48 => absurd (nI_le (Nat.le_refl _) (by omega)) c48)
        by_cases e4 : what = nI 4
        · subst e4
          refine wp_iload2 86 rfl dX0_caller_85 ?_
          refine wp_iconst (nI 4) 87 rfl dX0_caller_86 (by decide) ?_
          refine wp_icmp_ne 90 102 rfl rfl dX0_caller_87 (fun c87 => absurd (rfl) c87) (fun c87 => ?_)
          refine wp_aload0 91 rfl dX0_caller_90 ?_
          refine wp_getr 94 rfl dX0_caller_91 fX0_62_1 (o1 hK) (p1_7 hK) ?_
          refine wp_getr 97 rfl dX0_caller_94 fX0_218_6 (o6 (k_town hK)) (p6_5 (k_town hK)) ?_
          refine wp_iload1 98 rfl dX0_caller_97 ?_
          refine wp_iald 99 rfl dX0_caller_98 (s6_5 (k_town hK)) (c) (by first | rfl | simp only [pk_mul, nI_add]) (⟨by omega, by decide⟩) ?_
          refine wp_goto 112 rfl dX0_caller_99 ?_
          refine wp_iret dX0_caller_112 rfl ?_
          exact sm_ci cq.rf (hR.2.2.1 c (by omega))
        · by_cases e5 : what = nI 5
          · subst e5
            refine wp_iload2 86 rfl dX0_caller_85 ?_
            refine wp_iconst (nI 4) 87 rfl dX0_caller_86 (by decide) ?_
            refine wp_icmp_ne 90 102 rfl rfl dX0_caller_87 (fun c87 => ?_) (fun c87 => absurd c87 (e4))
            refine wp_iload2 103 rfl dX0_caller_102 ?_
            refine wp_iconst (nI 5) 104 rfl dX0_caller_103 (by decide) ?_
            refine wp_icmp_ne 107 111 rfl rfl dX0_caller_104 (fun c104 => absurd (rfl) c104) (fun c104 => ?_)
            refine wp_iload3 108 rfl dX0_caller_107 ?_
            refine wp_goto 112 rfl dX0_caller_108 ?_
            refine wp_iret dX0_caller_112 rfl ?_
            exact sm_ci cq.rf rfl
          · have e6 : z_ix what 6 = none := z_ix_no (by decide) (by
              rintro ⟨k, h1, h2⟩
              by_cases k4 : k < 4
              · exact hp ⟨k, k4, h2⟩
              · have : k = 4 ∨ k = 5 := by omega
                rcases this with e | e
                · exact e4 (by rw [h2, e])
                · exact e5 (by rw [h2, e]))
            rw [e6]
            refine wp_iload2 86 rfl dX0_caller_85 ?_
            refine wp_iconst (nI 4) 87 rfl dX0_caller_86 (by decide) ?_
            refine wp_icmp_ne 90 102 rfl rfl dX0_caller_87 (fun c87 => ?_) (fun c87 => absurd c87 (e4))
            refine wp_iload2 103 rfl dX0_caller_102 ?_
            refine wp_iconst (nI 5) 104 rfl dX0_caller_103 (by decide) ?_
            refine wp_icmp_ne 107 111 rfl rfl dX0_caller_104 (fun c104 => ?_) (fun c104 => absurd c104 (e5))
            refine wp_iconst (-1) 112 rfl dX0_caller_111 (by decide) ?_
            refine wp_iret dX0_caller_112 rfl ?_
            exact sm_ci cq.rf rfl
      · have e0 : z_set (fun i => r_known T w i = nI c) (p + 1) = if r_known T w p = nI c then z_set (fun i => r_known T w i = nI c) p ||| nI 1 <<< (nI p &&& 31) else z_set (fun i => r_known T w i = nI c) p := rfl
        rw [e0] at ih
        refine wp_iload4 44 rfl dX0_caller_42 ?_
        refine wp_aload0 45 rfl dX0_caller_44 ?_
        refine wp_Ve0 48 rfl dX0_caller_45 kX0_doors lX0_159 (o1 hK) (nl rfl) (nl rfl) (s_doors hK hP hT) ?_
        refine wp_icmp_ge 51 85 rfl rfl dX0_caller_48 (fun c48 => absurd c48 (nI_ge hp (by omega))) (fun c48 => ?_)
        refine wp_iload3 52 rfl dX0_caller_51 ?_
        refine wp_aload0 53 rfl dX0_caller_52 ?_
        refine wp_getr 56 rfl dX0_caller_53 fX0_62_1 (o1 hK) (p1_7 hK) ?_
        refine wp_aload0 57 rfl dX0_caller_56 ?_
        refine wp_getr 60 rfl dX0_caller_57 fX0_51_1 (o1 hK) (hP) ?_
        refine wp_iload4 62 rfl dX0_caller_60 ?_
        refine wp_Ve2 65 rfl dX0_caller_62 kX5_known lX0_204 (o6 (k_town hK)) (nl rfl) (nl rfl) (s_known' ht hR hw hT hk (by omega)) ?_
        refine wp_iload1 66 rfl dX0_caller_65 ?_
        refine wp_icmp_ne 69 76 rfl rfl dX0_caller_66 (fun c66 => ?_) (fun c66 => ?_)
        · rw [if_neg c66] at ih
          refine wp_iconst (nI 0) 77 rfl dX0_caller_76 (by decide) ?_
          refine wp_ior 78 rfl dX0_caller_77 ?_
          rw [i_or0]
          refine wp_istore3 79 rfl dX0_caller_78 (by decide) rfl ?_
          refine wp_iincN4 82 rfl dX0_caller_79 (by decide) rfl ?_
          refine wp_goto 42 rfl dX0_caller_82 ?_
          exact ih
        · rw [if_pos c66] at ih
          refine wp_iconst (nI 1) 70 rfl dX0_caller_69 (by decide) ?_
          refine wp_iload4 72 rfl dX0_caller_70 ?_
          refine wp_ishl 73 rfl dX0_caller_72 ?_
          refine wp_goto 77 rfl dX0_caller_73 ?_
          refine wp_ior 78 rfl dX0_caller_77 ?_
          refine wp_istore3 79 rfl dX0_caller_78 (by decide) rfl ?_
          refine wp_iincN4 82 rfl dX0_caller_79 (by decide) rfl ?_
          refine wp_goto 42 rfl dX0_caller_82 ?_
          exact ih
  · rw [z_ix_no (by omega) hX]
    refine wp_if_ne 8 10 rfl rfl dX0_caller_5 (fun c5 => absurd (z_b_eq.mpr hX) c5) (fun c5 => ?_)
    refine wp_iconst (-1) 9 rfl dX0_caller_8 (by decide) ?_
    refine wp_iret dX0_caller_9 rfl ?_
    exact sm_ci cq.rf rfl
theorem c_round (hA : cA I ρ tp q T w) (x what : Int32) : sm_M G xX0_round (d + 408) [.ref 64, .int x, .int what] I ρ (cPost I ρ (o_round T w x what)) := by
  obtain ⟨hK, hP, hT, hk, ⟨hw, hz⟩, hR⟩ := hA
  show sm_V G xX0_round (d + 408) 0 [.ref 64, .int x, .int what, .retAddr 0] [] I ρ _
  obtain ⟨h6, h5, h10⟩ := hk.1
  have ht := k_town hK
  have ht2 := k_trial hK
  unfold o_round
  refine wp_aload0 1 rfl dX0_round_0 ?_
  refine wp_iload1 2 rfl dX0_round_1 ?_
  refine wp_Ve1 5 rfl dX0_round_2 kX0_isRound lX0_221 (o1 hK) (nl rfl) (nl rfl) (s_cisRound hK hP hT hk x) ?_
  by_cases hX : ∃ j, j < tx_R T ∧ x = nI j
  · obtain ⟨r, hr, e⟩ := hX
    subst e
    rw [z_ix_n hr (by omega)]
    refine wp_if_ne 8 10 rfl rfl dX0_round_5 (fun c5 => ?_) (fun c5 => absurd c5 (z_b_ne.mpr ⟨r, hr, rfl⟩))
    refine wp_aload0 11 rfl dX0_round_10 ?_
    refine wp_getr 14 rfl dX0_round_11 fX0_51_1 (o1 hK) (hP) ?_
    refine wp_getr 17 rfl dX0_round_14 fX0_167_5 (o5 hT) (p5_2 hT) ?_
    refine wp_iload1 18 rfl dX0_round_17 ?_
    refine wp_Ve1 21 rfl dX0_round_18 kJ5_get lX0_173 (o18 (cT_r hT)) (nl rfl) (nl rfl) (s_get (cT_r hT) (hr)) ?_
    refine wp_cast 24 rfl dX0_round_21 caX0_224_17 (o17 (cT_rr hT (hr))) ?_
    refine wp_astore3 25 rfl dX0_round_24 (by decide) rfl ?_
    refine wp_iload2 26 rfl dX0_round_25 ?_
    have hQ := cT_rr hT hr
    by_cases hp : ∃ k, k < 6 ∧ what = nI k
    · obtain ⟨kk, hk6, e⟩ := hp
      subst e
      rw [z_ix_n hk6 (by decide)]
      have k6 : kk = 0 ∨ kk = 1 ∨ kk = 2 ∨ kk = 3 ∨ kk = 4 ∨ kk = 5 := by omega
      rcases k6 with e | e | e | e | e | e
      · subst e
        refine wp_tableIn (off := 38) 64 dX0_round_26 (by decide) (by decide) (by decide) rfl ?_
        refine wp_aload3 65 rfl dX0_round_64 ?_
        refine wp_geti 68 rfl dX0_round_65 fX0_226_17 (o17 hQ) ?_
        refine wp_iret dX0_round_68 rfl ?_
        exact sm_ci cq.rf hQ.2.1
      · subst e
        refine wp_tableIn (off := 43) 69 dX0_round_26 (by decide) (by decide) (by decide) rfl ?_
        refine wp_aload3 70 rfl dX0_round_69 ?_
        refine wp_geti 73 rfl dX0_round_70 fX0_229_17 (o17 hQ) ?_
        refine wp_iret dX0_round_73 rfl ?_
        exact sm_ci cq.rf hQ.2.2.1
      · subst e
        refine wp_tableIn (off := 48) 74 dX0_round_26 (by decide) (by decide) (by decide) rfl ?_
        refine wp_aload3 75 rfl dX0_round_74 ?_
        refine wp_geti 78 rfl dX0_round_75 fX0_232_17 (o17 hQ) ?_
        refine wp_iret dX0_round_78 rfl ?_
        exact sm_ci cq.rf hQ.2.2.2.1
      · subst e
        refine wp_tableIn (off := 53) 79 dX0_round_26 (by decide) (by decide) (by decide) rfl ?_
        refine wp_aload3 80 rfl dX0_round_79 ?_
        refine wp_geti 83 rfl dX0_round_80 fX0_235_17 (o17 hQ) ?_
        refine wp_iret dX0_round_83 rfl ?_
        exact sm_ci cq.rf hQ.2.2.2.2
      · subst e
        refine wp_tableIn (off := 58) 84 dX0_round_26 (by decide) (by decide) (by decide) rfl ?_
        refine wp_aload0 85 rfl dX0_round_84 ?_
        refine wp_getr 88 rfl dX0_round_85 fX0_62_1 (o1 hK) (p1_7 hK) ?_
        refine wp_iload1 89 rfl dX0_round_88 ?_
        refine wp_Ve1 92 rfl dX0_round_89 kX5_isKept lX0_238 (o6 (k_town hK)) (nl rfl) (nl rfl) (s_isKept ht hR (by omega)) ?_
        refine wp_if_eq 95 99 rfl rfl dX0_round_92 (fun c92 => ?_) (fun c92 => ?_)
        · refine wp_iconst (nI 0) 100 rfl dX0_round_99 (by decide) ?_
          refine wp_iret dX0_round_100 rfl ?_
          refine sm_ci cq.rf ?_
          rcases hw.2.2.1 r (by omega) with e | e
          · exact e.symm
          · exact absurd e (z_b_eq.mp c92)
        · refine wp_iconst (nI 1) 96 rfl dX0_round_95 (by decide) ?_
          refine wp_goto 100 rfl dX0_round_96 ?_
          refine wp_iret dX0_round_100 rfl ?_
          exact sm_ci cq.rf (z_b_ne.mp c92).symm
      · subst e
        refine wp_tableIn (off := 75) 101 dX0_round_26 (by decide) (by decide) (by decide) rfl ?_
        refine wp_aload3 102 rfl dX0_round_101 ?_
        refine wp_aload0 103 rfl dX0_round_102 ?_
        refine wp_getr 106 rfl dX0_round_103 fX0_62_1 (o1 hK) (p1_7 hK) ?_
        refine wp_geti 109 rfl dX0_round_106 fX0_241_6 (o6 (k_town hK)) ?_
        rw [hR.2.2.2.2.2.1]
        refine wp_Ve1 112 rfl dX0_round_109 kX19_isDue lX0_244 (o17 hQ) (nl rfl) (nl rfl) (s_cisDue hT hk hr _) ?_
        refine wp_if_eq 115 119 rfl rfl dX0_round_112 (fun c112 => ?_) (fun c112 => ?_)
        · refine wp_iconst (nI 0) 120 rfl dX0_round_119 (by decide) ?_
          refine wp_iret dX0_round_120 rfl ?_
          exact sm_ci cq.rf (z_bf (z_b_eq.mp c112)).symm
        · refine wp_iconst (nI 1) 116 rfl dX0_round_115 (by decide) ?_
          refine wp_goto 120 rfl dX0_round_116 ?_
          refine wp_iret dX0_round_120 rfl ?_
          exact sm_ci cq.rf (z_bt (z_b_ne.mp c112)).symm
    · rw [z_ix_no (by decide) hp]
      have ho := z_nix (by decide) hp
      refine wp_tableOut 121 dX0_round_26 (by omega) rfl ?_
      refine wp_iconst (-1) 122 rfl dX0_round_121 (by decide) ?_
      refine wp_iret dX0_round_122 rfl ?_
      exact sm_ci cq.rf rfl
  · rw [z_ix_no (by omega) hX]
    refine wp_if_ne 8 10 rfl rfl dX0_round_5 (fun c5 => absurd (z_b_eq.mpr hX) c5) (fun c5 => ?_)
    refine wp_iconst (-1) 9 rfl dX0_round_8 (by decide) ?_
    refine wp_iret dX0_round_9 rfl ?_
    exact sm_ci cq.rf rfl
theorem c_same (hA : cA I ρ tp q T w) (x y : Int32) : sm_M G xX0_same (d + 408) [.ref 64, .int x, .int y] I ρ (cPost I ρ (o_same T w x y)) := by
  obtain ⟨hK, hP, hT, hk, ⟨hw, hz⟩, hR⟩ := hA
  show sm_V G xX0_same (d + 408) 0 [.ref 64, .int x, .int y, .retAddr 0, .retAddr 0] [] I ρ _
  obtain ⟨h6, h5, h10⟩ := hk.1
  have ht := k_town hK
  have ht2 := k_trial hK
  unfold o_same
  refine wp_aload0 1 rfl dX0_same_0 ?_
  refine wp_iload1 2 rfl dX0_same_1 ?_
  refine wp_Ve1 5 rfl dX0_same_2 kX0_isDoor lX0_185 (o1 hK) (nl rfl) (nl rfl) (s_cisDoor hK hP hT hk x) ?_
  by_cases hX : ∃ j, j < tx_D T ∧ x = nI j
  · obtain ⟨j, hj, e⟩ := hX
    subst e
    rw [z_ix_n hj (by omega)]
    refine wp_if_eq 8 16 rfl rfl dX0_same_5 (fun c5 => absurd c5 (z_b_ne.mpr ⟨j, hj, rfl⟩)) (fun c5 => ?_)
    refine wp_aload0 9 rfl dX0_same_8 ?_
    refine wp_iload2 10 rfl dX0_same_9 ?_
    refine wp_Ve1 13 rfl dX0_same_10 kX0_isCaller lX0_212 (o1 hK) (nl rfl) (nl rfl) (s_cisCaller hK hP hT hk y) ?_
    by_cases hX : ∃ j, j < tx_C T ∧ y = nI j
    · obtain ⟨c, hc, e⟩ := hX
      subst e
      rw [z_ix_n hc (by omega)]
      refine wp_if_ne 16 18 rfl rfl dX0_same_13 (fun c13 => ?_) (fun c13 => absurd c13 (z_b_ne.mpr ⟨c, hc, rfl⟩))
      refine wp_iconst (nI 0) 19 rfl dX0_same_18 (by decide) ?_
      refine wp_istore3 20 rfl dX0_same_19 (by decide) rfl ?_
      refine wp_iconst (nI 0) 21 rfl dX0_same_20 (by decide) ?_
      refine wp_istore4 23 rfl dX0_same_21 (by decide) rfl ?_
      refine sm_for (P := fun p => sm_V G xX0_same (d + 408) 23 [.ref 64, .int (nI j), .int (nI c), .int (z_set (fun i => w (4 * j + i) = tx_cf T (4 * c + i)) p), .int (nI p)] [] I ρ _) 0 4 (nl rfl) ?_ (fun p _ hp ih => ?_)
      · refine wp_iload4 25 rfl dX0_same_23 ?_
        refine wp_iconst (nI 4) 26 rfl dX0_same_25 (by decide) ?_
        refine wp_icmp_ge 29 81 rfl rfl dX0_same_26 (fun c26 => ?_) (fun c26 => absurd (nI_le (Nat.le_refl 4) (by decide)) c26)
        refine wp_iload3 82 rfl dX0_same_81 ?_
        refine wp_iret dX0_same_82 rfl ?_
        exact sm_ci cq.rf rfl
      · have e0 : z_set (fun i => w (4 * j + i) = tx_cf T (4 * c + i)) (p + 1) = if w (4 * j + p) = tx_cf T (4 * c + p) then z_set (fun i => w (4 * j + i) = tx_cf T (4 * c + i)) p ||| nI 1 <<< (nI p &&& 31) else z_set (fun i => w (4 * j + i) = tx_cf T (4 * c + i)) p := rfl
        rw [e0] at ih
        have eF := (cT_cf hT hc).2.2.2 p hp
        refine wp_iload4 25 rfl dX0_same_23 ?_
        refine wp_iconst (nI 4) 26 rfl dX0_same_25 (by decide) ?_
        refine wp_icmp_ge 29 81 rfl rfl dX0_same_26 (fun c26 => absurd c26 (nI_ge hp (by decide))) (fun c26 => ?_)
        refine wp_iload3 30 rfl dX0_same_29 ?_
        refine wp_aload0 31 rfl dX0_same_30 ?_
        refine wp_getr 34 rfl dX0_same_31 fX0_62_1 (o1 hK) (p1_7 hK) ?_
        refine wp_getr 37 rfl dX0_same_34 fX0_170_6 (o6 (k_town hK)) (p6_0 (k_town hK)) ?_
        refine wp_iload1 38 rfl dX0_same_37 ?_
        refine wp_aald (t := 10) 39 rfl dX0_same_38 (by decide) rfl rfl (s6_0 (k_town hK)) (j) (by first | rfl | simp only [pk_mul, nI_add]) (⟨by omega, by decide⟩) (e6_0 (k_town hK) (by omega)) ?_
        refine wp_iload4 41 rfl dX0_same_39 ?_
        refine wp_iald 42 rfl dX0_same_41 (i6_0 (k_town hK) (by omega)) (p) (by first | rfl | simp only [pk_mul, nI_add]) (⟨by omega, by decide⟩) ?_
        refine wp_aload0 43 rfl dX0_same_42 ?_
        refine wp_getr 46 rfl dX0_same_43 fX0_51_1 (o1 hK) (hP) ?_
        refine wp_getr 49 rfl dX0_same_46 fX0_156_5 (o5 hT) (p5_1 hT) ?_
        refine wp_iload2 50 rfl dX0_same_49 ?_
        refine wp_Ve1 53 rfl dX0_same_50 kJ5_get lX0_173 (o18 (cT_c hT)) (nl rfl) (nl rfl) (s_get (cT_c hT) (hc)) ?_
        refine wp_cast 56 rfl dX0_same_53 caX0_215_16 (o16 (cT_cf hT (hc))) ?_
        refine wp_getr 59 rfl dX0_same_56 fX0_217_16 (o16 (cT_cf hT (hc))) (p16_1 (cT_cf hT (hc))) ?_
        refine wp_iload4 61 rfl dX0_same_59 ?_
        refine wp_iald 62 rfl dX0_same_61 (s16_1 (cT_cf hT (hc))) (p) (by first | rfl | simp only [pk_mul, nI_add]) (⟨by omega, by decide⟩) ?_
        rw [hR.1 j p (by omega) hp, eF]
        refine wp_icmp_ne 65 72 rfl rfl dX0_same_62 (fun c62 => ?_) (fun c62 => ?_)
        · rw [if_neg c62] at ih
          refine wp_iconst (nI 0) 73 rfl dX0_same_72 (by decide) ?_
          refine wp_ior 74 rfl dX0_same_73 ?_
          rw [i_or0]
          refine wp_istore3 75 rfl dX0_same_74 (by decide) rfl ?_
          refine wp_iincN4 78 rfl dX0_same_75 (by decide) rfl ?_
          refine wp_goto 23 rfl dX0_same_78 ?_
          exact ih
        · rw [if_pos c62] at ih
          refine wp_iconst (nI 1) 66 rfl dX0_same_65 (by decide) ?_
          refine wp_iload4 68 rfl dX0_same_66 ?_
          refine wp_ishl 69 rfl dX0_same_68 ?_
          refine wp_goto 73 rfl dX0_same_69 ?_
          refine wp_ior 74 rfl dX0_same_73 ?_
          refine wp_istore3 75 rfl dX0_same_74 (by decide) rfl ?_
          refine wp_iincN4 78 rfl dX0_same_75 (by decide) rfl ?_
          refine wp_goto 23 rfl dX0_same_78 ?_
          exact ih
    · rw [z_ix_no (by omega) hX]
      refine wp_if_ne 16 18 rfl rfl dX0_same_13 (fun c13 => absurd (z_b_eq.mpr hX) c13) (fun c13 => ?_)
      refine wp_iconst (-1) 17 rfl dX0_same_16 (by decide) ?_
      refine wp_iret dX0_same_17 rfl ?_
      exact sm_ci cq.rf rfl
  · rw [z_ix_no (by omega) hX]
    refine wp_if_eq 8 16 rfl rfl dX0_same_5 (fun c5 => ?_) (fun c5 => absurd (z_b_eq.mpr hX) c5)
    refine wp_iconst (-1) 17 rfl dX0_same_16 (by decide) ?_
    refine wp_iret dX0_same_17 rfl ?_
    exact sm_ci cq.rf rfl
theorem c_nearest (hA : cA I ρ tp q T w) (x y : Int32) : sm_M G xX0_nearest (d + 408) [.ref 64, .int x, .int y] I ρ (cPost I ρ (o_nearest T w x y)) := by
  obtain ⟨hK, hP, hT, hk, ⟨hw, hz⟩, hR⟩ := hA
  show sm_V G xX0_nearest (d + 408) 0 [.ref 64, .int x, .int y, .retAddr 0, .retAddr 0, .retAddr 0, .retAddr 0] [] I ρ _
  obtain ⟨h6, h5, h10⟩ := hk.1
  have ht := k_town hK
  have ht2 := k_trial hK
  unfold o_nearest
  refine wp_aload0 1 rfl dX0_nearest_0 ?_
  refine wp_iload1 2 rfl dX0_nearest_1 ?_
  refine wp_Ve1 5 rfl dX0_nearest_2 kX0_isDoor lX0_185 (o1 hK) (nl rfl) (nl rfl) (s_cisDoor hK hP hT hk x) ?_
  by_cases hX : ∃ j, j < tx_D T ∧ x = nI j
  · obtain ⟨j, hj, e⟩ := hX
    subst e
    rw [z_ix_n hj (by omega)]
    refine wp_if_eq 8 15 rfl rfl dX0_nearest_5 (fun c5 => absurd c5 (z_b_ne.mpr ⟨j, hj, rfl⟩)) (fun c5 => ?_)
    refine wp_iload2 9 rfl dX0_nearest_8 ?_
    refine wp_Se1 12 rfl dX0_nearest_9 kX0_isPart lX0_189 (nl rfl) (nl rfl) (s_cisPart y) ?_
    by_cases hX : ∃ j, j < 4 ∧ y = nI j
    · obtain ⟨p, hp, e⟩ := hX
      subst e
      rw [z_ix_n hp (by decide)]
      show sm_V G xX0_nearest (d + 408) 12 _ _ I ρ (cPost I ρ (z_on (z_arg (fun c => z_off (w (4 * j + p)) (tx_cf T (4 * c + p))) (tx_C T))))
      refine wp_if_ne 15 17 rfl rfl dX0_nearest_12 (fun c12 => ?_) (fun c12 => absurd c12 (z_b_ne.mpr (z_p4 hp)))
      refine wp_bipush (-2) 19 rfl dX0_nearest_17 (by decide) ?_
      refine wp_istore3 20 rfl dX0_nearest_19 (by decide) rfl ?_
      refine wp_ldcw 23 rfl dX0_nearest_20 q1359 ?_
      refine wp_istore4 25 rfl dX0_nearest_23 (by decide) rfl ?_
      refine wp_iconst (nI 0) 26 rfl dX0_nearest_25 (by decide) ?_
      refine wp_istore5 28 rfl dX0_nearest_26 (by decide) rfl ?_
      refine sm_for (P := fun c => sm_V G xX0_nearest (d + 408) 28 [.ref 64, .int (nI j), .int (nI p), .int (z_on (z_arg (fun c => z_off (w (4 * j + p)) (tx_cf T (4 * c + p))) c)), .int (z_fw (fun c => z_off (w (4 * j + p)) (tx_cf T (4 * c + p))) (z_arg (fun c => z_off (w (4 * j + p)) (tx_cf T (4 * c + p))) c)), .int (nI c), .retAddr 0] [] I ρ _) 0 (tx_C T) (Nat.zero_le _) ?_ (fun c _ hc ih => ?_)
      · refine wp_iload5 30 rfl dX0_nearest_28 ?_
        refine wp_aload0 31 rfl dX0_nearest_30 ?_
        refine wp_Ve0 34 rfl dX0_nearest_31 kX0_callers lX0_165 (o1 hK) (nl rfl) (nl rfl) (s_callers hK hP hT) ?_
        refine wp_icmp_ge 37 97 rfl rfl dX0_nearest_34 (fun c34 => ?_) (fun c34 => absurd (nI_le (Nat.le_refl _) (by omega)) c34)
        refine wp_iload3 98 rfl dX0_nearest_97 ?_
        refine wp_iret dX0_nearest_98 rfl ?_
        exact sm_ci cq.rf rfl
      · have eF := (cT_cf hT hc).2.2.2 p hp
        obtain ⟨f, f1, f2⟩ := hw.1 (4 * j + p) (by omega)
        obtain ⟨g, g1, g2⟩ := hk.2.1 (4 * c + p) (by omega)
        have ea : z_abs (w (4 * j + p) - tx_cf T (4 * c + p)) = z_off (w (4 * j + p)) (tx_cf T (4 * c + p)) := by
          rw [f2, g2]
          exact z_abs_off (by omega) (by omega)
        have e0 := z_arg_s (f := fun c => z_off (w (4 * j + p)) (tx_cf T (4 * c + p))) (n := c) (by
          show z_off (w (4 * j + p)) (tx_cf T (4 * c + p)) < 1000000
          rw [f2, g2, z_off_n (by omega) (by omega)]
          exact nI_lt (b := 1000000) (by split <;> omega) (by decide))
        rw [e0] at ih
        refine wp_iload5 30 rfl dX0_nearest_28 ?_
        refine wp_aload0 31 rfl dX0_nearest_30 ?_
        refine wp_Ve0 34 rfl dX0_nearest_31 kX0_callers lX0_165 (o1 hK) (nl rfl) (nl rfl) (s_callers hK hP hT) ?_
        refine wp_icmp_ge 37 97 rfl rfl dX0_nearest_34 (fun c34 => absurd c34 (nI_ge hc (by omega))) (fun c34 => ?_)
        refine wp_aload0 38 rfl dX0_nearest_37 ?_
        refine wp_getr 41 rfl dX0_nearest_38 fX0_62_1 (o1 hK) (p1_7 hK) ?_
        refine wp_getr 44 rfl dX0_nearest_41 fX0_170_6 (o6 (k_town hK)) (p6_0 (k_town hK)) ?_
        refine wp_iload1 45 rfl dX0_nearest_44 ?_
        refine wp_aald (t := 10) 46 rfl dX0_nearest_45 (by decide) rfl rfl (s6_0 (k_town hK)) (j) (by first | rfl | simp only [pk_mul, nI_add]) (⟨by omega, by decide⟩) (e6_0 (k_town hK) (by omega)) ?_
        refine wp_iload2 47 rfl dX0_nearest_46 ?_
        refine wp_iald 48 rfl dX0_nearest_47 (i6_0 (k_town hK) (by omega)) (p) (by first | rfl | simp only [pk_mul, nI_add]) (⟨by omega, by decide⟩) ?_
        refine wp_aload0 49 rfl dX0_nearest_48 ?_
        refine wp_getr 52 rfl dX0_nearest_49 fX0_51_1 (o1 hK) (hP) ?_
        refine wp_getr 55 rfl dX0_nearest_52 fX0_156_5 (o5 hT) (p5_1 hT) ?_
        refine wp_iload5 57 rfl dX0_nearest_55 ?_
        refine wp_Ve1 60 rfl dX0_nearest_57 kJ5_get lX0_173 (o18 (cT_c hT)) (nl rfl) (nl rfl) (s_get (cT_c hT) (hc)) ?_
        refine wp_cast 63 rfl dX0_nearest_60 caX0_215_16 (o16 (cT_cf hT (hc))) ?_
        refine wp_getr 66 rfl dX0_nearest_63 fX0_217_16 (o16 (cT_cf hT (hc))) (p16_1 (cT_cf hT (hc))) ?_
        refine wp_iload2 67 rfl dX0_nearest_66 ?_
        refine wp_iald 68 rfl dX0_nearest_67 (s16_1 (cT_cf hT (hc))) (p) (by first | rfl | simp only [pk_mul, nI_add]) (⟨by omega, by decide⟩) ?_
        rw [hR.1 j p (by omega) hp, eF]
        refine wp_isub 69 rfl dX0_nearest_68 ?_
        refine wp_mabs 72 rfl dX0_nearest_69 q1162 (nl rfl) ?_
        show sm_V G xX0_nearest (d + 408) 72 _ (.int (z_abs (w (4 * j + p) - tx_cf T (4 * c + p))) :: _) I ρ _
        rw [ea]
        refine wp_istore6 74 rfl dX0_nearest_72 (by decide) rfl ?_
        refine wp_iload6 76 rfl dX0_nearest_74 ?_
        refine wp_iload4 78 rfl dX0_nearest_76 ?_
        refine wp_icmp_lt 81 84 rfl rfl dX0_nearest_78 (fun c78 => ?_) (fun c78 => ?_)
        · rw [if_pos c78] at ih
          refine wp_iload5 86 rfl dX0_nearest_84 ?_
          refine wp_istore3 87 rfl dX0_nearest_86 (by decide) rfl ?_
          refine wp_iload6 89 rfl dX0_nearest_87 ?_
          refine wp_istore4 91 rfl dX0_nearest_89 (by decide) rfl ?_
          refine wp_iincN5 94 rfl dX0_nearest_91 (by decide) rfl ?_
          refine wp_goto 28 rfl dX0_nearest_94 ?_
          exact wp_weakK ih ⟨Or.inr rfl, Or.inr rfl, Or.inr rfl, Or.inr rfl, Or.inr rfl, Or.inr rfl, Or.inl rfl, trivial⟩
        · rw [if_neg c78] at ih
          refine wp_goto 91 rfl dX0_nearest_81 ?_
          refine wp_iincN5 94 rfl dX0_nearest_91 (by decide) rfl ?_
          refine wp_goto 28 rfl dX0_nearest_94 ?_
          exact wp_weakK ih ⟨Or.inr rfl, Or.inr rfl, Or.inr rfl, Or.inr rfl, Or.inr rfl, Or.inr rfl, Or.inl rfl, trivial⟩
    · rw [z_ix_no (by decide) hX]
      refine wp_if_ne 15 17 rfl rfl dX0_nearest_12 (fun c12 => absurd (z_b_eq.mpr (z_p4n hX)) c12) (fun c12 => ?_)
      refine wp_iconst (-1) 16 rfl dX0_nearest_15 (by decide) ?_
      refine wp_iret dX0_nearest_16 rfl ?_
      exact sm_ci cq.rf rfl
  · rw [z_ix_no (by omega) hX]
    refine wp_if_eq 8 15 rfl rfl dX0_nearest_5 (fun c5 => ?_) (fun c5 => absurd (z_b_eq.mpr hX) c5)
    refine wp_iconst (-1) 16 rfl dX0_nearest_15 (by decide) ?_
    refine wp_iret dX0_nearest_16 rfl ?_
    exact sm_ci cq.rf rfl
theorem c_flat (hA : cA I ρ tp q T w) (x : Int32) : sm_M G xX0_flat (d + 408) [.ref 64, .int x] I ρ (cPost I ρ (o_flat T w x)) := by
  obtain ⟨hK, hP, hT, hk, ⟨hw, hz⟩, hR⟩ := hA
  show sm_V G xX0_flat (d + 408) 0 [.ref 64, .int x, .retAddr 0, .retAddr 0, .retAddr 0] [] I ρ _
  obtain ⟨h6, h5, h10⟩ := hk.1
  have ht := k_town hK
  have ht2 := k_trial hK
  unfold o_flat
  refine wp_iload1 1 rfl dX0_flat_0 ?_
  refine wp_iconst (nI 0) 2 rfl dX0_flat_1 (by decide) ?_
  refine wp_iconst (nI 1) 3 rfl dX0_flat_2 (by decide) ?_
  refine wp_Se3 6 rfl dX0_flat_3 kX0_isIn lX0_161 (nl rfl) (nl rfl) (s_isIn _ _ _) ?_
  by_cases hX : ∃ j, j < 2 ∧ x = nI j
  · obtain ⟨kk, hkk, e⟩ := hX
    subst e
    rw [z_ix_n hkk (by decide)]
    refine wp_if_ne 9 11 rfl rfl dX0_flat_6 (fun c6 => ?_) (fun c6 => absurd c6 (z_b_ne.mpr ((z_in_lo (n := 2) (m := 1) rfl (by decide)).mpr ⟨kk, hkk, rfl⟩)))
    refine wp_bipush (-2) 13 rfl dX0_flat_11 (by decide) ?_
    refine wp_istore2 14 rfl dX0_flat_13 (by decide) rfl ?_
    refine wp_ldcw 17 rfl dX0_flat_14 q1359 ?_
    refine wp_istore3 18 rfl dX0_flat_17 (by decide) rfl ?_
    refine wp_iconst (nI 0) 19 rfl dX0_flat_18 (by decide) ?_
    refine wp_istore4 21 rfl dX0_flat_19 (by decide) rfl ?_
    refine sm_for (P := fun c => sm_V G xX0_flat (d + 408) 21 [.ref 64, .int (nI kk), .int (z_on (z_arg (fun i => r_unf T w i) c)), .int (z_fw (fun i => r_unf T w i) (z_arg (fun i => r_unf T w i) c)), .int (nI c)] [] I ρ _) 0 (tx_D T) (Nat.zero_le _) ?_ (fun c _ hc ih => ?_)
    · refine wp_iload4 23 rfl dX0_flat_21 ?_
      refine wp_aload0 24 rfl dX0_flat_23 ?_
      refine wp_Ve0 27 rfl dX0_flat_24 kX0_doors lX0_159 (o1 hK) (nl rfl) (nl rfl) (s_doors hK hP hT) ?_
      refine wp_icmp_ge 30 67 rfl rfl dX0_flat_27 (fun c27 => ?_) (fun c27 => absurd (nI_le (Nat.le_refl _) (by omega)) c27)
      have hl : ∀ b, z_arg (fun i => r_unf T w i) (tx_D T) = some b → b < tx_D T := fun b hb => z_arg_lt hb
      cases hs : z_arg (fun i => r_unf T w i) (tx_D T) with
      | none =>
        refine wp_iload2 68 rfl dX0_flat_67 ?_
        refine wp_if_lt 71 75 rfl rfl dX0_flat_68 (fun c68 => ?_) (fun c68 => absurd ((by decide : (-2 : Int32) < 0)) c68)
        refine wp_iload2 76 rfl dX0_flat_75 ?_
        refine wp_goto 80 rfl dX0_flat_76 ?_
        refine wp_iret dX0_flat_80 rfl ?_
        exact sm_ci cq.rf rfl
      | some b =>
        have hb := hl b hs
        by_cases e : kk = 0
        · subst e
          refine wp_iload2 68 rfl dX0_flat_67 ?_
          refine wp_if_lt 71 75 rfl rfl dX0_flat_68 (fun c68 => absurd c68 (nI_pos (n := b) (by omega))) (fun c68 => ?_)
          refine wp_iload1 72 rfl dX0_flat_71 ?_
          refine wp_if_ne 75 79 rfl rfl dX0_flat_72 (fun c72 => absurd (rfl) c72) (fun c72 => ?_)
          refine wp_iload2 76 rfl dX0_flat_75 ?_
          refine wp_goto 80 rfl dX0_flat_76 ?_
          refine wp_iret dX0_flat_80 rfl ?_
          exact sm_ci cq.rf rfl
        · refine wp_iload2 68 rfl dX0_flat_67 ?_
          refine wp_if_lt 71 75 rfl rfl dX0_flat_68 (fun c68 => absurd c68 (nI_pos (n := b) (by omega))) (fun c68 => ?_)
          refine wp_iload1 72 rfl dX0_flat_71 ?_
          refine wp_if_ne 75 79 rfl rfl dX0_flat_72 (fun c72 => ?_) (fun c72 => absurd c72 (fun z => e ((nI_eq (b := 0) (by omega) (by decide)).mp z)))
          refine wp_iload3 80 rfl dX0_flat_79 ?_
          refine wp_iret dX0_flat_80 rfl ?_
          exact sm_ci cq.rf (if_neg e).symm
    · have e0 := z_arg_s (f := fun i => r_unf T w i) (n := c) (r_unf_far hw hk hc)
      rw [e0] at ih
      refine wp_iload4 23 rfl dX0_flat_21 ?_
      refine wp_aload0 24 rfl dX0_flat_23 ?_
      refine wp_Ve0 27 rfl dX0_flat_24 kX0_doors lX0_159 (o1 hK) (nl rfl) (nl rfl) (s_doors hK hP hT) ?_
      refine wp_icmp_ge 30 67 rfl rfl dX0_flat_27 (fun c27 => absurd c27 (nI_ge hc (by omega))) (fun c27 => ?_)
      refine wp_aload0 31 rfl dX0_flat_30 ?_
      refine wp_aload0 32 rfl dX0_flat_31 ?_
      refine wp_getr 35 rfl dX0_flat_32 fX0_62_1 (o1 hK) (p1_7 hK) ?_
      refine wp_iload4 37 rfl dX0_flat_35 ?_
      refine wp_Ve2 40 rfl dX0_flat_37 kX0_worn lX0_208 (o1 hK) (nl rfl) (nl rfl) (s_worn hK hP hT hk ht hR hw hc) ?_
      refine wp_iload3 41 rfl dX0_flat_40 ?_
      refine wp_icmp_lt 44 47 rfl rfl dX0_flat_41 (fun c41 => ?_) (fun c41 => ?_)
      · rw [if_pos c41] at ih
        refine wp_iload4 49 rfl dX0_flat_47 ?_
        refine wp_istore2 50 rfl dX0_flat_49 (by decide) rfl ?_
        refine wp_aload0 51 rfl dX0_flat_50 ?_
        refine wp_aload0 52 rfl dX0_flat_51 ?_
        refine wp_getr 55 rfl dX0_flat_52 fX0_62_1 (o1 hK) (p1_7 hK) ?_
        refine wp_iload4 57 rfl dX0_flat_55 ?_
        refine wp_Ve2 60 rfl dX0_flat_57 kX0_worn lX0_208 (o1 hK) (nl rfl) (nl rfl) (s_worn hK hP hT hk ht hR hw hc) ?_
        refine wp_istore3 61 rfl dX0_flat_60 (by decide) rfl ?_
        refine wp_iincN4 64 rfl dX0_flat_61 (by decide) rfl ?_
        refine wp_goto 21 rfl dX0_flat_64 ?_
        exact ih
      · rw [if_neg c41] at ih
        refine wp_goto 61 rfl dX0_flat_44 ?_
        refine wp_iincN4 64 rfl dX0_flat_61 (by decide) rfl ?_
        refine wp_goto 21 rfl dX0_flat_64 ?_
        exact ih
  · rw [z_ix_no (by decide) hX]
    refine wp_if_ne 9 11 rfl rfl dX0_flat_6 (fun c6 => absurd (z_b_eq.mpr (fun z => hX ((z_in_lo (n := 2) (m := 1) rfl (by decide)).mp z))) c6) (fun c6 => ?_)
    refine wp_iconst (-1) 10 rfl dX0_flat_9 (by decide) ?_
    refine wp_iret dX0_flat_10 rfl ?_
    exact sm_ci cq.rf rfl
end D4
