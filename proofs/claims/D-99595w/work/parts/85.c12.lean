/-! ===== towns: begins; the whole state ===== -/
set_option maxRecDepth 100000
theorem wok_beg {T : tx} (hk : tok T) : wok (r_beg T) ∧ wkT T (r_beg T) := by
  obtain ⟨⟨h6, h5, h10⟩, -, hff, -⟩ := hk
  refine ⟨⟨fun j hj => ?_, fun d hd => ⟨⟨0, by decide, ?_⟩, ⟨0, by decide, ?_⟩, Or.inl ?_⟩, fun r hr => ?_, fun j hj => ?_⟩, fun d h1 h2 => ?_, fun r h1 h2 => ?_⟩
  · unfold r_beg
    by_cases h : j < 4 * tx_D T
    · rw [if_pos h]
      exact hff j h
    · rw [if_neg h, if_neg (by omega)]
      exact ⟨0, by decide, rfl⟩
  · unfold r_beg
    rw [if_neg (by omega), if_neg (by omega)]
  · unfold r_beg
    rw [if_neg (by omega), if_neg (by omega)]
  · unfold r_beg
    rw [if_neg (by omega), if_neg (by omega)]
  · unfold r_beg
    rw [if_neg (by omega)]
    by_cases h : 54 ≤ 54 + r ∧ 54 + r < 54 + tx_R T
    · rw [if_pos h]
      exact Or.inr rfl
    · rw [if_neg h]
      exact Or.inl rfl
  · unfold r_beg
    rw [if_neg (by omega), if_neg (by omega)]
  · unfold r_beg
    rw [if_neg (by omega), if_neg (by omega)]
  · unfold r_beg
    rw [if_neg (by omega), if_neg (by omega)]
section C12
variable {G : sm_G} {d : Nat} {I : sm_I} {ρ : sm_R} {tp : Nat} {q : tq4} {T : tx} {b : Nat}
def bgD (T : tx) (b : Nat) (J : sm_I) (n : Nat) : Prop := ∀ dd, dd < n → (∀ k, k < 4 → J (b + 2 + dd) k = r_beg T (4 * dd + k)) ∧ J (b + 8) dd = nI 0 ∧ J (b + 9) dd = nI 0 ∧ J (b + 10) dd = nI 0 ∧ J (b + 11) dd = nI 0
theorem s_cbegins (ht : td ρ b) (hb : 79 ≤ b ∧ b ≤ 882) (hT : cT I ρ tp q T) (hk : tok T) : sm_M G xX5_begins (d + 3) [.ref b, .ref tp] I ρ (sm_Qv (fun I1 ρ1 => ρ1 = ρ ∧ cf (tWs b) I I1 ∧ tR I1 b (r_beg T) (tx_seed T))) := by
  show sm_V G xX5_begins (d + 3) 0 [.ref b, .ref tp, .retAddr 0, .retAddr 0] [] I ρ _
  obtain ⟨h6, h5, h10⟩ := hk.1
  refine wp_iconst (nI 0) 1 rfl dX5_begins_0 (by decide) ?_
  refine wp_istore2 2 rfl dX5_begins_1 (by decide) rfl ?_
  refine sm_for (P := fun p => ∀ J : sm_I, cf (tWs b) I J → bgD T b J p → sm_V G xX5_begins (d + 3) 2 [.ref b, .ref tp, .int (nI p), .retAddr 0] [] J ρ _) 0 6 (nl rfl) ?_ (fun p _ hp ih => ?_) I cf.rf (fun dd h => absurd h (Nat.not_lt_zero _))
  · intro J hf hJ
    refine wp_iload2 3 rfl dX5_begins_2 ?_
    refine wp_bipush (nI 6) 5 rfl dX5_begins_3 (by decide) ?_
    refine wp_icmp_ge 8 94 rfl rfl dX5_begins_5 (fun c5 => ?_) (fun c5 => absurd (by decide) c5)
    refine wp_iconst (nI 0) 95 rfl dX5_begins_94 (by decide) ?_
    refine wp_istore2 96 rfl dX5_begins_95 (by decide) rfl ?_
    refine sm_for (P := fun p => ∀ J1 : sm_I, cf (tWs b) I J1 → bgD T b J1 6 → (∀ c, c < p → J1 (b + 12) c = nI 0) → sm_V G xX5_begins (d + 3) 96 [.ref b, .ref tp, .int (nI p), .retAddr 0] [] J1 ρ _) 0 5 (nl rfl) ?_ (fun p _ hp ih => ?_) J hf hJ (fun c h => absurd h (Nat.not_lt_zero _))
    · intro J1 hf1 hJ1 hl
      have hT1 := hT.kept (hf1.T (tW_s hb))
      refine wp_iload2 97 rfl dX5_begins_96 ?_
      refine wp_iconst (nI 5) 98 rfl dX5_begins_97 (by decide) ?_
      refine wp_icmp_ge 101 114 rfl rfl dX5_begins_98 (fun c98 => ?_) (fun c98 => absurd (by decide) c98)
      refine wp_aload0 115 rfl dX5_begins_114 ?_
      refine wp_iconst (nI 1) 116 rfl dX5_begins_115 (by decide) ?_
      refine wp_aload1 117 rfl dX5_begins_116 ?_
      refine wp_getr 120 rfl dX5_begins_117 fX5_62_5 (o5 hT1) (p5_2 hT1) ?_
      refine wp_Ve0 123 rfl dX5_begins_120 kJ5_size lX5_48 (o18 (cT_r hT1)) (nl rfl) (nl rfl) (s_size (cT_r hT1)) ?_
      refine wp_ishl 124 rfl dX5_begins_123 ?_
      refine wp_iconst (nI 1) 125 rfl dX5_begins_124 (by decide) ?_
      refine wp_isub 126 rfl dX5_begins_125 ?_
      refine wp_puti 129 rfl dX5_begins_126 pX5_65_6 (o6 ht) (⟨rfl, rfl⟩) ?_
      refine wp_aload0 130 rfl dX5_begins_129 ?_
      refine wp_iconst (nI 0) 131 rfl dX5_begins_130 (by decide) ?_
      refine wp_puti 134 rfl dX5_begins_131 pX5_69_6 (o6 ht) (⟨rfl, rfl⟩) ?_
      refine wp_aload0 135 rfl dX5_begins_134 ?_
      refine wp_iconst (nI 0) 136 rfl dX5_begins_135 (by decide) ?_
      refine wp_puti 139 rfl dX5_begins_136 pX5_72_6 (o6 ht) (⟨rfl, rfl⟩) ?_
      refine wp_aload0 140 rfl dX5_begins_139 ?_
      refine wp_aload1 141 rfl dX5_begins_140 ?_
      refine wp_geti 144 rfl dX5_begins_141 fX5_75_5 (o5 hT1) ?_
      have e6 : sm_u (sm_u (sm_u J1 b 6 (nI 1 <<< (nI (tx_R T) &&& 31) - nI 1)) b 7 (nI 0)) b 8 (nI 0) tp 6 = tx_seed T := by
        have : tp ≠ b := by
          have := hT.1.2
          unfold tA at this
          omega
        rw [sm_u_ne _ _ _ this, sm_u_ne _ _ _ this, sm_u_ne _ _ _ this]
        exact (cT_n hT1).2.2
      show sm_V G xX5_begins (d + 3) 144 _ [.int (sm_u (sm_u (sm_u J1 b 6 (nI 1 <<< (nI (tx_R T) &&& 31) - nI 1)) b 7 (nI 0)) b 8 (nI 0) tp 6), .ref b] _ ρ _
      rw [e6]
      refine wp_puti 147 rfl dX5_begins_144 pX5_78_6 (o6 ht) (⟨rfl, rfl⟩) ?_
      refine wp_vret dX5_begins_147 rfl ?_
      have un : ∀ y, 0 < y → sm_u (sm_u (sm_u (sm_u J1 b 6 (nI 1 <<< (nI (tx_R T) &&& 31) - nI 1)) b 7 (nI 0)) b 8 (nI 0)) b 9 (tx_seed T) (b + y) = J1 (b + y) := fun y hy => by
        rw [sm_u_ne _ _ _ (by omega), sm_u_ne _ _ _ (by omega), sm_u_ne _ _ _ (by omega), sm_u_ne _ _ _ (by omega)]
      have z0 : ∀ j, 24 ≤ j → (j < 54 ∨ 64 ≤ j) → r_beg T j = nI 0 := fun j h1 h2 => by
        unfold r_beg
        rw [if_neg (by omega), if_neg (by omega)]
      refine ⟨rfl, rfl, (((hf1.tr (cf.su (by omega))).tr (cf.su (by omega))).tr (cf.su (by omega))).tr (cf.su (by omega)), fun dd k hd hk4 => ?_, fun dd hd => ?_, fun c hc => ?_, ?_, ?_, ?_, ?_⟩
      · rw [show b + 2 + dd = b + (2 + dd) by omega, un _ (by omega), show b + (2 + dd) = b + 2 + dd by omega]
        exact (hJ1 dd hd).1 k hk4
      · rw [un 8 (by decide), un 9 (by decide), un 10 (by decide), un 11 (by decide), z0 _ (by omega) (by omega), z0 _ (by omega) (by omega), z0 _ (by omega) (by omega), z0 _ (by omega) (by omega)]
        exact (hJ1 dd hd).2
      · rw [un 12 (by decide), z0 _ (by omega) (by omega)]
        exact hl c hc
      · rw [sm_u_eq, pk_un (by decide), sm_u_eq, pk_un (by decide), sm_u_eq, pk_un (by decide), sm_u_eq, pk_us]
        refine z_set_all _ h10 (fun i hi => ?_)
        unfold r_beg
        rw [if_neg (by omega)]
        by_cases h : 54 ≤ 54 + i ∧ 54 + i < 54 + tx_R T
        · rw [if_pos h]
          exact ⟨fun _ => by omega, fun _ => rfl⟩
        · rw [if_neg h]
          exact ⟨fun z => absurd z (by decide), fun z => absurd z (by omega)⟩
      · rw [sm_u_eq, pk_un (by decide), sm_u_eq, pk_un (by decide), sm_u_eq, pk_us]
        refine (z_set_none _ 6 (fun i hi => ?_)).symm
        rw [z0 _ (by omega) (by omega)]
        decide
      · rw [sm_u_eq, pk_un (by decide), sm_u_eq, pk_us, z0 _ (by omega) (by omega)]
      · rw [sm_u_eq, pk_us]
    · intro J1 hf1 hJ1 hl
      refine wp_iload2 97 rfl dX5_begins_96 ?_
      refine wp_iconst (nI 5) 98 rfl dX5_begins_97 (by decide) ?_
      refine wp_icmp_ge 101 114 rfl rfl dX5_begins_98 (fun c98 => absurd c98 (nI_ge hp (by decide))) (fun c98 => ?_)
      refine wp_aload0 102 rfl dX5_begins_101 ?_
      refine wp_getr 105 rfl dX5_begins_102 fX5_29_6 (o6 ht) (p6_5 ht) ?_
      refine wp_iload2 106 rfl dX5_begins_105 ?_
      refine wp_iconst (nI 0) 107 rfl dX5_begins_106 (by decide) ?_
      refine wp_iast 108 rfl dX5_begins_107 (s6_5 ht) (p) (by first | rfl | simp only [pk_mul, nI_add]) (⟨by omega, by decide⟩) ?_
      refine wp_iincN2 111 rfl dX5_begins_108 (by decide) rfl ?_
      refine wp_goto 96 rfl dX5_begins_111 ?_
      refine ih _ (hf1.tr (cf.su (by omega))) (fun dd hd => ?_) (fun c hc => ?_)
      · rw [sm_u_ne _ _ _ (by omega), sm_u_ne _ _ _ (by omega), sm_u_ne _ _ _ (by omega), sm_u_ne _ _ _ (by omega), sm_u_ne _ _ _ (by omega)]
        exact hJ1 dd hd
      · by_cases e : c = p
        · rw [e, sm_u_eq, pk_us]
        · rw [sm_u_eq, pk_un e]
          exact hl c (by omega)
  · intro J hf hJ
    refine wp_iload2 3 rfl dX5_begins_2 ?_
    refine wp_bipush (nI 6) 5 rfl dX5_begins_3 (by decide) ?_
    refine wp_icmp_ge 8 94 rfl rfl dX5_begins_5 (fun c5 => absurd c5 (nI_ge hp (by decide))) (fun c5 => ?_)
    refine wp_iconst (nI 0) 9 rfl dX5_begins_8 (by decide) ?_
    refine wp_istore3 10 rfl dX5_begins_9 (by decide) rfl ?_
    refine sm_for (P := fun r => ∀ J1 : sm_I, cf (tWs b) I J1 → bgD T b J1 p → (∀ k, k < r → J1 (b + 2 + p) k = r_beg T (4 * p + k)) → sm_V G xX5_begins (d + 3) 10 [.ref b, .ref tp, .int (nI p), .int (nI r)] [] J1 ρ _) 0 4 (nl rfl) ?_ (fun r _ hr ih2 => ?_) J hf hJ (fun k h => absurd h (Nat.not_lt_zero _))
    · intro J1 hf1 hJ1 hl
      refine wp_iload3 11 rfl dX5_begins_10 ?_
      refine wp_iconst (nI 4) 12 rfl dX5_begins_11 (by decide) ?_
      refine wp_icmp_ge 15 60 rfl rfl dX5_begins_12 (fun c12 => ?_) (fun c12 => absurd (by decide) c12)
      refine wp_aload0 61 rfl dX5_begins_60 ?_
      refine wp_getr 64 rfl dX5_begins_61 fX5_16_6 (o6 ht) (p6_1 ht) ?_
      refine wp_iload2 65 rfl dX5_begins_64 ?_
      refine wp_iconst (nI 0) 66 rfl dX5_begins_65 (by decide) ?_
      refine wp_iast 67 rfl dX5_begins_66 (s6_1 ht) (p) (by first | rfl | simp only [pk_mul, nI_add]) (⟨by omega, by decide⟩) ?_
      refine wp_aload0 68 rfl dX5_begins_67 ?_
      refine wp_getr 71 rfl dX5_begins_68 fX5_20_6 (o6 ht) (p6_2 ht) ?_
      refine wp_iload2 72 rfl dX5_begins_71 ?_
      refine wp_iconst (nI 0) 73 rfl dX5_begins_72 (by decide) ?_
      refine wp_iast 74 rfl dX5_begins_73 (s6_2 ht) (p) (by first | rfl | simp only [pk_mul, nI_add]) (⟨by omega, by decide⟩) ?_
      refine wp_aload0 75 rfl dX5_begins_74 ?_
      refine wp_getr 78 rfl dX5_begins_75 fX5_23_6 (o6 ht) (p6_3 ht) ?_
      refine wp_iload2 79 rfl dX5_begins_78 ?_
      refine wp_iconst (nI 0) 80 rfl dX5_begins_79 (by decide) ?_
      refine wp_iast 81 rfl dX5_begins_80 (s6_3 ht) (p) (by first | rfl | simp only [pk_mul, nI_add]) (⟨by omega, by decide⟩) ?_
      refine wp_aload0 82 rfl dX5_begins_81 ?_
      refine wp_getr 85 rfl dX5_begins_82 fX5_26_6 (o6 ht) (p6_4 ht) ?_
      refine wp_iload2 86 rfl dX5_begins_85 ?_
      refine wp_iconst (nI 0) 87 rfl dX5_begins_86 (by decide) ?_
      refine wp_iast 88 rfl dX5_begins_87 (s6_4 ht) (p) (by first | rfl | simp only [pk_mul, nI_add]) (⟨by omega, by decide⟩) ?_
      refine wp_iincN2 91 rfl dX5_begins_88 (by decide) rfl ?_
      refine wp_goto 2 rfl dX5_begins_91 ?_
      refine wp_weakK (ih _ ((((hf1.tr (cf.su (by omega))).tr (cf.su (by omega))).tr (cf.su (by omega))).tr (cf.su (by omega))) (fun dd hd => ?_)) ⟨Or.inr rfl, Or.inr rfl, Or.inr rfl, Or.inl rfl, trivial⟩
      have uf : ∀ k, sm_u (sm_u (sm_u (sm_u J1 (b + 8) p (nI 0)) (b + 9) p (nI 0)) (b + 10) p (nI 0)) (b + 11) p (nI 0) (b + 2 + dd) k = J1 (b + 2 + dd) k := fun k => by
        rw [sm_u_ne _ _ _ (by omega), sm_u_ne _ _ _ (by omega), sm_u_ne _ _ _ (by omega), sm_u_ne _ _ _ (by omega)]
      by_cases e : dd = p
      · subst e
        refine ⟨fun k hk4 => (uf k).trans (hl k hk4), ?_, ?_, ?_, ?_⟩
        · rw [sm_u_ne _ _ _ (by omega), sm_u_ne _ _ _ (by omega), sm_u_ne _ _ _ (by omega), sm_u_eq, pk_us]
        · rw [sm_u_ne _ _ _ (by omega), sm_u_ne _ _ _ (by omega), sm_u_eq, pk_us]
        · rw [sm_u_ne _ _ _ (by omega), sm_u_eq, pk_us]
        · rw [sm_u_eq, pk_us]
      · obtain ⟨k1, k2, k3, k4, k5⟩ := hJ1 dd (by omega)
        refine ⟨fun k hk4 => (uf k).trans (k1 k hk4), ?_, ?_, ?_, ?_⟩
        · rw [sm_u_off e, sm_u_off e, sm_u_off e, sm_u_off e]; exact k2
        · rw [sm_u_off e, sm_u_off e, sm_u_off e, sm_u_off e]; exact k3
        · rw [sm_u_off e, sm_u_off e, sm_u_off e, sm_u_off e]; exact k4
        · rw [sm_u_off e, sm_u_off e, sm_u_off e, sm_u_off e]; exact k5
    · intro J1 hf1 hJ1 hl
      have hT1 := hT.kept (hf1.T (tW_s hb))
      have key : ∀ v, v = r_beg T (4 * p + r) → sm_V G xX5_begins (d + 3) 53 [.ref b, .ref tp, .int (nI p), .int (nI r)] [.int v, .int (nI r), .ref (b + 2 + p)] J1 ρ (sm_Qv (fun I1 ρ1 => ρ1 = ρ ∧ cf (tWs b) I I1 ∧ tR I1 b (r_beg T) (tx_seed T))) := by
        intro v hv
        refine wp_iast 54 rfl dX5_begins_53 (i6_0 ht hp) (r) (rfl) (⟨by omega, by decide⟩) ?_
        refine wp_iincN3 57 rfl dX5_begins_54 (by decide) rfl ?_
        refine wp_goto 10 rfl dX5_begins_57 ?_
        refine ih2 _ (hf1.tr (cf.su (by omega))) (fun dd hd => ?_) (fun k hk4 => ?_)
        · rw [sm_u_ne _ _ _ (by omega), sm_u_ne _ _ _ (by omega), sm_u_ne _ _ _ (by omega), sm_u_ne _ _ _ (by omega), sm_u_ne _ _ _ (by omega)]
          exact hJ1 dd hd
        · by_cases e : k = r
          · rw [e, sm_u_eq, pk_us]
            exact hv
          · rw [sm_u_eq, pk_un e]
            exact hl k (by omega)
      by_cases hD : p < tx_D T
      · have hF := cT_df hT1 hD
        refine wp_iload3 11 rfl dX5_begins_10 ?_
        refine wp_iconst (nI 4) 12 rfl dX5_begins_11 (by decide) ?_
        refine wp_icmp_ge 15 60 rfl rfl dX5_begins_12 (fun c12 => absurd c12 (nI_ge hr (by decide))) (fun c12 => ?_)
        refine wp_aload0 16 rfl dX5_begins_15 ?_
        refine wp_getr 19 rfl dX5_begins_16 fX5_11_6 (o6 ht) (p6_0 ht) ?_
        refine wp_iload2 20 rfl dX5_begins_19 ?_
        refine wp_aald (t := 10) 21 rfl dX5_begins_20 (by decide) rfl rfl (s6_0 ht) (p) (by first | rfl | simp only [pk_mul, nI_add]) (⟨by omega, by decide⟩) (e6_0 ht (by omega)) ?_
        refine wp_iload3 22 rfl dX5_begins_21 ?_
        refine wp_iload2 23 rfl dX5_begins_22 ?_
        refine wp_aload1 24 rfl dX5_begins_23 ?_
        refine wp_getr 27 rfl dX5_begins_24 fX5_42_5 (o5 hT1) (p5_0 hT1) ?_
        refine wp_Ve0 30 rfl dX5_begins_27 kJ5_size lX5_48 (o18 (cT_d hT1)) (nl rfl) (nl rfl) (s_size (cT_d hT1)) ?_
        refine wp_icmp_ge 33 52 rfl rfl dX5_begins_30 (fun c30 => absurd c30 (nI_ge hD (by omega))) (fun c30 => ?_)
        refine wp_aload1 34 rfl dX5_begins_33 ?_
        refine wp_getr 37 rfl dX5_begins_34 fX5_42_5 (o5 hT1) (p5_0 hT1) ?_
        refine wp_iload2 38 rfl dX5_begins_37 ?_
        refine wp_Ve1 41 rfl dX5_begins_38 kJ5_get lX5_54 (o18 (cT_d hT1)) (nl rfl) (nl rfl) (s_get (cT_d hT1) (hD)) ?_
        refine wp_cast 44 rfl dX5_begins_41 caX5_58_15 (o15 (cT_df hT1 (hD))) ?_
        refine wp_getr 47 rfl dX5_begins_44 fX5_60_15 (o15 (cT_df hT1 (hD))) (p15_1 (cT_df hT1 (hD))) ?_
        refine wp_iload3 48 rfl dX5_begins_47 ?_
        refine wp_iald 49 rfl dX5_begins_48 (s15_1 (cT_df hT1 (hD))) (r) (by first | rfl | simp only [pk_mul, nI_add]) (⟨by omega, by decide⟩) ?_
        refine wp_goto 53 rfl dX5_begins_49 ?_
        refine key _ ?_
        rw [hF.2.2.2 r hr]
        unfold r_beg
        rw [if_pos (by omega)]
      · refine wp_iload3 11 rfl dX5_begins_10 ?_
        refine wp_iconst (nI 4) 12 rfl dX5_begins_11 (by decide) ?_
        refine wp_icmp_ge 15 60 rfl rfl dX5_begins_12 (fun c12 => absurd c12 (nI_ge hr (by decide))) (fun c12 => ?_)
        refine wp_aload0 16 rfl dX5_begins_15 ?_
        refine wp_getr 19 rfl dX5_begins_16 fX5_11_6 (o6 ht) (p6_0 ht) ?_
        refine wp_iload2 20 rfl dX5_begins_19 ?_
        refine wp_aald (t := 10) 21 rfl dX5_begins_20 (by decide) rfl rfl (s6_0 ht) (p) (by first | rfl | simp only [pk_mul, nI_add]) (⟨by omega, by decide⟩) (e6_0 ht (by omega)) ?_
        refine wp_iload3 22 rfl dX5_begins_21 ?_
        refine wp_iload2 23 rfl dX5_begins_22 ?_
        refine wp_aload1 24 rfl dX5_begins_23 ?_
        refine wp_getr 27 rfl dX5_begins_24 fX5_42_5 (o5 hT1) (p5_0 hT1) ?_
        refine wp_Ve0 30 rfl dX5_begins_27 kJ5_size lX5_48 (o18 (cT_d hT1)) (nl rfl) (nl rfl) (s_size (cT_d hT1)) ?_
        refine wp_icmp_ge 33 52 rfl rfl dX5_begins_30 (fun c30 => ?_) (fun c30 => absurd (nI_le (by omega) (by omega)) c30)
        refine wp_iconst (nI 0) 53 rfl dX5_begins_52 (by decide) ?_
        refine key _ ?_
        unfold r_beg
        rw [if_neg (by omega), if_neg (by omega)]
end C12
