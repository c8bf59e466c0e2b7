/-! ===== towns: goAll, lift, polish, wears ===== -/
set_option maxRecDepth 100000
theorem i_min_rich (k : Nat) (hk : k < 2000000) : z_min 999999 (nI k) = z_within (nI k) (nI 0) 999999 := by
  have e9 : (999999 : Int32) = nI 999999 := by decide
  rw [e9]
  unfold z_min z_within
  have h0 : ¬ nI k < nI 0 := nI_pos (by omega)
  rw [if_neg h0]
  by_cases h : k < 999999
  · rw [if_pos (nI_lt h (by decide)), if_neg (nI_nlt (by omega) (by decide))]
  · rw [if_neg (nI_nlt (by omega) (by omega))]
    by_cases h2 : 999999 < k
    · rw [if_pos (nI_lt h2 (by omega))]
    · rw [if_neg (nI_nlt (by omega) (by decide)), show k = 999999 by omega]
theorem z_rich_n (k : Nat) (hk : k < 2000000) : ∃ f, f ≤ 999999 ∧ z_within (nI k) (nI 0) 999999 = nI f := by
  have e9 : (999999 : Int32) = nI 999999 := by decide
  rw [e9]
  unfold z_within
  have h0 : ¬ nI k < nI 0 := nI_pos (by omega)
  rw [if_neg h0]
  by_cases h2 : 999999 < k
  · rw [if_pos (nI_lt h2 (by omega))]
    exact ⟨999999, by decide, rfl⟩
  · rw [if_neg (nI_nlt (by omega) (by decide))]
    exact ⟨k, by omega, rfl⟩
section C8
variable {G : sm_G} {d : Nat} {I : sm_I} {ρ : sm_R} {tp : Nat} {q : tq4} {T : tx} {b : Nat} {w : Nat → Int32} {s : Int32}
theorem s_goAll (ht : td ρ b) (hR : tR I b w s) (hb : 79 ≤ b ∧ b ≤ 882) {o : Nat} {g : Nat → Int32} (ho : cFc I ρ o g) {dd : Nat} (hd : dd < 6) (mo : Nat → Int32) (hmo : ∀ k, k < 4 → I (b + 13) k = mo k) (hx : ∀ k, k < 4 → ∃ f, f ≤ 99 ∧ w (4 * dd + k) = nI f) (hz : ∀ k, k < 4 → w (4 * dd + k) = g k → mo k = 0) :
    sm_M G xX5_goAll (d + 2) [.ref b, .int (nI dd), .ref o] I ρ (sm_Qv (fun I1 ρ1 => ρ1 = ρ ∧ cf [b + 2 + dd] I I1 ∧ tR I1 b (r_fcs (fun k => z_tow (w (4 * dd + k)) (g k) (mo k)) w dd 4) s)) := by
  show sm_V G xX5_goAll (d + 2) 0 [.ref b, .int (nI dd), .ref o, .retAddr 0] [] I ρ _
  have hoA := ho.2.1
  unfold tA at hoA
  refine wp_iconst (nI 0) 1 rfl dX5_goAll_0 (by decide) ?_
  refine wp_istore3 2 rfl dX5_goAll_1 (by decide) rfl ?_
  refine sm_for (P := fun p => ∀ J : sm_I, cf [b + 2 + dd] I J → tR J b (r_fcs (fun k => z_tow (w (4 * dd + k)) (g k) (mo k)) w dd p) s → sm_V G xX5_goAll (d + 2) 2 [.ref b, .int (nI dd), .ref o, .int (nI p)] [] J ρ _) 0 4 (nl rfl) ?_ (fun p _ hp ih => ?_) I cf.rf (by rw [r_fcs_0]; exact hR)
  · intro J hf hJ
    refine wp_iload3 3 rfl dX5_goAll_2 ?_
    refine wp_iconst (nI 4) 4 rfl dX5_goAll_3 (by decide) ?_
    refine wp_icmp_ge 7 41 rfl rfl dX5_goAll_4 (fun c4 => ?_) (fun c4 => absurd (nI_le (Nat.le_refl 4) (by decide)) c4)
    refine wp_vret dX5_goAll_41 rfl ?_
    exact ⟨rfl, rfl, hf, hJ⟩
  · intro J hf hJ
    have e1 : J (b + 2 + dd) p = w (4 * dd + p) := by
      rw [hJ.1 dd p hd hp, r_fcs_out _ _ (by omega)]
    have e2 : J o p = g p := by
      rw [hf o (by
        intro q
        have : o = b + 2 + dd := by simpa using q
        omega)]
      exact (ho.2.2 p hp).1
    have e3 : J (b + 13) p = mo p := by
      rw [hf (b + 13) (by
        intro q
        have : b + 13 = b + 2 + dd := by simpa using q
        omega)]
      exact hmo p hp
    obtain ⟨f, hf1, hf2⟩ := hx p hp
    obtain ⟨-, f', hg1, hg2⟩ := ho.2.2 p hp
    have e4 : w (4 * dd + p) + z_sgn (g p - w (4 * dd + p)) * mo p = z_tow (w (4 * dd + p)) (g p) (mo p) := by
      have hz1 := hz p hp
      rw [hf2, hg2] at hz1 ⊢
      exact z_sgn_tow hf1 hg1 _ (fun e => hz1 (by rw [e]))
    refine wp_iload3 3 rfl dX5_goAll_2 ?_
    refine wp_iconst (nI 4) 4 rfl dX5_goAll_3 (by decide) ?_
    refine wp_icmp_ge 7 41 rfl rfl dX5_goAll_4 (fun c4 => absurd c4 (nI_ge hp (by decide))) (fun c4 => ?_)
    refine wp_aload0 8 rfl dX5_goAll_7 ?_
    refine wp_getr 11 rfl dX5_goAll_8 fX5_11_6 (o6 ht) (p6_0 ht) ?_
    refine wp_iload1 12 rfl dX5_goAll_11 ?_
    refine wp_aald (t := 10) 13 rfl dX5_goAll_12 (by decide) rfl rfl (s6_0 ht) (dd) (by first | rfl | simp only [pk_mul, nI_add]) (⟨by omega, by decide⟩) (e6_0 ht (by omega)) ?_
    refine wp_iload3 14 rfl dX5_goAll_13 ?_
    refine wp_aload0 15 rfl dX5_goAll_14 ?_
    refine wp_getr 18 rfl dX5_goAll_15 fX5_11_6 (o6 ht) (p6_0 ht) ?_
    refine wp_iload1 19 rfl dX5_goAll_18 ?_
    refine wp_aald (t := 10) 20 rfl dX5_goAll_19 (by decide) rfl rfl (s6_0 ht) (dd) (by first | rfl | simp only [pk_mul, nI_add]) (⟨by omega, by decide⟩) (e6_0 ht (by omega)) ?_
    refine wp_iload3 21 rfl dX5_goAll_20 ?_
    refine wp_iald 22 rfl dX5_goAll_21 (i6_0 ht (by omega)) (p) (by first | rfl | simp only [pk_mul, nI_add]) (⟨by omega, by decide⟩) ?_
    refine wp_aload2 23 rfl dX5_goAll_22 ?_
    refine wp_iload3 24 rfl dX5_goAll_23 ?_
    refine wp_iald 25 rfl dX5_goAll_24 (ho.1) (p) (by first | rfl | simp only [pk_mul, nI_add]) (⟨by omega, by decide⟩) ?_
    refine wp_aload0 26 rfl dX5_goAll_25 ?_
    refine wp_getr 29 rfl dX5_goAll_26 fX5_32_6 (o6 ht) (p6_10 ht) ?_
    refine wp_iload3 30 rfl dX5_goAll_29 ?_
    refine wp_iald 31 rfl dX5_goAll_30 (s6_10 ht) (p) (by first | rfl | simp only [pk_mul, nI_add]) (⟨by omega, by decide⟩) ?_
    rw [e1, e2, e3]
    refine wp_SNe3 34 rfl dX5_goAll_31 kX0_towardsBy lX5_130 (nl rfl) (nl rfl) (s_ctow _ _ _) ?_
    show sm_V G xX5_goAll (d + 2) 34 _ (.int (w (4 * dd + p) + z_sgn (g p - w (4 * dd + p)) * mo p) :: _) J ρ _
    rw [e4]
    refine wp_iast 35 rfl dX5_goAll_34 (i6_0 ht (by omega)) (p) (by first | rfl | simp only [pk_mul, nI_add]) (⟨by omega, by decide⟩) ?_
    refine wp_iincN3 38 rfl dX5_goAll_35 (by decide) rfl ?_
    refine wp_goto 2 rfl dX5_goAll_38 ?_
    refine ih _ (hf.tr (cf.u List.mem_cons_self)) ?_
    have := hJ.face hd hp (z_tow (w (4 * dd + p)) (g p) (mo p))
    rw [r_fcs_s (fun k => z_tow (w (4 * dd + k)) (g k) (mo k)) w dd p] at this
    exact this
theorem tW13 (hb : 79 ≤ b ∧ b ≤ 882) : tW [b + 13, b + 14, b + 15] := fun a ha => by
  have : a = b + 13 ∨ a = b + 14 ∨ a = b + 15 := by simpa using ha
  omega
/-- a lift, and rows -/
theorem wok_lift (hw : wok w) (hk : tok T) {dd c : Nat} (hd : dd < 6) (hc : c < tx_C T) : wok (r_lift T w dd c) := by
  have hc5 : tx_C T ≤ 5 := hk.1.2.1
  unfold r_lift
  obtain ⟨m, m1, m2⟩ := (hw.2.1 dd hd).2.1
  obtain ⟨p, p1, p2⟩ := z_within_n (m := 99) (lw_val (r_var w dd (nI 0) (nI 0) (nI 0) (r_unl T w dd c) (nI c)) (tx_law T 2) (nI 1)) (by decide)
  have p2 : r_pays T w dd c = nI p := p2
  rw [m2, p2, nI_add]
  obtain ⟨f, f1, f2⟩ := z_rich_n (m + p) (by omega)
  rw [f2]
  refine wok_t (wok_any (wok_any (wok_m (wok_fcs hw hd (fun k hk4 => ?_) 4 (Nat.le_refl _)) hd f1) (by omega) _) (by omega) _) hd (Or.inr rfl)
  exact (z_go (hw.1 _ (by omega)) (hk.2.1 _ (by omega))).1
theorem s_clift (ht : td ρ b) (hb : 79 ≤ b ∧ b ≤ 882) (hR : tR I b w s) (hw : wok w) (hT : cT I ρ tp q T) (hk : tok T) {dd c : Nat} (hd : dd < 6) (hc : c < tx_C T) :
    sm_M G xX5_lift (d + 405) [.ref b, .ref tp, .int (nI dd), .int (nI c)] I ρ (sm_Qv (fun I1 ρ1 => ρ1 = ρ ∧ cf (tWs b) I I1 ∧ tR I1 b (r_lift T w dd c) s)) := by
  show sm_V G xX5_lift (d + 405) 0 [.ref b, .ref tp, .int (nI dd), .int (nI c), .retAddr 0, .retAddr 0] [] I ρ _
  have hc5 : tx_C T ≤ 5 := hk.1.2.1
  refine wp_aload0 1 rfl dX5_lift_0 ?_
  refine wp_aload1 2 rfl dX5_lift_1 ?_
  refine wp_iload2 3 rfl dX5_lift_2 ?_
  refine wp_iload3 4 rfl dX5_lift_3 ?_
  refine wp_Vi3 7 rfl dX5_lift_4 kX5_pays lX5_134 (o6 ht) (nl rfl) (nl rfl) (s_pays ht hb hR hw hT hk hd hc) (fun v I1 ρ1 hq => ?_)
  obtain ⟨e1, f1, e2⟩ := hq
  have e1 := e1.symm
  subst e1
  subst e2
  refine wp_istore4 9 rfl dX5_lift_7 (by decide) rfl ?_
  refine wp_iconst (nI 0) 10 rfl dX5_lift_9 (by decide) ?_
  refine wp_istore5 12 rfl dX5_lift_10 (by decide) rfl ?_
  refine sm_for (P := fun p => ∀ J : sm_I, cf [b + 13, b + 14, b + 15] I J → (∀ k, k < p → J (b + 13) k = r_gives T w dd c k) → sm_V G xX5_lift (d + 405) 12 [.ref b, .ref tp, .int (nI dd), .int (nI c), .int (r_pays T w dd c), .int (nI p)] [] J ρ _) 0 4 (nl rfl) ?_ (fun p _ hp ih => ?_) I1 (f1.wk (by simp)) (fun k h => absurd h (Nat.not_lt_zero _))
  · intro J hf hmo
    have hJ : tR J b w s := hR.scr hf (fun a ha => by
      have : a = b + 13 ∨ a = b + 14 ∨ a = b + 15 := by simpa using ha
      omega)
    have hT1 := hT.kept (hf.T (tW13 hb))
    have hC := cT_c hT1
    have hF := cT_cf hT1 hc
    obtain ⟨m, m1, m2⟩ := (hw.2.1 dd hd).2.1
    obtain ⟨p, p1, p2⟩ := z_within_n (m := 99) (lw_val (r_var w dd (nI 0) (nI 0) (nI 0) (r_unl T w dd c) (nI c)) (tx_law T 2) (nI 1)) (by decide)
    have p2 : r_pays T w dd c = nI p := p2
    have emo : z_min 999999 (w (42 + dd) + r_pays T w dd c) = z_within (w (42 + dd) + r_pays T w dd c) (nI 0) 999999 := by
      rw [m2, p2, nI_add]
      exact i_min_rich _ (by omega)
    refine wp_iload5 14 rfl dX5_lift_12 ?_
    refine wp_iconst (nI 4) 15 rfl dX5_lift_14 (by decide) ?_
    refine wp_icmp_ge 18 40 rfl rfl dX5_lift_15 (fun c15 => ?_) (fun c15 => absurd (nI_le (Nat.le_refl 4) (by decide)) c15)
    refine wp_aload0 41 rfl dX5_lift_40 ?_
    refine wp_getr 44 rfl dX5_lift_41 fX5_26_6 (o6 ht) (p6_4 ht) ?_
    refine wp_iload2 45 rfl dX5_lift_44 ?_
    refine wp_ldc 47 rfl dX5_lift_45 q1270 ?_
    refine wp_aload0 48 rfl dX5_lift_47 ?_
    refine wp_getr 51 rfl dX5_lift_48 fX5_26_6 (o6 ht) (p6_4 ht) ?_
    refine wp_iload2 52 rfl dX5_lift_51 ?_
    refine wp_iald 53 rfl dX5_lift_52 (s6_4 ht) (dd) (by first | rfl | simp only [pk_mul, nI_add]) (⟨by omega, by decide⟩) ?_
    rw [(hJ.2.1 dd hd).2.2.2]
    refine wp_iload4 55 rfl dX5_lift_53 ?_
    refine wp_iadd 56 rfl dX5_lift_55 ?_
    refine wp_mmin 59 rfl dX5_lift_56 q1237 (nl rfl) ?_
    show sm_V G xX5_lift (d + 405) 59 _ (.int (z_min 999999 (w (42 + dd) + r_pays T w dd c)) :: _) J ρ _
    rw [emo]
    refine wp_iast 60 rfl dX5_lift_59 (s6_4 ht) (dd) (by first | rfl | simp only [pk_mul, nI_add]) (⟨by omega, by decide⟩) ?_
    obtain ⟨J1, hJ1⟩ : ∃ J1, J1 = sm_u J (b + 11) dd (z_within (w (42 + dd) + r_pays T w dd c) (nI 0) 999999) := ⟨_, rfl⟩
    have hR1 : tR J1 b (upd w (42 + dd) (z_within (w (42 + dd) + r_pays T w dd c) (nI 0) 999999)) s := by
      rw [hJ1]
      exact hJ.row (o := 11) (j := 42) (by omega) hd _
    have hf1 : cf (tWs b) I J1 := by
      rw [hJ1]
      exact (hf.s (fun a ha => by
        have : a = b + 13 ∨ a = b + 14 ∨ a = b + 15 := by simpa using ha
        omega)).tr (cf.su (by omega))
    have hmo1 : ∀ k, k < 4 → J1 (b + 13) k = r_gives T w dd c k := fun k hk4 => by
      rw [hJ1, sm_u_ne _ _ _ (by omega)]
      exact hmo k hk4
    show sm_V G xX5_lift (d + 405) 60 _ [] (sm_u J (b + 11) dd (z_within (w (42 + dd) + r_pays T w dd c) (nI 0) 999999)) ρ _
    rw [← hJ1]
    clear hJ1
    have hT2 := hT.kept (hf1.T (tW_s hb))
    have hC := cT_c hT2
    have hF := cT_cf hT2 hc
    have hcF := cFc_c hT2 hk hc
    have hx : ∀ k, k < 4 → upd w (42 + dd) (z_within (w (42 + dd) + r_pays T w dd c) (nI 0) 999999) (4 * dd + k) = w (4 * dd + k) := fun k hk4 => pk_un (by omega)
    refine wp_aload0 61 rfl dX5_lift_60 ?_
    refine wp_iload2 62 rfl dX5_lift_61 ?_
    refine wp_aload1 63 rfl dX5_lift_62 ?_
    refine wp_getr 66 rfl dX5_lift_63 fX5_120_5 (o5 hT2) (p5_1 hT2) ?_
    refine wp_iload3 67 rfl dX5_lift_66 ?_
    refine wp_Ve1 70 rfl dX5_lift_67 kJ5_get lX5_54 (o18 (cT_c hT2)) (nl rfl) (nl rfl) (s_get (d := d + 402) hC hc) ?_
    refine wp_cast 73 rfl dX5_lift_70 caX5_123_16 (o16 hF) ?_
    refine wp_getr 76 rfl dX5_lift_73 fX5_125_16 (o16 hF) (p16_1 hF) ?_
    refine wp_Vv2 79 rfl dX5_lift_76 kX5_goAll lX5_143 (o6 ht) (nl rfl) (nl rfl) (s_goAll (d := d + 402) ht hR1 hb hcF hd (fun k => r_gives T w dd c k) hmo1 (fun k hk4 => by rw [hx k hk4]; exact hw.1 _ (by omega)) (fun k hk4 he => by rw [hx k hk4] at he; exact (z_go (hw.1 _ (by omega)) (hk.2.1 _ (by omega))).2 he)) (fun J2 ρ1 hq => ?_)
    obtain ⟨e1, f2, hR2⟩ := hq
    have e1 := e1.symm
    subst e1
    have efc : r_fcs (fun k => z_tow (upd w (42 + dd) (z_within (w (42 + dd) + r_pays T w dd c) (nI 0) 999999) (4 * dd + k)) (tx_cf T (4 * c + k)) (r_gives T w dd c k)) (upd w (42 + dd) (z_within (w (42 + dd) + r_pays T w dd c) (nI 0) 999999)) dd 4 = upd (r_fcs (r_liftF T w dd c) w dd 4) (42 + dd) (z_within (w (42 + dd) + r_pays T w dd c) (nI 0) 999999) := by
      rw [r_fcs_upd (by omega)]
      congr 1
      funext j
      unfold r_fcs
      by_cases hj : 4 * dd ≤ j ∧ j < 4 * dd + 4
      · rw [if_pos hj, if_pos hj]
        dsimp only
        rw [hx (j - 4 * dd) (by omega)]
        rfl
      · rw [if_neg hj, if_neg hj]
    rw [efc] at hR2
    have hf2 : cf (tWs b) I J2 := hf1.tr (f2.s (fun a ha => by
      have : a = b + 2 + dd := by simpa using ha
      omega))
    have v24 : J2 (b + 8) dd = w (24 + dd) := by
      rw [(hR2.2.1 dd hd).1, pk_un (by omega), r_fcs_out _ _ (by omega)]
    refine wp_aload0 80 rfl dX5_lift_79 ?_
    refine wp_getr 83 rfl dX5_lift_80 fX5_16_6 (o6 ht) (p6_1 ht) ?_
    refine wp_iload2 84 rfl dX5_lift_83 ?_
    refine wp_dup2 85 rfl dX5_lift_84 rfl rfl ?_
    refine wp_iald 86 rfl dX5_lift_85 (s6_1 ht) (dd) (by first | rfl | simp only [pk_mul, nI_add]) (⟨by omega, by decide⟩) ?_
    rw [v24]
    refine wp_iconst (nI 1) 87 rfl dX5_lift_86 (by decide) ?_
    refine wp_iadd 88 rfl dX5_lift_87 ?_
    refine wp_iast 89 rfl dX5_lift_88 (s6_1 ht) (dd) (by first | rfl | simp only [pk_mul, nI_add]) (⟨by omega, by decide⟩) ?_
    have hR3 := hR2.row (o := 8) (j := 24) (by omega) hd (w (24 + dd) + nI 1)
    have v64 : sm_u J2 (b + 8) dd (w (24 + dd) + nI 1) (b + 12) c = w (64 + c) := by
      rw [hR3.2.2.1 c (by omega), pk_un (by omega), pk_un (by omega), r_fcs_out _ _ (by omega)]
    refine wp_aload0 90 rfl dX5_lift_89 ?_
    refine wp_getr 93 rfl dX5_lift_90 fX5_29_6 (o6 ht) (p6_5 ht) ?_
    refine wp_iload3 94 rfl dX5_lift_93 ?_
    refine wp_dup2 95 rfl dX5_lift_94 rfl rfl ?_
    refine wp_iald 96 rfl dX5_lift_95 (s6_5 ht) (c) (by first | rfl | simp only [pk_mul, nI_add]) (⟨by omega, by decide⟩) ?_
    rw [v64]
    refine wp_iconst (nI 1) 97 rfl dX5_lift_96 (by decide) ?_
    refine wp_iadd 98 rfl dX5_lift_97 ?_
    refine wp_iast 99 rfl dX5_lift_98 (s6_5 ht) (c) (by first | rfl | simp only [pk_mul, nI_add]) (⟨by omega, by decide⟩) ?_
    have hR4 := hR3.lifted (c := c) (by omega) (w (64 + c) + nI 1)
    refine wp_aload0 100 rfl dX5_lift_99 ?_
    refine wp_dup 101 rfl dX5_lift_100 rfl ?_
    refine wp_geti 104 rfl dX5_lift_101 fX5_69_6 (o6 ht) ?_
    refine wp_iconst (nI 1) 105 rfl dX5_lift_104 (by decide) ?_
    refine wp_iload2 106 rfl dX5_lift_105 ?_
    refine wp_ishl 107 rfl dX5_lift_106 ?_
    refine wp_ior 108 rfl dX5_lift_107 ?_
    refine wp_puti 111 rfl dX5_lift_108 pX5_69_6 (o6 ht) (⟨rfl, rfl⟩) ?_
    refine wp_vret dX5_lift_111 rfl ?_
    exact ⟨rfl, rfl, ((hf2.tr (cf.su (by omega))).tr (cf.su (by omega))).tr (cf.su (by omega)), hR4.today hd⟩
  · intro J hf hmo
    have hJ : tR J b w s := hR.scr hf (fun a ha => by
      have : a = b + 13 ∨ a = b + 14 ∨ a = b + 15 := by simpa using ha
      omega)
    have hT1 := hT.kept (hf.T (tW13 hb))
    refine wp_iload5 14 rfl dX5_lift_12 ?_
    refine wp_iconst (nI 4) 15 rfl dX5_lift_14 (by decide) ?_
    refine wp_icmp_ge 18 40 rfl rfl dX5_lift_15 (fun c15 => absurd c15 (nI_ge hp (by decide))) (fun c15 => ?_)
    refine wp_aload0 19 rfl dX5_lift_18 ?_
    refine wp_getr 22 rfl dX5_lift_19 fX5_32_6 (o6 ht) (p6_10 ht) ?_
    refine wp_iload5 24 rfl dX5_lift_22 ?_
    refine wp_aload0 25 rfl dX5_lift_24 ?_
    refine wp_aload1 26 rfl dX5_lift_25 ?_
    refine wp_iload2 27 rfl dX5_lift_26 ?_
    refine wp_iload3 28 rfl dX5_lift_27 ?_
    refine wp_iload5 30 rfl dX5_lift_28 ?_
    refine wp_Vi4 33 rfl dX5_lift_30 kX5_gives lX5_138 (o6 ht) (nl rfl) (nl rfl) (s_gives ht hb hJ hw hT1 hk hd hc hp) (fun v J1 ρ1 hq => ?_)
    obtain ⟨e1, f1, e2⟩ := hq
    have e1 := e1.symm
    subst e1
    subst e2
    refine wp_iast 34 rfl dX5_lift_33 (s6_10 ht) (p) (by first | rfl | simp only [pk_mul, nI_add]) (⟨by omega, by decide⟩) ?_
    refine wp_iincN5 37 rfl dX5_lift_34 (by decide) rfl ?_
    refine wp_goto 12 rfl dX5_lift_37 ?_
    refine ih _ ((hf.tr (f1.wk (by simp))).tr (cf.u (by simp))) (fun k hk4 => ?_)
    by_cases e : k = p
    · rw [e, sm_u_eq, pk_us]
    · rw [sm_u_eq, pk_un e, f1 (b + 13) (by simp)]
      exact hmo k (by omega)
end C8
