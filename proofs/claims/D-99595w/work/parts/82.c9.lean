/-! ===== towns: polish, wears, isDue, blows ===== -/
set_option maxRecDepth 100000
section C9
variable {G : sm_G} {d : Nat} {I : sm_I} {ρ : sm_R} {tp : Nat} {q : tq4} {T : tx} {b : Nat} {w : Nat → Int32} {s : Int32}
theorem z_half {x y : Int32} (hx : ∃ f, f ≤ 99 ∧ x = nI f) (hy : ∃ f, f ≤ 99 ∧ y = nI f) : (∃ f, f ≤ 99 ∧ z_tow x y (z_off x y / nI 2) = nI f) ∧ (x = y → z_off x y / nI 2 = 0) := by
  obtain ⟨a, ha, rfl⟩ := hx
  obtain ⟨c, hc, rfl⟩ := hy
  rw [z_off_n (by omega) (by omega)]
  have hm : (if a < c then c - a else a - c) < 1000000 := by
    by_cases h : a < c
    · rw [if_pos h]; omega
    · rw [if_neg h]; omega
  rw [pk_div (by omega) (by decide) (by decide)]
  refine ⟨z_tow_n ha hc (Nat.div_le_self _ _), fun h => ?_⟩
  have hac : a = c := (nI_eq (by omega) (by omega)).mp h
  rw [hac, if_neg (Nat.lt_irrefl _), Nat.sub_self]
  rfl
theorem wok_polish (hw : wok w) (hk : tok T) {dd : Nat} (hd : dd < tx_D T) : wok (r_polish T w dd) := by
  have hd6 : tx_D T ≤ 6 := hk.1.1
  unfold r_polish
  refine wok_any (wok_fcs hw (by omega) (fun k hk4 => ?_) 4 (Nat.le_refl _)) (by omega) _
  exact (z_half (hw.1 _ (by omega)) (hk.2.2.1 _ (by omega))).1
theorem s_cpolish (ht : td ρ b) (hb : 79 ≤ b ∧ b ≤ 882) (hR : tR I b w s) (hw : wok w) (hT : cT I ρ tp q T) (hk : tok T) {dd : Nat} (hd : dd < tx_D T) :
    sm_M G xX5_polish (d + 3) [.ref b, .ref tp, .int (nI dd)] I ρ (sm_Qv (fun I1 ρ1 => ρ1 = ρ ∧ cf (tWs b) I I1 ∧ tR I1 b (r_polish T w dd) s)) := by
  show sm_V G xX5_polish (d + 3) 0 [.ref b, .ref tp, .int (nI dd), .retAddr 0, .retAddr 0] [] I ρ _
  have hd6 : tx_D T ≤ 6 := hk.1.1
  have hC := cT_d hT
  have hF := cT_df hT hd
  have hcF := cFc_d hT hk hd
  refine wp_aload1 1 rfl dX5_polish_0 ?_
  refine wp_getr 4 rfl dX5_polish_1 fX5_42_5 (o5 hT) (p5_0 hT) ?_
  refine wp_iload2 5 rfl dX5_polish_4 ?_
  refine wp_Ve1 8 rfl dX5_polish_5 kJ5_get lX5_54 (o18 (cT_d hT)) (nl rfl) (nl rfl) (s_get hC hd) ?_
  refine wp_cast 11 rfl dX5_polish_8 caX5_58_15 (o15 hF) ?_
  refine wp_getr 14 rfl dX5_polish_11 fX5_60_15 (o15 hF) (p15_1 hF) ?_
  refine wp_astore3 15 rfl dX5_polish_14 (by decide) rfl ?_
  refine wp_iconst (nI 0) 16 rfl dX5_polish_15 (by decide) ?_
  refine wp_istore4 18 rfl dX5_polish_16 (by decide) rfl ?_
  refine sm_for (P := fun p => ∀ J : sm_I, cf [b + 13] I J → (∀ k, k < p → J (b + 13) k = z_off (w (4 * dd + k)) (tx_ff T (4 * dd + k)) / nI 2) → sm_V G xX5_polish (d + 3) 18 [.ref b, .ref tp, .int (nI dd), .ref (q.2.2.1 dd), .int (nI p)] [] J ρ _) 0 4 (nl rfl) ?_ (fun p _ hp ih => ?_) I cf.rf (fun k h => absurd h (Nat.not_lt_zero _))
  · intro J hf hmo
    have tA1 : ∀ a, tA a → J a = I a := hf.T (fun a ha => by
      have : a = b + 13 := by simpa using ha
      omega)
    have hJ : tR J b w s := hR.scr hf (fun a ha => by
      have : a = b + 13 := by simpa using ha
      omega)
    refine wp_iload4 20 rfl dX5_polish_18 ?_
    refine wp_iconst (nI 4) 21 rfl dX5_polish_20 (by decide) ?_
    refine wp_icmp_ge 24 56 rfl rfl dX5_polish_21 (fun c21 => ?_) (fun c21 => absurd (nI_le (Nat.le_refl 4) (by decide)) c21)
    refine wp_aload0 57 rfl dX5_polish_56 ?_
    refine wp_iload2 58 rfl dX5_polish_57 ?_
    refine wp_aload3 59 rfl dX5_polish_58 ?_
    refine wp_Vv2 62 rfl dX5_polish_59 kX5_goAll lX5_143 (o6 ht) (nl rfl) (nl rfl) (s_goAll ht hJ hb (hcF.kept tA1) (by omega) (fun k => z_off (w (4 * dd + k)) (tx_ff T (4 * dd + k)) / nI 2) hmo (fun k hk4 => hw.1 _ (by omega)) (fun k hk4 he => (z_half (hw.1 _ (by omega)) (hk.2.2.1 _ (by omega))).2 he)) (fun J2 ρ1 hq => ?_)
    obtain ⟨e1, f2, hR2⟩ := hq
    have e1 := e1.symm
    subst e1
    have v36 : J2 (b + 10) dd = w (36 + dd) := by
      rw [(hR2.2.1 dd (by omega)).2.2.1, r_fcs_out _ _ (by omega)]
    refine wp_aload0 63 rfl dX5_polish_62 ?_
    refine wp_getr 66 rfl dX5_polish_63 fX5_23_6 (o6 ht) (p6_3 ht) ?_
    refine wp_iload2 67 rfl dX5_polish_66 ?_
    refine wp_dup2 68 rfl dX5_polish_67 rfl rfl ?_
    refine wp_iald 69 rfl dX5_polish_68 (s6_3 ht) (dd) (by first | rfl | simp only [pk_mul, nI_add]) (⟨by omega, by decide⟩) ?_
    rw [v36]
    refine wp_iconst (nI 1) 70 rfl dX5_polish_69 (by decide) ?_
    refine wp_iadd 71 rfl dX5_polish_70 ?_
    refine wp_iast 72 rfl dX5_polish_71 (s6_3 ht) (dd) (by first | rfl | simp only [pk_mul, nI_add]) (⟨by omega, by decide⟩) ?_
    refine wp_vret dX5_polish_72 rfl ?_
    refine ⟨rfl, rfl, ((hf.s (fun a ha => by
      have : a = b + 13 := by simpa using ha
      omega)).tr (f2.s (fun a ha => by
      have : a = b + 2 + dd := by simpa using ha
      omega))).tr (cf.su (by omega)), ?_⟩
    exact hR2.row (o := 10) (j := 36) (by omega) (by omega) (w (36 + dd) + nI 1)
  · intro J hf hmo
    have tA1 : ∀ a, tA a → J a = I a := hf.T (fun a ha => by
      have : a = b + 13 := by simpa using ha
      omega)
    have hJ : tR J b w s := hR.scr hf (fun a ha => by
      have : a = b + 13 := by simpa using ha
      omega)
    have hcF1 := hcF.kept tA1
    obtain ⟨f, hf1, hf2⟩ := hw.1 (4 * dd + p) (by omega)
    obtain ⟨g, hg1, hg2⟩ := hk.2.2.1 (4 * dd + p) (by omega)
    have eap : z_abs (w (4 * dd + p) - tx_ff T (4 * dd + p)) = z_off (w (4 * dd + p)) (tx_ff T (4 * dd + p)) := by
      rw [hf2, hg2]
      exact z_abs_off (by omega) (by omega)
    refine wp_iload4 20 rfl dX5_polish_18 ?_
    refine wp_iconst (nI 4) 21 rfl dX5_polish_20 (by decide) ?_
    refine wp_icmp_ge 24 56 rfl rfl dX5_polish_21 (fun c21 => absurd c21 (nI_ge hp (by decide))) (fun c21 => ?_)
    refine wp_aload0 25 rfl dX5_polish_24 ?_
    refine wp_getr 28 rfl dX5_polish_25 fX5_32_6 (o6 ht) (p6_10 ht) ?_
    refine wp_iload4 30 rfl dX5_polish_28 ?_
    refine wp_aload0 31 rfl dX5_polish_30 ?_
    refine wp_getr 34 rfl dX5_polish_31 fX5_11_6 (o6 ht) (p6_0 ht) ?_
    refine wp_iload2 35 rfl dX5_polish_34 ?_
    refine wp_aald (t := 10) 36 rfl dX5_polish_35 (by decide) rfl rfl (s6_0 ht) (dd) (by first | rfl | simp only [pk_mul, nI_add]) (⟨by omega, by decide⟩) (e6_0 ht (by omega)) ?_
    refine wp_iload4 38 rfl dX5_polish_36 ?_
    refine wp_iald 39 rfl dX5_polish_38 (i6_0 ht (by omega)) (p) (by first | rfl | simp only [pk_mul, nI_add]) (⟨by omega, by decide⟩) ?_
    refine wp_aload3 40 rfl dX5_polish_39 ?_
    refine wp_iload4 42 rfl dX5_polish_40 ?_
    refine wp_iald 43 rfl dX5_polish_42 (hcF.1) (p) (by first | rfl | simp only [pk_mul, nI_add]) (⟨by omega, by decide⟩) ?_
    rw [hJ.1 dd p (by omega) hp, (hcF1.2.2 p hp).1]
    refine wp_isub 44 rfl dX5_polish_43 ?_
    refine wp_mabs 47 rfl dX5_polish_44 q1246 (nl rfl) ?_
    show sm_V G xX5_polish (d + 3) 47 _ (.int (z_abs (w (4 * dd + p) - tx_ff T (4 * dd + p))) :: _) J ρ _
    rw [eap]
    refine wp_iconst (nI 2) 48 rfl dX5_polish_47 (by decide) ?_
    refine wp_idiv 49 rfl dX5_polish_48 (by decide) ?_
    refine wp_iast 50 rfl dX5_polish_49 (s6_10 ht) (p) (by first | rfl | simp only [pk_mul, nI_add]) (⟨by omega, by decide⟩) ?_
    refine wp_iincN4 53 rfl dX5_polish_50 (by decide) rfl ?_
    refine wp_goto 18 rfl dX5_polish_53 ?_
    refine ih _ (hf.tr (cf.u List.mem_cons_self)) (fun k hk4 => ?_)
    by_cases e : k = p
    · rw [e, sm_u_eq, pk_us]
    · rw [sm_u_eq, pk_un e]
      exact hmo k (by omega)
theorem wok_wear1 (hw : wok w) (hk : tok T) {dd : Nat} (hd : dd < tx_D T) : wok (r_fcs (r_wearF T w dd) w dd 4) := by
  have hd6 : tx_D T ≤ 6 := hk.1.1
  exact wok_fcs hw (by omega) (fun k hk4 => (z_go (hw.1 _ (by omega)) (hk.2.2.1 _ (by omega))).1) 4 (Nat.le_refl _)
theorem s_cwears (ht : td ρ b) (hb : 79 ≤ b ∧ b ≤ 882) (hR : tR I b w s) (hw : wok w) (hT : cT I ρ tp q T) (hk : tok T) {dd : Nat} (hd : dd < tx_D T) :
    sm_M G xX5_wears (d + 404) [.ref b, .ref tp, .int (nI dd)] I ρ (sm_Qv (fun I1 ρ1 => ρ1 = ρ ∧ cf (tWs b) I I1 ∧ tR I1 b (r_fcs (r_wearF T w dd) w dd 4) s)) := by
  show sm_V G xX5_wears (d + 404) 0 [.ref b, .ref tp, .int (nI dd), .retAddr 0, .retAddr 0] [] I ρ _
  have hd6 : tx_D T ≤ 6 := hk.1.1
  have hC := cT_d hT
  have hF := cT_df hT hd
  refine wp_aload1 1 rfl dX5_wears_0 ?_
  refine wp_getr 4 rfl dX5_wears_1 fX5_42_5 (o5 hT) (p5_0 hT) ?_
  refine wp_iload2 5 rfl dX5_wears_4 ?_
  refine wp_Ve1 8 rfl dX5_wears_5 kJ5_get lX5_54 (o18 (cT_d hT)) (nl rfl) (nl rfl) (s_get (d := d + 401) hC hd) ?_
  refine wp_cast 11 rfl dX5_wears_8 caX5_58_15 (o15 hF) ?_
  refine wp_getr 14 rfl dX5_wears_11 fX5_60_15 (o15 hF) (p15_1 hF) ?_
  refine wp_astore3 15 rfl dX5_wears_14 (by decide) rfl ?_
  refine wp_iconst (nI 0) 16 rfl dX5_wears_15 (by decide) ?_
  refine wp_istore4 18 rfl dX5_wears_16 (by decide) rfl ?_
  refine sm_for (P := fun p => ∀ J : sm_I, cf [b + 13, b + 14, b + 15] I J → (∀ k, k < p → J (b + 13) k = r_wears T w dd k) → sm_V G xX5_wears (d + 404) 18 [.ref b, .ref tp, .int (nI dd), .ref (q.2.2.1 dd), .int (nI p)] [] J ρ _) 0 4 (nl rfl) ?_ (fun p _ hp ih => ?_) I cf.rf (fun k h => absurd h (Nat.not_lt_zero _))
  · intro J hf hmo
    have hJ : tR J b w s := hR.scr hf (fun a ha => by
      have : a = b + 13 ∨ a = b + 14 ∨ a = b + 15 := by simpa using ha
      omega)
    have hT1 := hT.kept (hf.T (tW13 hb))
    have hcF := cFc_d hT1 hk hd
    refine wp_iload4 20 rfl dX5_wears_18 ?_
    refine wp_iconst (nI 4) 21 rfl dX5_wears_20 (by decide) ?_
    refine wp_icmp_ge 24 49 rfl rfl dX5_wears_21 (fun c21 => ?_) (fun c21 => absurd (nI_le (Nat.le_refl 4) (by decide)) c21)
    refine wp_aload0 50 rfl dX5_wears_49 ?_
    refine wp_iload2 51 rfl dX5_wears_50 ?_
    refine wp_aload3 52 rfl dX5_wears_51 ?_
    refine wp_Vv2 55 rfl dX5_wears_52 kX5_goAll lX5_143 (o6 ht) (nl rfl) (nl rfl) (s_goAll (d := d + 401) ht hJ hb hcF (by omega) (fun k => r_wears T w dd k) hmo (fun k hk4 => hw.1 _ (by omega)) (fun k hk4 he => (z_go (hw.1 _ (by omega)) (hk.2.2.1 _ (by omega))).2 he)) (fun J2 ρ1 hq => ?_)
    obtain ⟨e1, f2, hR2⟩ := hq
    have e1 := e1.symm
    subst e1
    refine wp_vret dX5_wears_55 rfl ?_
    refine ⟨rfl, rfl, (hf.s (fun a ha => by
      have : a = b + 13 ∨ a = b + 14 ∨ a = b + 15 := by simpa using ha
      omega)).tr (f2.s (fun a ha => by
      have : a = b + 2 + dd := by simpa using ha
      omega)), hR2⟩
  · intro J hf hmo
    have hJ : tR J b w s := hR.scr hf (fun a ha => by
      have : a = b + 13 ∨ a = b + 14 ∨ a = b + 15 := by simpa using ha
      omega)
    have hT1 := hT.kept (hf.T (tW13 hb))
    have hcF := cFc_d hT1 hk hd
    refine wp_iload4 20 rfl dX5_wears_18 ?_
    refine wp_iconst (nI 4) 21 rfl dX5_wears_20 (by decide) ?_
    refine wp_icmp_ge 24 49 rfl rfl dX5_wears_21 (fun c21 => absurd c21 (nI_ge hp (by decide))) (fun c21 => ?_)
    refine wp_aload0 25 rfl dX5_wears_24 ?_
    refine wp_getr 28 rfl dX5_wears_25 fX5_32_6 (o6 ht) (p6_10 ht) ?_
    refine wp_iload4 30 rfl dX5_wears_28 ?_
    refine wp_aload0 31 rfl dX5_wears_30 ?_
    refine wp_aload1 32 rfl dX5_wears_31 ?_
    refine wp_iconst (nI 1) 33 rfl dX5_wears_32 (by decide) ?_
    refine wp_iload2 34 rfl dX5_wears_33 ?_
    refine wp_iload4 36 rfl dX5_wears_34 ?_
    refine wp_iload2 37 rfl dX5_wears_36 ?_
    refine wp_aload3 38 rfl dX5_wears_37 ?_
    refine wp_iconst (nI 0) 39 rfl dX5_wears_38 (by decide) ?_
    refine wp_Vi7 42 rfl dX5_wears_39 kX5_muchBy lX5_126 (o6 ht) (nl rfl) (nl rfl) (s_muchBy (d := d) ht hb hJ hw hT1 hk hcF (law := 1) (by decide) (by omega) hp (nI dd) (own := 0) (by decide)) (fun v J1 ρ1 hq => ?_)
    obtain ⟨e1, f1, e2⟩ := hq
    have e1 := e1.symm
    subst e1
    have e2 : v = r_wears T w dd p := e2
    subst e2
    refine wp_iast 43 rfl dX5_wears_42 (s6_10 ht) (p) (by first | rfl | simp only [pk_mul, nI_add]) (⟨by omega, by decide⟩) ?_
    refine wp_iincN4 46 rfl dX5_wears_43 (by decide) rfl ?_
    refine wp_goto 18 rfl dX5_wears_46 ?_
    refine ih _ ((hf.tr (f1.wk (by simp))).tr (cf.u (by simp))) (fun k hk4 => ?_)
    by_cases e : k = p
    · rw [e, sm_u_eq, pk_us]
    · rw [sm_u_eq, pk_un e, f1 (b + 13) (by simp)]
      exact hmo k (by omega)
theorem s_cisDue (hT : cT I ρ tp q T) (hk : tok T) {r : Nat} (hr : r < tx_R T) (day : Int32) : sm_M G xX19_isDue d [.ref (q.2.2.2.2.2 r), .int day] I ρ (sm_Qe (some (.int (z_b (z_due (tx_fr T r) (tx_ev T r) day)))) I ρ) := by
  show sm_V G xX19_isDue d 0 [.ref (q.2.2.2.2.2 r), .int day] [] I ρ _
  have hQ := cT_rr hT hr
  obtain ⟨-, -, h3, h4⟩ := hQ.2
  obtain ⟨e, e1, e2, e3⟩ := (hk.2.2.2.1 r hr).2.2.1
  have hne : ¬ tx_ev T r = 0 := by
    rw [e3]
    exact nI_ne0 (by omega) (by omega)
  refine wp_iload1 1 rfl dX19_isDue_0 ?_
  refine wp_aload0 2 rfl dX19_isDue_1 ?_
  refine wp_geti 5 rfl dX19_isDue_2 fX19_7_17 (o17 hQ) ?_
  rw [h4]
  refine wp_icmp_lt 8 26 rfl rfl dX19_isDue_5 (fun c5 => ?_) (fun c5 => ?_)
  · refine wp_iconst (nI 0) 27 rfl dX19_isDue_26 (by decide) ?_
    refine wp_zret dX19_isDue_27 rfl (rfl) ?_
    exact sm_ei (z_bf (fun h => i_lt_le h.1 c5)).symm
  · refine wp_iload1 9 rfl dX19_isDue_8 ?_
    refine wp_aload0 10 rfl dX19_isDue_9 ?_
    refine wp_geti 13 rfl dX19_isDue_10 fX19_7_17 (o17 hQ) ?_
    rw [h4]
    refine wp_isub 14 rfl dX19_isDue_13 ?_
    refine wp_aload0 15 rfl dX19_isDue_14 ?_
    refine wp_geti 18 rfl dX19_isDue_15 fX19_13_17 (o17 hQ) ?_
    rw [h3]
    refine wp_irem 19 rfl dX19_isDue_18 (hne) ?_
    refine wp_if_ne 22 26 rfl rfl dX19_isDue_19 (fun c19 => ?_) (fun c19 => ?_)
    · refine wp_iconst (nI 0) 27 rfl dX19_isDue_26 (by decide) ?_
      refine wp_zret dX19_isDue_27 rfl (rfl) ?_
      exact sm_ei (z_bf (fun h => c19 h.2)).symm
    · refine wp_iconst (nI 1) 23 rfl dX19_isDue_22 (by decide) ?_
      refine wp_goto 27 rfl dX19_isDue_23 ?_
      refine wp_zret dX19_isDue_27 rfl (rfl) ?_
      exact sm_ei (z_bt ⟨i_nlt c5, c19⟩).symm
theorem s_still (x : Value) (hx : x.category = 1) : sm_M G xX9_blows d [.ref 243, .ref b, .ref tp] I ρ (sm_Qe none I ρ) := by
  show sm_V G xX9_blows d 0 [.ref 243, .ref b, .ref tp] [] I ρ _
  refine wp_vret dX9_blows_0 rfl ?_
  exact ⟨rfl, rfl, rfl⟩
theorem wok_blow1 {l : Int32} (hw : wok w) {dd : Nat} (hd : dd < 6) : wok (r_blow1 l w dd) := by
  obtain ⟨k, hk, e⟩ := z_lot_lt l (nI 16 * w 69 + nI 1 + nI dd) (n := 4) (by decide) (by decide)
  unfold r_blow1
  rw [e, nI_clamp (by omega)]
  obtain ⟨f, f1, f2⟩ := hw.1 (4 * dd + k) (by omega)
  by_cases h : w (4 * dd + k) ≤ 0
  · rw [if_pos h]
    exact hw
  · rw [if_neg h, f2]
    rw [f2] at h
    have h0 : 0 < f := by
      apply Nat.pos_of_ne_zero
      intro z
      rw [z] at h
      exact h (by decide)
    rw [pk_sub (by omega)]
    exact wok_f hw (by omega) (by omega)
theorem wok_blow {l : Int32} (hw : wok w) : ∀ n, n ≤ 6 → wok (r_blow l w n)
  | 0, _ => hw
  | n + 1, h => wok_blow1 (wok_blow hw n (by omega)) (by omega)
theorem r_blow_69 {l : Int32} (hw : wok w) : ∀ n, n ≤ 6 → r_blow l w n 69 = w 69
  | 0, _ => rfl
  | n + 1, h => by
    have ih := r_blow_69 (l := l) hw n (by omega)
    obtain ⟨k, hk, e⟩ := z_lot_lt l (nI 16 * r_blow l w n 69 + nI 1 + nI n) (n := 4) (by decide) (by decide)
    show r_blow1 l (r_blow l w n) n 69 = w 69
    unfold r_blow1
    rw [e, nI_clamp (by omega)]
    by_cases h9 : r_blow l w n (4 * n + k) ≤ 0
    · rw [if_pos h9]
      exact ih
    · rw [if_neg h9, pk_un (by omega)]
      exact ih
theorem s_drawn (ht : td ρ b) (hb : 79 ≤ b ∧ b ≤ 882) (hR : tR I b w s) (hw : wok w) (hT : cT I ρ tp q T) (hk : tok T) :
    sm_M G xX8_blows (d + 3) [.ref 242, .ref b, .ref tp] I ρ (sm_Qv (fun I1 ρ1 => ρ1 = ρ ∧ cf (tWs b) I I1 ∧ tR I1 b (if r_isW T s w then r_blow s w (tx_D T) else w) s)) := by
  show sm_V G xX8_blows (d + 3) 0 [.ref 242, .ref b, .ref tp, .retAddr 0, .retAddr 0] [] I ρ _
  have hd6 : tx_D T ≤ 6 := hk.1.1
  refine wp_aload1 1 rfl dX8_blows_0 ?_
  refine wp_aload2 2 rfl dX8_blows_1 ?_
  refine wp_Ve1 5 rfl dX8_blows_2 kX5_isWind lX8_9 (o6 ht) (nl rfl) (nl rfl) (s_cisWind (d := d) ht hR hT) ?_
  by_cases hW : r_isW T s w
  · rw [if_pos hW]
    refine wp_if_ne 8 9 rfl rfl dX8_blows_5 (fun c5 => ?_) (fun c5 => absurd c5 (z_b_ne.mpr hW))
    refine wp_iconst (nI 0) 10 rfl dX8_blows_9 (by decide) ?_
    refine wp_istore3 11 rfl dX8_blows_10 (by decide) rfl ?_
    refine sm_for (P := fun p => ∀ J : sm_I, cf (tWs b) I J → tR J b (r_blow s w p) s → sm_V G xX8_blows (d + 3) 11 [.ref 242, .ref b, .ref tp, .int (nI p), .retAddr 0] [] J ρ _) 0 (tx_D T) (Nat.zero_le _) ?_ (fun p _ hp ih => ?_) I cf.rf hR
    · intro J hf hJ
      have hT1 := hT.kept (hf.T (tW_s hb))
      have hD := cT_d hT1
      refine wp_iload3 12 rfl dX8_blows_11 ?_
      refine wp_aload2 13 rfl dX8_blows_12 ?_
      refine wp_getr 16 rfl dX8_blows_13 fX8_15_5 (o5 hT1) (p5_0 hT1) ?_
      refine wp_Ve0 19 rfl dX8_blows_16 kJ5_size lX8_21 (o18 (cT_d hT1)) (nl rfl) (nl rfl) (s_size hD) ?_
      refine wp_icmp_ge 22 73 rfl rfl dX8_blows_19 (fun c19 => ?_) (fun c19 => absurd (nI_le (Nat.le_refl _) (by omega)) c19)
      refine wp_vret dX8_blows_73 rfl ?_
      exact ⟨rfl, rfl, hf, hJ⟩
    · intro J hf hJ
      have hT1 := hT.kept (hf.T (tW_s hb))
      have hD := cT_d hT1
      have hwp := wok_blow (l := s) hw p (by omega)
      obtain ⟨k, hk4, ek⟩ := z_lot_lt s (nI 16 * r_blow s w p 69 + nI 1 + nI p) (n := 4) (by decide) (by decide)
      obtain ⟨f, f1, f2⟩ := hwp.1 (4 * p + k) (by omega)
      have eface : J (b + 2 + p) k = r_blow s w p (4 * p + k) := hJ.1 p k (by omega) hk4
      have e1 : r_blow s w (p + 1) = upd (r_blow s w p) (4 * p + k) (z_max (nI 0) (r_blow s w p (4 * p + k) - nI 1)) := by
        show r_blow1 s (r_blow s w p) p = _
        unfold r_blow1
        rw [ek, nI_clamp (by omega), f2]
        by_cases h0 : f = 0
        · subst h0
          rw [if_pos (by decide), show z_max (nI 0) (nI 0 - nI 1) = nI 0 by decide]
          funext j
          by_cases e : j = 4 * p + k
          · rw [e, pk_us, f2]
          · rw [pk_un e]
        · rw [if_neg (nI_nle (by omega) (by omega)), pk_sub (by omega)]
          congr 1
          show nI (f - 1) = if nI 0 < nI (f - 1) then nI (f - 1) else nI 0
          by_cases h1 : f = 1
          · subst h1
            rfl
          · rw [if_pos (nI_lt (by omega) (by omega))]
      refine wp_iload3 12 rfl dX8_blows_11 ?_
      refine wp_aload2 13 rfl dX8_blows_12 ?_
      refine wp_getr 16 rfl dX8_blows_13 fX8_15_5 (o5 hT1) (p5_0 hT1) ?_
      refine wp_Ve0 19 rfl dX8_blows_16 kJ5_size lX8_21 (o18 (cT_d hT1)) (nl rfl) (nl rfl) (s_size hD) ?_
      refine wp_icmp_ge 22 73 rfl rfl dX8_blows_19 (fun c19 => absurd c19 (nI_ge hp (by omega))) (fun c19 => ?_)
      refine wp_aload1 23 rfl dX8_blows_22 ?_
      refine wp_geti 26 rfl dX8_blows_23 fX8_27_6 (o6 ht) ?_
      refine wp_bipush (nI 16) 28 rfl dX8_blows_26 (by decide) ?_
      refine wp_aload1 29 rfl dX8_blows_28 ?_
      refine wp_geti 32 rfl dX8_blows_29 fX8_31_6 (o6 ht) ?_
      refine wp_imul 33 rfl dX8_blows_32 ?_
      refine wp_iconst (nI 1) 34 rfl dX8_blows_33 (by decide) ?_
      refine wp_iadd 35 rfl dX8_blows_34 ?_
      refine wp_iload3 36 rfl dX8_blows_35 ?_
      refine wp_iadd 37 rfl dX8_blows_36 ?_
      refine wp_iconst (nI 4) 38 rfl dX8_blows_37 (by decide) ?_
      rw [hJ.2.2.2.2.2.1, hJ.2.2.2.2.2.2]
      refine wp_SNe3 41 rfl dX8_blows_38 kX0_lot lX8_34 (nl rfl) (nl rfl) (s_lot _ _ _ (by decide)) ?_
      show sm_V G xX8_blows (d + 3) 41 _ [.int (z_lot s (nI 16 * r_blow s w p 69 + nI 1 + nI p) (nI 4))] J ρ _
      rw [ek]
      refine wp_istore4 43 rfl dX8_blows_41 (by decide) rfl ?_
      refine wp_aload1 44 rfl dX8_blows_43 ?_
      refine wp_getr 47 rfl dX8_blows_44 fX8_38_6 (o6 ht) (p6_0 ht) ?_
      refine wp_iload3 48 rfl dX8_blows_47 ?_
      refine wp_aald (t := 10) 49 rfl dX8_blows_48 (by decide) rfl rfl (s6_0 ht) (p) (by first | rfl | simp only [pk_mul, nI_add]) (⟨by omega, by decide⟩) (e6_0 ht (by omega)) ?_
      refine wp_iload4 51 rfl dX8_blows_49 ?_
      refine wp_iconst (nI 0) 52 rfl dX8_blows_51 (by decide) ?_
      refine wp_aload1 53 rfl dX8_blows_52 ?_
      refine wp_getr 56 rfl dX8_blows_53 fX8_38_6 (o6 ht) (p6_0 ht) ?_
      refine wp_iload3 57 rfl dX8_blows_56 ?_
      refine wp_aald (t := 10) 58 rfl dX8_blows_57 (by decide) rfl rfl (s6_0 ht) (p) (by first | rfl | simp only [pk_mul, nI_add]) (⟨by omega, by decide⟩) (e6_0 ht (by omega)) ?_
      refine wp_iload4 60 rfl dX8_blows_58 ?_
      refine wp_iald 61 rfl dX8_blows_60 (i6_0 ht (by omega)) (k) (by first | rfl | simp only [pk_mul, nI_add]) (⟨by omega, by decide⟩) ?_
      rw [eface]
      refine wp_iconst (nI 1) 62 rfl dX8_blows_61 (by decide) ?_
      refine wp_isub 63 rfl dX8_blows_62 ?_
      refine wp_mmax 66 rfl dX8_blows_63 q1335 (nl rfl) ?_
      show sm_V G xX8_blows (d + 3) 66 _ (.int (z_max (nI 0) (r_blow s w p (4 * p + k) - nI 1)) :: _) J ρ _
      refine wp_iast 67 rfl dX8_blows_66 (i6_0 ht (by omega)) (k) (by first | rfl | simp only [pk_mul, nI_add]) (⟨by omega, by decide⟩) ?_
      refine wp_iincN3 70 rfl dX8_blows_67 (by decide) rfl ?_
      refine wp_goto 11 rfl dX8_blows_70 ?_
      refine wp_weakK (ih _ (hf.tr (cf.su (by omega))) ?_) ⟨Or.inr rfl, Or.inr rfl, Or.inr rfl, Or.inr rfl, Or.inl rfl, trivial⟩
      rw [e1]
      exact hJ.face (by omega) hk4 _
  · rw [if_neg hW]
    refine wp_if_ne 8 9 rfl rfl dX8_blows_5 (fun c5 => absurd (z_b_eq.mpr hW) c5) (fun c5 => ?_)
    refine wp_vret dX8_blows_8 rfl ?_
    exact ⟨rfl, rfl, cf.rf, hR⟩
end C9
