/-! ===== towns: a day, whole; takes, begins ===== -/
set_option maxRecDepth 100000
section C11
variable {G : sm_G} {d : Nat} {I : sm_I} {ρ : sm_R} {tp : Nat} {q : tq4} {T : tx} {b : Nat} {w : Nat → Int32} {s : Int32}
theorem s_goesBy (hK : kd ρ) (ht : td ρ b) (hb : 79 ≤ b ∧ b ≤ 882) (hR : tR I b w s) (hw : wok w) (hz : wkT T w) (hT : cT I ρ tp q T) (hk : tok T) {k : Nat} {st : Int32} (hsk : cSk k st) :
    sm_M G xX5_goesBy (d + 406) [.ref b, .ref tp, .ref k] I ρ (sm_Qv (fun I1 ρ1 => ρ1 = ρ ∧ cf (tWs b) I I1 ∧ tR I1 b (r_day T st s w) s)) := by
  show sm_V G xX5_goesBy (d + 406) 0 [.ref b, .ref tp, .ref k, .retAddr 0] [] I ρ _
  have hd6 : tx_D T ≤ 6 := hk.1.1
  have hr10 : tx_R T ≤ 10 := hk.1.2.2
  refine wp_iconst (nI 0) 1 rfl dX5_goesBy_0 (by decide) ?_
  refine wp_istore3 2 rfl dX5_goesBy_1 (by decide) rfl ?_
  refine sm_for (P := fun p => ∀ J : sm_I, cf (tWs b) I J → tR J b (r_rnd T w p) s → sm_V G xX5_goesBy (d + 406) 2 [.ref b, .ref tp, .ref k, .int (nI p)] [] J ρ _) 0 (tx_R T) (Nat.zero_le _) ?_ (fun p _ hp ih => ?_) I cf.rf hR
  · intro J hf hJ
    have hT1 := hT.kept (hf.T (tW_s hb))
    obtain ⟨a1, a2⟩ := wkT_rnd hw hz hk (tx_R T) (Nat.le_refl _)
    obtain ⟨bw, hbw⟩ : ∃ bw, bw = if st = nI 0 ∧ r_isW T s (r_rnd T w (tx_R T)) then r_blow s (r_rnd T w (tx_R T)) (tx_D T) else r_rnd T w (tx_R T) := ⟨_, rfl⟩
    have hbk : wok bw ∧ wkT T bw := by
      rw [hbw]
      by_cases q : st = nI 0 ∧ r_isW T s (r_rnd T w (tx_R T))
      · rw [if_pos q]
        exact ⟨wok_blow a1 _ hd6, wkT_blow a1 a2 _ hd6⟩
      · rw [if_neg q]
        exact ⟨a1, a2⟩
    have behind : ∀ J1 : sm_I, cf (tWs b) I J1 → tR J1 b bw s → sm_V G xX5_goesBy (d + 406) 87 [.ref b, .ref tp, .ref k, .int (nI (tx_R T))] [] J1 ρ (sm_Qv (fun I1 ρ1 => ρ1 = ρ ∧ cf (tWs b) I I1 ∧ tR I1 b (r_day T st s w) s)) := by
      intro J1 hf1 hJ1
      refine wp_iconst (nI 0) 88 rfl dX5_goesBy_87 (by decide) ?_
      refine wp_istore3 89 rfl dX5_goesBy_88 (by decide) rfl ?_
      refine sm_for (P := fun p => ∀ J : sm_I, cf (tWs b) I J → tR J b (r_wear T bw p) s → sm_V G xX5_goesBy (d + 406) 89 [.ref b, .ref tp, .ref k, .int (nI p)] [] J ρ _) 0 (tx_D T) (Nat.zero_le _) ?_ (fun p _ hp ih => ?_) J1 hf1 hJ1
      · intro J2 hf2 hJ2
        have hT2 := hT.kept (hf2.T (tW_s hb))
        refine wp_iload3 90 rfl dX5_goesBy_89 ?_
        refine wp_aload1 91 rfl dX5_goesBy_90 ?_
        refine wp_getr 94 rfl dX5_goesBy_91 fX5_42_5 (o5 hT2) (p5_0 hT2) ?_
        refine wp_Ve0 97 rfl dX5_goesBy_94 kJ5_size lX5_48 (o18 (cT_d hT2)) (nl rfl) (nl rfl) (s_size (cT_d hT2)) ?_
        refine wp_icmp_ge 100 112 rfl rfl dX5_goesBy_97 (fun c97 => ?_) (fun c97 => absurd (nI_le (Nat.le_refl _) (by omega)) c97)
        obtain ⟨c1, c2⟩ := wkT_wear hbk.1 hbk.2 hk (tx_D T) (Nat.le_refl _)
        have e : r_day T st s w = upd (r_idle (r_wear T bw (tx_D T)) (tx_D T)) 69 (r_idle (r_wear T bw (tx_D T)) (tx_D T) 69 + nI 1) := by
          rw [hbw]
          rfl
        rw [e]
        exact wp_weakK (gb_idle ht hb J2 hf2 hJ2 c1 c2 hT hk k) ⟨Or.inr rfl, Or.inr rfl, Or.inr rfl, Or.inl rfl, trivial⟩
      · intro J2 hf2 hJ2
        have hT2 := hT.kept (hf2.T (tW_s hb))
        obtain ⟨c1, c2⟩ := wkT_wear hbk.1 hbk.2 hk p (by omega)
        refine wp_iload3 90 rfl dX5_goesBy_89 ?_
        refine wp_aload1 91 rfl dX5_goesBy_90 ?_
        refine wp_getr 94 rfl dX5_goesBy_91 fX5_42_5 (o5 hT2) (p5_0 hT2) ?_
        refine wp_Ve0 97 rfl dX5_goesBy_94 kJ5_size lX5_48 (o18 (cT_d hT2)) (nl rfl) (nl rfl) (s_size (cT_d hT2)) ?_
        refine wp_icmp_ge 100 112 rfl rfl dX5_goesBy_97 (fun c97 => absurd c97 (nI_ge hp (by omega))) (fun c97 => ?_)
        refine wp_aload0 101 rfl dX5_goesBy_100 ?_
        refine wp_aload1 102 rfl dX5_goesBy_101 ?_
        refine wp_iload3 103 rfl dX5_goesBy_102 ?_
        refine wp_Vv2 106 rfl dX5_goesBy_103 kX5_wears lX5_178 (o6 ht) (nl rfl) (nl rfl) (s_cwears (d := d + 1) ht hb hJ2 c1 hT2 hk hp) (fun J3 ρ1 hq => ?_)
        obtain ⟨e1, f3, hR3⟩ := hq
        have e1 := e1.symm
        subst e1
        refine wp_iincN3 109 rfl dX5_goesBy_106 (by decide) rfl ?_
        refine wp_goto 89 rfl dX5_goesBy_109 ?_
        exact ih J3 (hf2.tr f3) hR3
    refine wp_iload3 3 rfl dX5_goesBy_2 ?_
    refine wp_aload1 4 rfl dX5_goesBy_3 ?_
    refine wp_getr 7 rfl dX5_goesBy_4 fX5_62_5 (o5 hT1) (p5_2 hT1) ?_
    refine wp_Ve0 10 rfl dX5_goesBy_7 kJ5_size lX5_48 (o18 (cT_r hT1)) (nl rfl) (nl rfl) (s_size (cT_r hT1)) ?_
    refine wp_icmp_ge 13 81 rfl rfl dX5_goesBy_10 (fun c10 => ?_) (fun c10 => absurd (nI_le (Nat.le_refl _) (by omega)) c10)
    refine wp_aload2 82 rfl dX5_goesBy_81 ?_
    refine wp_aload0 83 rfl dX5_goesBy_82 ?_
    refine wp_aload1 84 rfl dX5_goesBy_83 ?_
    rcases hsk with ⟨e1, e2⟩ | ⟨e1, e2⟩
    · subst e1
      subst e2
      refine wp_Av2 87 rfl dX5_goesBy_84 kX8_blows lX5_172_8 (o8 hK) (nl rfl) (nl rfl) (s_drawn (d := d + 402) ht hb hJ a1 hT1 hk) (fun J1 ρ1 hq => ?_)
      obtain ⟨e1, f1, hR1⟩ := hq
      have e1 := e1.symm
      subst e1
      refine behind J1 (hf.tr f1) ?_
      rw [hbw]
      by_cases q : r_isW T s (r_rnd T w (tx_R T))
      · rw [if_pos q] at hR1
        rw [if_pos ⟨rfl, q⟩]
        exact hR1
      · rw [if_neg q] at hR1
        rw [if_neg (fun z => q z.2)]
        exact hR1
    · subst e1
      subst e2
      refine wp_Ae2 87 rfl dX5_goesBy_84 kX9_blows lX5_172_9 (o9 hK) (nl rfl) (nl rfl) (s_still .null rfl) ?_
      refine behind J hf ?_
      rw [hbw, if_neg (fun z => absurd z.1 (by decide))]
      exact hJ
  · intro J hf hJ
    have hT1 := hT.kept (hf.T (tW_s hb))
    obtain ⟨a1, a2⟩ := wkT_rnd hw hz hk p (by omega)
    have hQ := cT_rr hT1 hp
    have kr := hk.2.2.2.1 p hp
    have eR : r_rnd T w (p + 1) = if r_rnd T w p (54 + p) = nI 1 then (if z_due (tx_fr T p) (tx_ev T p) (r_rnd T w p 69) then r_lift T (r_rnd T w p) (tx_door T p) (tx_who T p) else r_rnd T w p) else r_rnd T w p := rfl
    have nextJ : ∀ J1, cf (tWs b) I J1 → tR J1 b (r_rnd T w (p + 1)) s → sm_V G xX5_goesBy (d + 406) 75 [.ref b, .ref tp, .ref k, .int (nI p)] [] J1 ρ (sm_Qv (fun I1 ρ1 => ρ1 = ρ ∧ cf (tWs b) I I1 ∧ tR I1 b (r_day T st s w) s)) := by
      intro J1 hf1 hJ1
      refine wp_iincN3 78 rfl dX5_goesBy_75 (by decide) rfl ?_
      refine wp_goto 2 rfl dX5_goesBy_78 ?_
      exact ih J1 hf1 hJ1
    refine wp_iload3 3 rfl dX5_goesBy_2 ?_
    refine wp_aload1 4 rfl dX5_goesBy_3 ?_
    refine wp_getr 7 rfl dX5_goesBy_4 fX5_62_5 (o5 hT1) (p5_2 hT1) ?_
    refine wp_Ve0 10 rfl dX5_goesBy_7 kJ5_size lX5_48 (o18 (cT_r hT1)) (nl rfl) (nl rfl) (s_size (cT_r hT1)) ?_
    refine wp_icmp_ge 13 81 rfl rfl dX5_goesBy_10 (fun c10 => absurd c10 (nI_ge hp (by omega))) (fun c10 => ?_)
    refine wp_aload0 14 rfl dX5_goesBy_13 ?_
    refine wp_iload3 15 rfl dX5_goesBy_14 ?_
    refine wp_Ve1 18 rfl dX5_goesBy_15 kX5_isKept lX5_153 (o6 ht) (nl rfl) (nl rfl) (s_isKept ht hJ (by omega)) ?_
    by_cases h1 : r_rnd T w p (54 + p) = nI 1
    · rw [if_pos h1] at eR
      refine wp_if_eq 21 75 rfl rfl dX5_goesBy_18 (fun c18 => absurd c18 (z_b_ne.mpr h1)) (fun c18 => ?_)
      refine wp_aload1 22 rfl dX5_goesBy_21 ?_
      refine wp_getr 25 rfl dX5_goesBy_22 fX5_62_5 (o5 hT1) (p5_2 hT1) ?_
      refine wp_iload3 26 rfl dX5_goesBy_25 ?_
      refine wp_Ve1 29 rfl dX5_goesBy_26 kJ5_get lX5_54 (o18 (cT_r hT1)) (nl rfl) (nl rfl) (s_get (cT_r hT1) (hp)) ?_
      refine wp_cast 32 rfl dX5_goesBy_29 caX5_157_17 (o17 (cT_rr hT1 (hp))) ?_
      refine wp_aload0 33 rfl dX5_goesBy_32 ?_
      refine wp_geti 36 rfl dX5_goesBy_33 fX5_72_6 (o6 ht) ?_
      rw [hJ.2.2.2.2.2.1]
      refine wp_Ve1 39 rfl dX5_goesBy_36 kX19_isDue lX5_159 (o17 hQ) (nl rfl) (nl rfl) (s_cisDue hT1 hk hp _) ?_
      by_cases h2 : z_due (tx_fr T p) (tx_ev T p) (r_rnd T w p 69)
      · rw [if_pos h2] at eR
        refine wp_if_eq 42 75 rfl rfl dX5_goesBy_39 (fun c39 => absurd c39 (z_b_ne.mpr h2)) (fun c39 => ?_)
        refine wp_aload0 43 rfl dX5_goesBy_42 ?_
        refine wp_aload1 44 rfl dX5_goesBy_43 ?_
        refine wp_aload1 45 rfl dX5_goesBy_44 ?_
        refine wp_getr 48 rfl dX5_goesBy_45 fX5_62_5 (o5 hT1) (p5_2 hT1) ?_
        refine wp_iload3 49 rfl dX5_goesBy_48 ?_
        refine wp_Ve1 52 rfl dX5_goesBy_49 kJ5_get lX5_54 (o18 (cT_r hT1)) (nl rfl) (nl rfl) (s_get (cT_r hT1) (hp)) ?_
        refine wp_cast 55 rfl dX5_goesBy_52 caX5_157_17 (o17 (cT_rr hT1 (hp))) ?_
        refine wp_geti 58 rfl dX5_goesBy_55 fX5_162_17 (o17 (cT_rr hT1 (hp))) ?_
        rw [hQ.2.2.1]
        refine wp_aload1 59 rfl dX5_goesBy_58 ?_
        refine wp_getr 62 rfl dX5_goesBy_59 fX5_62_5 (o5 hT1) (p5_2 hT1) ?_
        refine wp_iload3 63 rfl dX5_goesBy_62 ?_
        refine wp_Ve1 66 rfl dX5_goesBy_63 kJ5_get lX5_54 (o18 (cT_r hT1)) (nl rfl) (nl rfl) (s_get (cT_r hT1) (hp)) ?_
        refine wp_cast 69 rfl dX5_goesBy_66 caX5_157_17 (o17 (cT_rr hT1 (hp))) ?_
        refine wp_geti 72 rfl dX5_goesBy_69 fX5_165_17 (o17 (cT_rr hT1 (hp))) ?_
        rw [hQ.2.1]
        refine wp_Vv3 75 rfl dX5_goesBy_72 kX5_lift lX5_168 (o6 ht) (nl rfl) (nl rfl) (s_clift (d := d) ht hb hJ a1 hT1 hk (by omega) kr.1) (fun J1 ρ1 hq => ?_)
        obtain ⟨e1, f1, hR1⟩ := hq
        have e1 := e1.symm
        subst e1
        exact nextJ J1 (hf.tr f1) (by rw [eR]; exact hR1)
      · rw [if_neg h2] at eR
        refine wp_if_eq 42 75 rfl rfl dX5_goesBy_39 (fun c39 => ?_) (fun c39 => absurd (z_b_eq.mpr h2) c39)
        exact nextJ J hf (by rw [eR]; exact hJ)
    · rw [if_neg h1] at eR
      refine wp_if_eq 21 75 rfl rfl dX5_goesBy_18 (fun c18 => ?_) (fun c18 => absurd (z_b_eq.mpr h1) c18)
      exact nextJ J hf (by rw [eR]; exact hJ)
theorem s_ccopies {a c n : Nat} (ha : ρ.2.2.1 a = (100, n)) (hc : ρ.2.2.1 c = (100, n)) (hn : n < 1000) : sm_M G xX5_copies (d + 1) [.ref a, .ref c] I ρ (sm_Qv (fun I1 ρ1 => ρ1 = ρ ∧ cf [c] I I1 ∧ ∀ j, j < n → I1 c j = I a j)) := by
  show sm_V G xX5_copies (d + 1) 0 [.ref a, .ref c] [] I ρ _
  refine wp_aload0 1 rfl dX5_copies_0 ?_
  refine wp_iconst (nI 0) 2 rfl dX5_copies_1 (by decide) ?_
  refine wp_aload1 3 rfl dX5_copies_2 ?_
  refine wp_iconst (nI 0) 4 rfl dX5_copies_3 (by decide) ?_
  refine wp_aload0 5 rfl dX5_copies_4 ?_
  refine wp_alen (t := 0) 6 rfl dX5_copies_5 rfl (ha) ?_
  refine wp_copy (t := 0) (ty := .int) (sp := 0) (dp := 0) (z := n) 9 rfl dX5_copies_6 q1262 (nl rfl) (by decide) rfl rfl ha hc rfl rfl rfl (by omega) (by omega) (by omega) (fun i hi => rfl) ?_
  refine wp_vret dX5_copies_9 rfl ?_
  refine ⟨rfl, rfl, fun x hx => if_neg (fun e => hx (by rw [e]; exact List.mem_cons_self)), fun j hj => ?_⟩
  show (if c = c then va_cpy (I a) (I c) 0 0 n else I c) j = I a j
  rw [if_pos rfl, pk_cpy_in (by omega) (by omega)]
  congr 1
  omega
theorem s_takes {b2 : Nat} (ht : td ρ b) (ht2 : td ρ b2) (hne : b + 16 ≤ b2 ∨ b2 + 16 ≤ b) (hR : tR I b2 w s) : sm_M G xX5_takes (d + 2) [.ref b, .ref b2] I ρ (sm_Qv (fun I1 ρ1 => ρ1 = ρ ∧ cf (tWs b) I I1 ∧ tR I1 b w s)) := by
  show sm_V G xX5_takes (d + 2) 0 [.ref b, .ref b2, .retAddr 0] [] I ρ _
  have far : ∀ {J : sm_I}, cf (tWs b) I J → ∀ k, k < 16 → J (b2 + k) = I (b2 + k) := fun {J} h k hk => h _ (fun z => by
    have := tWs_mem.mp z
    omega)
  have one : ∀ {J J1 : sm_I} {x : Nat}, cf (tWs b) I J → cf [b + x] J J1 → x < 16 → cf (tWs b) I J1 := fun {J J1 x} h1 h2 hx => h1.tr (h2.s (fun a ha => by
    have : a = b + x := by simpa using ha
    omega))
  refine wp_iconst (nI 0) 1 rfl dX5_takes_0 (by decide) ?_
  refine wp_istore2 2 rfl dX5_takes_1 (by decide) rfl ?_
  refine sm_for (P := fun p => ∀ J : sm_I, cf (tWs b) I J → (∀ dd k, dd < p → k < 4 → J (b + 2 + dd) k = w (4 * dd + k)) → sm_V G xX5_takes (d + 2) 2 [.ref b, .ref b2, .int (nI p)] [] J ρ _) 0 6 (nl rfl) ?_ (fun p _ hp ih => ?_) I cf.rf (fun dd k h => absurd h (Nat.not_lt_zero _))
  · intro J0 f0 g0
    obtain ⟨-, h2, h3, h4, h5, h6, h7⟩ := hR
    refine wp_iload2 3 rfl dX5_takes_2 ?_
    refine wp_bipush (nI 6) 5 rfl dX5_takes_3 (by decide) ?_
    refine wp_icmp_ge 8 29 rfl rfl dX5_takes_5 (fun c5 => ?_) (fun c5 => absurd (by decide) c5)
    refine wp_aload1 30 rfl dX5_takes_29 ?_
    refine wp_getr 33 rfl dX5_takes_30 fX5_16_6 (o6 ht2) (p6_1 ht2) ?_
    refine wp_aload0 34 rfl dX5_takes_33 ?_
    refine wp_getr 37 rfl dX5_takes_34 fX5_16_6 (o6 ht) (p6_1 ht) ?_
    refine wp_Sv2 40 rfl dX5_takes_37 kX5_copies lX5_85 (nl rfl) (nl rfl) (s_ccopies (s6_1 ht2) (s6_1 ht) (by decide)) (fun J1 ρ1 hq => ?_)
    obtain ⟨e1, f1, g1⟩ := hq
    have e1 := e1.symm
    subst e1
    refine wp_aload1 41 rfl dX5_takes_40 ?_
    refine wp_getr 44 rfl dX5_takes_41 fX5_20_6 (o6 ht2) (p6_2 ht2) ?_
    refine wp_aload0 45 rfl dX5_takes_44 ?_
    refine wp_getr 48 rfl dX5_takes_45 fX5_20_6 (o6 ht) (p6_2 ht) ?_
    refine wp_Sv2 51 rfl dX5_takes_48 kX5_copies lX5_85 (nl rfl) (nl rfl) (s_ccopies (s6_2 ht2) (s6_2 ht) (by decide)) (fun J2 ρ1 hq => ?_)
    obtain ⟨e1, f2, g2⟩ := hq
    have e1 := e1.symm
    subst e1
    refine wp_aload1 52 rfl dX5_takes_51 ?_
    refine wp_getr 55 rfl dX5_takes_52 fX5_23_6 (o6 ht2) (p6_3 ht2) ?_
    refine wp_aload0 56 rfl dX5_takes_55 ?_
    refine wp_getr 59 rfl dX5_takes_56 fX5_23_6 (o6 ht) (p6_3 ht) ?_
    refine wp_Sv2 62 rfl dX5_takes_59 kX5_copies lX5_85 (nl rfl) (nl rfl) (s_ccopies (s6_3 ht2) (s6_3 ht) (by decide)) (fun J3 ρ1 hq => ?_)
    obtain ⟨e1, f3, g3⟩ := hq
    have e1 := e1.symm
    subst e1
    refine wp_aload1 63 rfl dX5_takes_62 ?_
    refine wp_getr 66 rfl dX5_takes_63 fX5_26_6 (o6 ht2) (p6_4 ht2) ?_
    refine wp_aload0 67 rfl dX5_takes_66 ?_
    refine wp_getr 70 rfl dX5_takes_67 fX5_26_6 (o6 ht) (p6_4 ht) ?_
    refine wp_Sv2 73 rfl dX5_takes_70 kX5_copies lX5_85 (nl rfl) (nl rfl) (s_ccopies (s6_4 ht2) (s6_4 ht) (by decide)) (fun J4 ρ1 hq => ?_)
    obtain ⟨e1, f4, g4⟩ := hq
    have e1 := e1.symm
    subst e1
    refine wp_aload1 74 rfl dX5_takes_73 ?_
    refine wp_getr 77 rfl dX5_takes_74 fX5_29_6 (o6 ht2) (p6_5 ht2) ?_
    refine wp_aload0 78 rfl dX5_takes_77 ?_
    refine wp_getr 81 rfl dX5_takes_78 fX5_29_6 (o6 ht) (p6_5 ht) ?_
    refine wp_Sv2 84 rfl dX5_takes_81 kX5_copies lX5_85 (nl rfl) (nl rfl) (s_ccopies (s6_5 ht2) (s6_5 ht) (by decide)) (fun J5 ρ1 hq => ?_)
    obtain ⟨e1, f5, g5⟩ := hq
    have e1 := e1.symm
    subst e1
    have F1 := one f0 f1 (by decide)
    have F2 := one F1 f2 (by decide)
    have F3 := one F2 f3 (by decide)
    have F4 := one F3 f4 (by decide)
    have F5 := one F4 f5 (by decide)
    have eb2 : ∀ {J : sm_I}, cf (tWs b) I J → J b2 = I b2 := fun {J} h => h _ (fun z => by
      have := tWs_mem.mp z
      omega)
    have st : ∀ {J J1 : sm_I} {x y : Nat}, cf [b + x] J J1 → ¬ y = x → J1 (b + y) = J (b + y) := fun {J J1 x y} h hne => h _ (by
      intro z
      have : b + y = b + x := by simpa using z
      omega)
    have stf : ∀ {J J1 : sm_I} {x y : Nat}, cf [b + x] J J1 → 8 ≤ x → y < 6 → J1 (b + 2 + y) = J (b + 2 + y) := fun {J J1 x y} h h8 hy => h _ (by
      intro z
      have : b + 2 + y = b + x := by simpa using z
      omega)
    refine wp_aload0 85 rfl dX5_takes_84 ?_
    refine wp_aload1 86 rfl dX5_takes_85 ?_
    refine wp_geti 89 rfl dX5_takes_86 fX5_65_6 (o6 ht2) ?_
    rw [eb2 F5]
    refine wp_puti 92 rfl dX5_takes_89 pX5_65_6 (o6 ht) (⟨rfl, rfl⟩) ?_
    refine wp_aload0 93 rfl dX5_takes_92 ?_
    refine wp_aload1 94 rfl dX5_takes_93 ?_
    refine wp_geti 97 rfl dX5_takes_94 fX5_69_6 (o6 ht2) ?_
    rw [sm_u_ne _ _ _ (show b2 ≠ b by omega), eb2 F5]
    refine wp_puti 100 rfl dX5_takes_97 pX5_69_6 (o6 ht) (⟨rfl, rfl⟩) ?_
    refine wp_aload0 101 rfl dX5_takes_100 ?_
    refine wp_aload1 102 rfl dX5_takes_101 ?_
    refine wp_geti 105 rfl dX5_takes_102 fX5_72_6 (o6 ht2) ?_
    rw [sm_u_ne _ _ _ (show b2 ≠ b by omega), sm_u_ne _ _ _ (show b2 ≠ b by omega), eb2 F5]
    refine wp_puti 108 rfl dX5_takes_105 pX5_72_6 (o6 ht) (⟨rfl, rfl⟩) ?_
    refine wp_aload0 109 rfl dX5_takes_108 ?_
    refine wp_aload1 110 rfl dX5_takes_109 ?_
    refine wp_geti 113 rfl dX5_takes_110 fX5_78_6 (o6 ht2) ?_
    rw [sm_u_ne _ _ _ (show b2 ≠ b by omega), sm_u_ne _ _ _ (show b2 ≠ b by omega), sm_u_ne _ _ _ (show b2 ≠ b by omega), eb2 F5]
    refine wp_puti 116 rfl dX5_takes_113 pX5_78_6 (o6 ht) (⟨rfl, rfl⟩) ?_
    refine wp_vret dX5_takes_116 rfl ?_
    have un : ∀ y, 0 < y → sm_u (sm_u (sm_u (sm_u J5 b 6 (I b2 6)) b 7 (I b2 7)) b 8 (I b2 8)) b 9 (I b2 9) (b + y) = J5 (b + y) := fun y hy => by
      rw [sm_u_ne _ _ _ (by omega), sm_u_ne _ _ _ (by omega), sm_u_ne _ _ _ (by omega), sm_u_ne _ _ _ (by omega)]
    refine ⟨rfl, rfl, (((F5.tr (cf.su (by omega))).tr (cf.su (by omega))).tr (cf.su (by omega))).tr (cf.su (by omega)), fun dd k hd hk => ?_, fun dd hd => ⟨?_, ?_, ?_, ?_⟩, fun c hc => ?_, ?_, ?_, ?_, ?_⟩
    · rw [show b + 2 + dd = b + (2 + dd) by omega, un _ (by omega), show b + (2 + dd) = b + 2 + dd by omega, stf f5 (by decide) hd, stf f4 (by decide) hd, stf f3 (by decide) hd, stf f2 (by decide) hd, stf f1 (by decide) hd]
      exact g0 dd k hd hk
    · rw [un 8 (by decide), st f5 (by decide), st f4 (by decide), st f3 (by decide), st f2 (by decide), g1 dd hd, far f0 8 (by decide)]
      exact (h2 dd hd).1
    · rw [un 9 (by decide), st f5 (by decide), st f4 (by decide), st f3 (by decide), g2 dd hd, far F1 9 (by decide)]
      exact (h2 dd hd).2.1
    · rw [un 10 (by decide), st f5 (by decide), st f4 (by decide), g3 dd hd, far F2 10 (by decide)]
      exact (h2 dd hd).2.2.1
    · rw [un 11 (by decide), st f5 (by decide), g4 dd hd, far F3 11 (by decide)]
      exact (h2 dd hd).2.2.2
    · rw [un 12 (by decide), g5 c hc, far F4 12 (by decide)]
      exact h3 c hc
    · rw [sm_u_eq, pk_un (by decide), sm_u_eq, pk_un (by decide), sm_u_eq, pk_un (by decide), sm_u_eq, pk_us]
      exact h4
    · rw [sm_u_eq, pk_un (by decide), sm_u_eq, pk_un (by decide), sm_u_eq, pk_us]
      exact h5
    · rw [sm_u_eq, pk_un (by decide), sm_u_eq, pk_us]
      exact h6
    · rw [sm_u_eq, pk_us]
      exact h7
  · intro J0 f0 g0
    refine wp_iload2 3 rfl dX5_takes_2 ?_
    refine wp_bipush (nI 6) 5 rfl dX5_takes_3 (by decide) ?_
    refine wp_icmp_ge 8 29 rfl rfl dX5_takes_5 (fun c5 => absurd c5 (nI_ge hp (by decide))) (fun c5 => ?_)
    refine wp_aload1 9 rfl dX5_takes_8 ?_
    refine wp_getr 12 rfl dX5_takes_9 fX5_11_6 (o6 ht2) (p6_0 ht2) ?_
    refine wp_iload2 13 rfl dX5_takes_12 ?_
    refine wp_aald (t := 10) 14 rfl dX5_takes_13 (by decide) rfl rfl (s6_0 ht2) (p) (by first | rfl | simp only [pk_mul, nI_add]) (⟨by omega, by decide⟩) (e6_0 ht2 (by omega)) ?_
    refine wp_aload0 15 rfl dX5_takes_14 ?_
    refine wp_getr 18 rfl dX5_takes_15 fX5_11_6 (o6 ht) (p6_0 ht) ?_
    refine wp_iload2 19 rfl dX5_takes_18 ?_
    refine wp_aald (t := 10) 20 rfl dX5_takes_19 (by decide) rfl rfl (s6_0 ht) (p) (by first | rfl | simp only [pk_mul, nI_add]) (⟨by omega, by decide⟩) (e6_0 ht (by omega)) ?_
    refine wp_Sv2 23 rfl dX5_takes_20 kX5_copies lX5_85 (nl rfl) (nl rfl) (s_ccopies (i6_0 ht2 hp) (i6_0 ht hp) (by decide)) (fun J1 ρ1 hq => ?_)
    obtain ⟨e1, f1, g1⟩ := hq
    have e1 := e1.symm
    subst e1
    refine wp_iincN2 26 rfl dX5_takes_23 (by decide) rfl ?_
    refine wp_goto 2 rfl dX5_takes_26 ?_
    refine ih J1 (f0.tr (f1.s (fun a ha => by
      have : a = b + 2 + p := by simpa using ha
      omega))) (fun dd k hd hk => ?_)
    by_cases e : dd = p
    · rw [e, g1 k hk, show b2 + 2 + p = b2 + (2 + p) by omega, far f0 _ (by omega), show b2 + (2 + p) = b2 + 2 + p by omega]
      exact hR.1 p k hp hk
    · rw [f1 _ (by
        intro z
        have : b + 2 + dd = b + 2 + p := by simpa using z
        omega)]
      exact g0 dd k (by omega) hk
end C11
