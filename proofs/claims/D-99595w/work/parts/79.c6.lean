/-! ===== towns: asks, muchBy, gives, pays ===== -/
set_option maxRecDepth 100000
section C6
variable {G : sm_G} {d : Nat} {I : sm_I} {ρ : sm_R} {tp : Nat} {q : tq4} {T : tx} {b : Nat} {w : Nat → Int32} {s : Int32}
/-- a face of a text: four small numbers -/
def cFc (I : sm_I) (ρ : sm_R) (o : Nat) (g : Nat → Int32) : Prop := ρ.2.2.1 o = (100, 4) ∧ tA o ∧ ∀ p, p < 4 → I o p = g p ∧ ∃ f, f ≤ 99 ∧ g p = nI f
theorem cFc.kept {I1 : sm_I} {o : Nat} {g : Nat → Int32} (h : cFc I ρ o g) (hf : ∀ a, tA a → I1 a = I a) : cFc I1 ρ o g := ⟨h.1, h.2.1, fun p hp => by rw [hf o h.2.1]; exact h.2.2 p hp⟩
theorem s_asks (ht : td ρ b) (hb : 79 ≤ b ∧ b ≤ 882) (hR : tR I b w s) (hw : wok w) {o : Nat} {g : Nat → Int32} (ho : cFc I ρ o g) {dd : Nat} (hd : dd < 6) (wh : Int32) : sm_M G xX5_asks (d + 2) [.ref b, .int (nI dd), .int wh, .ref o] I ρ (sm_Qr (fun r I1 ρ1 => r = b + 14 ∧ ρ1 = ρ ∧ ∃ f, I1 = sm_a I (b + 15) f ∧ ∀ j, j < 9 → f j = r_var w dd (nI 0) (nI 0) (nI 0) (z_sum (fun p => z_off (w (4 * dd + p)) (g p)) 4) wh j)) := by
  show sm_V G xX5_asks (d + 2) 0 [.ref b, .int (nI dd), .int wh, .ref o] [] I ρ _
  have key : ∀ f0 : Nat → Int32, sm_V G xX5_asks (d + 2) 0 [.ref b, .int (nI dd), .int wh, .ref o] [] (sm_a I (b + 15) f0) ρ (sm_Qr (fun r I1 ρ1 => r = b + 14 ∧ ρ1 = ρ ∧ ∃ f, I1 = sm_a I (b + 15) f ∧ ∀ j, j < 9 → f j = r_var w dd (nI 0) (nI 0) (nI 0) (z_sum (fun p => z_off (w (4 * dd + p)) (g p)) 4) wh j)) := by
    intro f0
    have r : ∀ (f : Nat → Int32) (k : Nat), k < 15 → sm_a I (b + 15) f (b + k) = I (b + k) := fun f k hk => sm_a_ne I f (by omega)
    have rb : ∀ f : Nat → Int32, sm_a I (b + 15) f b = I b := fun f => sm_a_ne I f (by omega)
    have rf : ∀ f : Nat → Int32, sm_a I (b + 15) f (b + 2 + dd) = I (b + 2 + dd) := fun f => sm_a_ne I f (by omega)
    have ro : ∀ f : Nat → Int32, sm_a I (b + 15) f o = I o := fun f => sm_a_ne I f (by
      have := ho.2.1
      unfold tA at this
      omega)
    obtain ⟨h1, h2, h3, h4⟩ := hR.2.1 dd hd
    have hday := hR.2.2.2.2.2.1
    refine wp_aload0 1 rfl dX5_asks_0 ?_
    refine wp_getr 4 rfl dX5_asks_1 fX5_38_6 (o6 ht) (p6_11 ht) ?_
    refine wp_getr 7 rfl dX5_asks_4 fX5_89_7 (o7 ht) (p7_0 ht) ?_
    refine wp_iconst (nI 0) 8 rfl dX5_asks_7 (by decide) ?_
    refine wp_iconst (nI 0) 9 rfl dX5_asks_8 (by decide) ?_
    refine wp_iast 10 rfl dX5_asks_9 (s7_0 ht) (0) (rfl) (⟨by decide, by decide⟩) ?_
    rw [sm_a_u]
    refine wp_aload0 11 rfl dX5_asks_10 ?_
    refine wp_getr 14 rfl dX5_asks_11 fX5_38_6 (o6 ht) (p6_11 ht) ?_
    refine wp_getr 17 rfl dX5_asks_14 fX5_89_7 (o7 ht) (p7_0 ht) ?_
    refine wp_iconst (nI 1) 18 rfl dX5_asks_17 (by decide) ?_
    refine wp_iconst (nI 0) 19 rfl dX5_asks_18 (by decide) ?_
    refine wp_iast 20 rfl dX5_asks_19 (s7_0 ht) (1) (rfl) (⟨by decide, by decide⟩) ?_
    rw [sm_a_u]
    refine wp_aload0 21 rfl dX5_asks_20 ?_
    refine wp_getr 24 rfl dX5_asks_21 fX5_38_6 (o6 ht) (p6_11 ht) ?_
    refine wp_getr 27 rfl dX5_asks_24 fX5_89_7 (o7 ht) (p7_0 ht) ?_
    refine wp_iconst (nI 2) 28 rfl dX5_asks_27 (by decide) ?_
    refine wp_aload0 29 rfl dX5_asks_28 ?_
    refine wp_getr 32 rfl dX5_asks_29 fX5_16_6 (o6 ht) (p6_1 ht) ?_
    refine wp_iload1 33 rfl dX5_asks_32 ?_
    refine wp_iald 34 rfl dX5_asks_33 (s6_1 ht) (dd) (by first | rfl | simp only [pk_mul, nI_add]) (⟨by omega, by decide⟩) ?_
    rw [r _ 8 (by omega), h1]
    refine wp_iast 35 rfl dX5_asks_34 (s7_0 ht) (2) (rfl) (⟨by decide, by decide⟩) ?_
    rw [sm_a_u]
    refine wp_aload0 36 rfl dX5_asks_35 ?_
    refine wp_getr 39 rfl dX5_asks_36 fX5_38_6 (o6 ht) (p6_11 ht) ?_
    refine wp_getr 42 rfl dX5_asks_39 fX5_89_7 (o7 ht) (p7_0 ht) ?_
    refine wp_iconst (nI 3) 43 rfl dX5_asks_42 (by decide) ?_
    refine wp_aload0 44 rfl dX5_asks_43 ?_
    refine wp_getr 47 rfl dX5_asks_44 fX5_20_6 (o6 ht) (p6_2 ht) ?_
    refine wp_iload1 48 rfl dX5_asks_47 ?_
    refine wp_iald 49 rfl dX5_asks_48 (s6_2 ht) (dd) (by first | rfl | simp only [pk_mul, nI_add]) (⟨by omega, by decide⟩) ?_
    rw [r _ 9 (by omega), h2]
    refine wp_iast 50 rfl dX5_asks_49 (s7_0 ht) (3) (rfl) (⟨by decide, by decide⟩) ?_
    rw [sm_a_u]
    refine wp_aload0 51 rfl dX5_asks_50 ?_
    refine wp_getr 54 rfl dX5_asks_51 fX5_38_6 (o6 ht) (p6_11 ht) ?_
    refine wp_getr 57 rfl dX5_asks_54 fX5_89_7 (o7 ht) (p7_0 ht) ?_
    refine wp_iconst (nI 4) 58 rfl dX5_asks_57 (by decide) ?_
    refine wp_aload0 59 rfl dX5_asks_58 ?_
    refine wp_geti 62 rfl dX5_asks_59 fX5_72_6 (o6 ht) ?_
    rw [rb, hday]
    refine wp_iast 63 rfl dX5_asks_62 (s7_0 ht) (4) (rfl) (⟨by decide, by decide⟩) ?_
    rw [sm_a_u]
    refine wp_aload0 64 rfl dX5_asks_63 ?_
    refine wp_getr 67 rfl dX5_asks_64 fX5_38_6 (o6 ht) (p6_11 ht) ?_
    refine wp_getr 70 rfl dX5_asks_67 fX5_89_7 (o7 ht) (p7_0 ht) ?_
    refine wp_iconst (nI 5) 71 rfl dX5_asks_70 (by decide) ?_
    refine wp_iconst (nI 0) 72 rfl dX5_asks_71 (by decide) ?_
    refine wp_iast 73 rfl dX5_asks_72 (s7_0 ht) (5) (rfl) (⟨by decide, by decide⟩) ?_
    rw [sm_a_u]
    refine wp_aload0 74 rfl dX5_asks_73 ?_
    refine wp_getr 77 rfl dX5_asks_74 fX5_38_6 (o6 ht) (p6_11 ht) ?_
    refine wp_getr 80 rfl dX5_asks_77 fX5_89_7 (o7 ht) (p7_0 ht) ?_
    refine wp_bipush (nI 6) 82 rfl dX5_asks_80 (by decide) ?_
    refine wp_aload0 83 rfl dX5_asks_82 ?_
    refine wp_getr 86 rfl dX5_asks_83 fX5_11_6 (o6 ht) (p6_0 ht) ?_
    refine wp_iload1 87 rfl dX5_asks_86 ?_
    refine wp_aald (t := 10) 88 rfl dX5_asks_87 (by decide) rfl rfl (s6_0 ht) (dd) (by first | rfl | simp only [pk_mul, nI_add]) (⟨by omega, by decide⟩) (e6_0 ht (by omega)) ?_
    refine wp_aload3 89 rfl dX5_asks_88 ?_
    refine wp_SNe2 92 rfl dX5_asks_89 kX0_unlikeOf lX5_92 (nl rfl) (nl rfl) (s_unlikeOf (i6_0 ht hd) ho.1 (fun p hp => by rw [rf, hR.1 dd p hd hp]; exact hw.1 _ (by omega)) (fun p hp => by rw [ro, (ho.2.2 p hp).1]; exact (ho.2.2 p hp).2)) ?_
    have eu : ∀ f : Nat → Int32, z_sum (fun p => z_off (sm_a I (b + 15) f (b + 2 + dd) p) (sm_a I (b + 15) f o p)) 4 = z_sum (fun p => z_off (w (4 * dd + p)) (g p)) 4 := fun f => z_sum_congr (fun p hp => by rw [rf, ro, hR.1 dd p hd hp, (ho.2.2 p hp).1])
    show sm_V G xX5_asks (d + 2) 92 _ (.int (z_sum (fun p => z_off (sm_a I (b + 15) _ (b + 2 + dd) p) (sm_a I (b + 15) _ o p)) 4) :: _) _ ρ _
    rw [eu]
    refine wp_iast 93 rfl dX5_asks_92 (s7_0 ht) (6) (rfl) (⟨by decide, by decide⟩) ?_
    rw [sm_a_u]
    refine wp_aload0 94 rfl dX5_asks_93 ?_
    refine wp_getr 97 rfl dX5_asks_94 fX5_38_6 (o6 ht) (p6_11 ht) ?_
    refine wp_getr 100 rfl dX5_asks_97 fX5_89_7 (o7 ht) (p7_0 ht) ?_
    refine wp_bipush (nI 7) 102 rfl dX5_asks_100 (by decide) ?_
    refine wp_iload2 103 rfl dX5_asks_102 ?_
    refine wp_iast 104 rfl dX5_asks_103 (s7_0 ht) (7) (rfl) (⟨by decide, by decide⟩) ?_
    rw [sm_a_u]
    refine wp_aload0 105 rfl dX5_asks_104 ?_
    refine wp_getr 108 rfl dX5_asks_105 fX5_38_6 (o6 ht) (p6_11 ht) ?_
    refine wp_getr 111 rfl dX5_asks_108 fX5_89_7 (o7 ht) (p7_0 ht) ?_
    refine wp_bipush (nI 8) 113 rfl dX5_asks_111 (by decide) ?_
    refine wp_aload0 114 rfl dX5_asks_113 ?_
    refine wp_getr 117 rfl dX5_asks_114 fX5_23_6 (o6 ht) (p6_3 ht) ?_
    refine wp_iload1 118 rfl dX5_asks_117 ?_
    refine wp_iald 119 rfl dX5_asks_118 (s6_3 ht) (dd) (by first | rfl | simp only [pk_mul, nI_add]) (⟨by omega, by decide⟩) ?_
    rw [r _ 10 (by omega), h3]
    refine wp_iast 120 rfl dX5_asks_119 (s7_0 ht) (8) (rfl) (⟨by decide, by decide⟩) ?_
    rw [sm_a_u]
    refine wp_aload0 121 rfl dX5_asks_120 ?_
    refine wp_getr 124 rfl dX5_asks_121 fX5_38_6 (o6 ht) (p6_11 ht) ?_
    refine wp_aret dX5_asks_124 rfl (Or.inl ⟨_, rfl⟩) ?_
    refine ⟨_, rfl, rfl, rfl, _, rfl, fun j hj => ?_⟩
    have hj9 : j = 0 ∨ j = 1 ∨ j = 2 ∨ j = 3 ∨ j = 4 ∨ j = 5 ∨ j = 6 ∨ j = 7 ∨ j = 8 := by omega
    rcases hj9 with e | e | e | e | e | e | e | e | e <;> subst e <;> rfl
  have := key (I (b + 15))
  rw [sm_a_self] at this
  exact this
theorem cT_law (hT : cT I ρ tp q T) {k : Nat} (hk : k < 3) : match tx_law T k with
    | none => ρ.2.1 q.1.2.2.2 k = none
    | some L => ∃ lo, ρ.2.1 q.1.2.2.2 k = some lo ∧ cL I ρ lo L := hT.2.2.2.2.2.2.2.2 k hk
theorem tW2 (hb : 79 ≤ b ∧ b ≤ 882) : tW [b + 14, b + 15] := fun a ha => by
  have : a = b + 14 ∨ a = b + 15 := by simpa using ha
  omega
theorem s_muchBy (ht : td ρ b) (hb : 79 ≤ b ∧ b ≤ 882) (hR : tR I b w s) (hw : wok w) (hT : cT I ρ tp q T) (hk : tok T) {o : Nat} {g : Nat → Int32} (ho : cFc I ρ o g) {law dd k : Nat} (hl : law < 3) (hd : dd < 6) (hkk : k < 4) (wh : Int32) {own : Nat} (hown : own ≤ 1) :
    sm_M G xX5_muchBy (d + 403) [.ref b, .ref tp, .int (nI law), .int (nI dd), .int (nI k), .int wh, .ref o, .int (nI own)] I ρ (sm_Qi (fun r I1 ρ1 => ρ1 = ρ ∧ cf [b + 14, b + 15] I I1 ∧ r = z_within (lw_val (r_var w dd (z_off (w (4 * dd + k)) (g k)) (nI k) (w (4 * dd + k)) (z_sum (fun p => z_off (w (4 * dd + p)) (g p)) 4) wh) (tx_law T law) (nI own)) (nI 0) (z_off (w (4 * dd + k)) (g k)))) := by
  show sm_V G xX5_muchBy (d + 403) 0 [.ref b, .ref tp, .int (nI law), .int (nI dd), .int (nI k), .int wh, .ref o, .int (nI own), .retAddr 0] [] I ρ _
  obtain ⟨f, hf1, hf2⟩ := hw.1 (4 * dd + k) (by omega)
  obtain ⟨ho2, fg, hg1, hg2⟩ := ho.2.2 k hkk
  have eap : z_abs (w (4 * dd + k) - g k) = z_off (w (4 * dd + k)) (g k) := by
    rw [hf2, hg2]
    exact z_abs_off (by omega) (by omega)
  obtain ⟨m, hm, hm2⟩ : ∃ m, m ≤ 99 ∧ z_off (w (4 * dd + k)) (g k) = nI m := by
    rw [hf2, hg2, z_off_n (by omega) (by omega)]
    refine ⟨_, ?_, rfl⟩
    by_cases h : f < fg
    · rw [if_pos h]; omega
    · rw [if_neg h]; omega
  refine wp_aload0 1 rfl dX5_muchBy_0 ?_
  refine wp_getr 4 rfl dX5_muchBy_1 fX5_11_6 (o6 ht) (p6_0 ht) ?_
  refine wp_iload3 5 rfl dX5_muchBy_4 ?_
  refine wp_aald (t := 10) 6 rfl dX5_muchBy_5 (by decide) rfl rfl (s6_0 ht) (dd) (by first | rfl | simp only [pk_mul, nI_add]) (⟨by omega, by decide⟩) (e6_0 ht (by omega)) ?_
  refine wp_iload4 8 rfl dX5_muchBy_6 ?_
  refine wp_iald 9 rfl dX5_muchBy_8 (i6_0 ht (by omega)) (k) (by first | rfl | simp only [pk_mul, nI_add]) (⟨by omega, by decide⟩) ?_
  refine wp_aload6 11 rfl dX5_muchBy_9 ?_
  refine wp_iload4 13 rfl dX5_muchBy_11 ?_
  refine wp_iald 14 rfl dX5_muchBy_13 (ho.1) (k) (by first | rfl | simp only [pk_mul, nI_add]) (⟨by omega, by decide⟩) ?_
  rw [hR.1 dd k hd hkk, ho2]
  refine wp_isub 15 rfl dX5_muchBy_14 ?_
  refine wp_mabs 18 rfl dX5_muchBy_15 q1246 (nl rfl) ?_
  show sm_V G xX5_muchBy (d + 403) 18 _ (.int (z_abs (w (4 * dd + k) - g k)) :: _) I ρ _
  rw [eap]
  have hlw := cT_law hT hl
  cases hL : tx_law T law with
  | none =>
    rw [hL] at hlw
    refine wp_istore8 20 rfl dX5_muchBy_18 (by decide) rfl ?_
    refine wp_aload1 21 rfl dX5_muchBy_20 ?_
    refine wp_getr 24 rfl dX5_muchBy_21 fX5_102_5 (o5 hT) (p5_3 hT) ?_
    refine wp_iload2 25 rfl dX5_muchBy_24 ?_
    refine wp_aaldN (t := 9) 26 rfl dX5_muchBy_25 (by decide) rfl rfl (s5_3 hT) (law) (rfl) (⟨by omega, by decide⟩) (hlw) ?_
    refine wp_ifnonnull_n 29 rfl dX5_muchBy_26 ?_
    refine wp_iload8 31 rfl dX5_muchBy_29 ?_
    refine wp_iload7 33 rfl dX5_muchBy_31 ?_
    rw [hm2]
    refine wp_mmin 36 rfl dX5_muchBy_33 q1237 (nl rfl) ?_
    refine wp_iret dX5_muchBy_36 rfl ?_
    refine ⟨_, rfl, rfl, cf.rf, ?_⟩
    exact i_min_plain own m (by omega) (by omega)
  | some L =>
    rw [hL] at hlw
    obtain ⟨lo, hlo, hcl⟩ := hlw
    refine wp_istore8 20 rfl dX5_muchBy_18 (by decide) rfl ?_
    refine wp_aload1 21 rfl dX5_muchBy_20 ?_
    refine wp_getr 24 rfl dX5_muchBy_21 fX5_102_5 (o5 hT) (p5_3 hT) ?_
    refine wp_iload2 25 rfl dX5_muchBy_24 ?_
    refine wp_aald (t := 9) 26 rfl dX5_muchBy_25 (by decide) rfl rfl (s5_3 hT) (law) (rfl) (⟨by omega, by decide⟩) (hlo) ?_
    refine wp_ifnonnull_r 37 rfl dX5_muchBy_26 ?_
    refine wp_aload0 38 rfl dX5_muchBy_37 ?_
    refine wp_iload3 39 rfl dX5_muchBy_38 ?_
    refine wp_iload5 41 rfl dX5_muchBy_39 ?_
    refine wp_aload6 43 rfl dX5_muchBy_41 ?_
    refine wp_Vr3 46 rfl dX5_muchBy_43 kX5_asks lX5_110 (o6 ht) (nl rfl) (nl rfl) (s_asks (d := d + 400) ht hb hR hw ho hd wh) (fun r I1 ρ1 hq => ?_)
    obtain ⟨e1, e2, f0, e3, e4⟩ := hq
    have e2 := e2.symm
    subst e1
    subst e2
    subst e3
    have r0 : ∀ (f : Nat → Int32), sm_a I (b + 15) f (b + 2 + dd) = I (b + 2 + dd) := fun f => sm_a_ne I f (by omega)
    refine wp_pop 47 rfl dX5_muchBy_46 rfl ?_
    refine wp_aload0 48 rfl dX5_muchBy_47 ?_
    refine wp_getr 51 rfl dX5_muchBy_48 fX5_38_6 (o6 ht) (p6_11 ht) ?_
    refine wp_getr 54 rfl dX5_muchBy_51 fX5_89_7 (o7 ht) (p7_0 ht) ?_
    refine wp_iconst (nI 0) 55 rfl dX5_muchBy_54 (by decide) ?_
    refine wp_iload8 57 rfl dX5_muchBy_55 ?_
    refine wp_iast 58 rfl dX5_muchBy_57 (s7_0 ht) (0) (rfl) (⟨by decide, by decide⟩) ?_
    rw [sm_a_u]
    refine wp_aload0 59 rfl dX5_muchBy_58 ?_
    refine wp_getr 62 rfl dX5_muchBy_59 fX5_38_6 (o6 ht) (p6_11 ht) ?_
    refine wp_getr 65 rfl dX5_muchBy_62 fX5_89_7 (o7 ht) (p7_0 ht) ?_
    refine wp_iconst (nI 1) 66 rfl dX5_muchBy_65 (by decide) ?_
    refine wp_iload4 68 rfl dX5_muchBy_66 ?_
    refine wp_iast 69 rfl dX5_muchBy_68 (s7_0 ht) (1) (rfl) (⟨by decide, by decide⟩) ?_
    rw [sm_a_u]
    refine wp_aload0 70 rfl dX5_muchBy_69 ?_
    refine wp_getr 73 rfl dX5_muchBy_70 fX5_38_6 (o6 ht) (p6_11 ht) ?_
    refine wp_getr 76 rfl dX5_muchBy_73 fX5_89_7 (o7 ht) (p7_0 ht) ?_
    refine wp_iconst (nI 5) 77 rfl dX5_muchBy_76 (by decide) ?_
    refine wp_aload0 78 rfl dX5_muchBy_77 ?_
    refine wp_getr 81 rfl dX5_muchBy_78 fX5_11_6 (o6 ht) (p6_0 ht) ?_
    refine wp_iload3 82 rfl dX5_muchBy_81 ?_
    refine wp_aald (t := 10) 83 rfl dX5_muchBy_82 (by decide) rfl rfl (s6_0 ht) (dd) (by first | rfl | simp only [pk_mul, nI_add]) (⟨by omega, by decide⟩) (e6_0 ht (by omega)) ?_
    refine wp_iload4 85 rfl dX5_muchBy_83 ?_
    refine wp_iald 86 rfl dX5_muchBy_85 (i6_0 ht (by omega)) (k) (by first | rfl | simp only [pk_mul, nI_add]) (⟨by omega, by decide⟩) ?_
    rw [r0, hR.1 dd k hd hkk]
    refine wp_iast 87 rfl dX5_muchBy_86 (s7_0 ht) (5) (rfl) (⟨by decide, by decide⟩) ?_
    rw [sm_a_u]
    have hcf : cf [b + 14, b + 15] I (sm_a I (b + 15) (upd (upd (upd f0 0 (z_off (w (4 * dd + k)) (g k))) 1 (nI k)) 5 (w (4 * dd + k)))) := fun a ha => sm_a_ne I _ (fun e => ha (by rw [e]; simp))
    have hcl2 := hcl.kept (hcf.T (tW2 hb))
    refine wp_iload8 89 rfl dX5_muchBy_87 ?_
    refine wp_aload1 90 rfl dX5_muchBy_89 ?_
    refine wp_getr 93 rfl dX5_muchBy_90 fX5_102_5 (o5 hT) (p5_3 hT) ?_
    refine wp_iload2 94 rfl dX5_muchBy_93 ?_
    refine wp_aald (t := 9) 95 rfl dX5_muchBy_94 (by decide) rfl rfl (s5_3 hT) (law) (rfl) (⟨by omega, by decide⟩) (hlo) ?_
    refine wp_aload0 96 rfl dX5_muchBy_95 ?_
    refine wp_getr 99 rfl dX5_muchBy_96 fX5_38_6 (o6 ht) (p6_11 ht) ?_
    refine wp_Vi1 102 rfl dX5_muchBy_99 kX11_of lX5_114 (p11 hcl2) (nl rfl) (nl rfl) (s_lawOf (d := d) ht hb hcl2) (fun v J ρ1 hq => ?_)
    obtain ⟨e1, e2, e3⟩ := hq
    have e1 := e1.symm
    subst e1
    rw [hm2]
    refine wp_mmin 105 rfl dX5_muchBy_102 q1237 (nl rfl) ?_
    refine wp_iret dX5_muchBy_105 rfl ?_
    refine ⟨_, rfl, rfl, hcf.tr (e2.wk (by simp)), ?_⟩
    show z_min (nI m) v = _
    rw [e3, i_min_within _ m (by omega)]
    have ev : lw_ev (sm_a I (b + 15) (upd (upd (upd f0 0 (z_off (w (4 * dd + k)) (g k))) 1 (nI k)) 5 (w (4 * dd + k))) (b + 15)) L.1 L.2 = lw_ev (r_var w dd (z_off (w (4 * dd + k)) (g k)) (nI k) (w (4 * dd + k)) (z_sum (fun p => z_off (w (4 * dd + p)) (g p)) 4) wh) L.1 L.2 := by
      rw [sm_a_eq]
      obtain ⟨wf1, wf2⟩ := hk.2.2.2.2.2 law hl L.1 L.2 hL
      refine lw_ev_congr (fun j hj => ?_) wf1 L.1 wf2
      have hj9 : j = 0 ∨ j = 1 ∨ j = 5 ∨ (¬ j = 0 ∧ ¬ j = 1 ∧ ¬ j = 5) := by omega
      rcases hj9 with e | e | e | ⟨n1, n2, n3⟩
      · subst e; rfl
      · subst e; rfl
      · subst e; rfl
      · rw [pk_un n3, pk_un n2, pk_un n1, e4 j hj]
        unfold r_var
        rw [if_neg n1, if_neg n2, if_neg n1, if_neg n2]
        simp only [if_neg n3]
    rw [ev, hm2]
    rfl
theorem cFc_c (hT : cT I ρ tp q T) (hk : tok T) {c : Nat} (hc : c < tx_C T) : cFc I ρ (q.2.2.2.2.1 c) (fun p => tx_cf T (4 * c + p)) := by
  have hF := cT_cf hT hc
  exact ⟨hF.2.2.1.1, hF.2.2.1.2, fun p hp => ⟨hF.2.2.2 p hp, hk.2.1 _ (by omega)⟩⟩
theorem cFc_d (hT : cT I ρ tp q T) (hk : tok T) {c : Nat} (hc : c < tx_D T) : cFc I ρ (q.2.2.1 c) (fun p => tx_ff T (4 * c + p)) := by
  have hF := cT_df hT hc
  exact ⟨hF.2.2.1.1, hF.2.2.1.2, fun p hp => ⟨hF.2.2.2 p hp, hk.2.2.1 _ (by omega)⟩⟩
theorem s_gives (ht : td ρ b) (hb : 79 ≤ b ∧ b ≤ 882) (hR : tR I b w s) (hw : wok w) (hT : cT I ρ tp q T) (hk : tok T) {dd c k : Nat} (hd : dd < 6) (hc : c < tx_C T) (hkk : k < 4) :
    sm_M G xX5_gives (d + 404) [.ref b, .ref tp, .int (nI dd), .int (nI c), .int (nI k)] I ρ (sm_Qi (fun r I1 ρ1 => ρ1 = ρ ∧ cf [b + 14, b + 15] I I1 ∧ r = r_gives T w dd c k)) := by
  show sm_V G xX5_gives (d + 404) 0 [.ref b, .ref tp, .int (nI dd), .int (nI c), .int (nI k)] [] I ρ _
  have hC := cT_c hT
  have hF := cT_cf hT hc
  refine wp_aload0 1 rfl dX5_gives_0 ?_
  refine wp_aload1 2 rfl dX5_gives_1 ?_
  refine wp_iconst (nI 0) 3 rfl dX5_gives_2 (by decide) ?_
  refine wp_iload2 4 rfl dX5_gives_3 ?_
  refine wp_iload4 6 rfl dX5_gives_4 ?_
  refine wp_iload3 7 rfl dX5_gives_6 ?_
  refine wp_aload1 8 rfl dX5_gives_7 ?_
  refine wp_getr 11 rfl dX5_gives_8 fX5_120_5 (o5 hT) (p5_1 hT) ?_
  refine wp_iload3 12 rfl dX5_gives_11 ?_
  refine wp_Ve1 15 rfl dX5_gives_12 kJ5_get lX5_54 (o18 (cT_c hT)) (nl rfl) (nl rfl) (s_get (d := d + 401) hC hc) ?_
  refine wp_cast 18 rfl dX5_gives_15 caX5_123_16 (o16 hF) ?_
  refine wp_getr 21 rfl dX5_gives_18 fX5_125_16 (o16 hF) (p16_1 hF) ?_
  refine wp_iconst (nI 1) 22 rfl dX5_gives_21 (by decide) ?_
  refine wp_Vi7 25 rfl dX5_gives_22 kX5_muchBy lX5_126 (o6 ht) (nl rfl) (nl rfl) (s_muchBy (d := d) ht hb hR hw hT hk (cFc_c hT hk hc) (law := 0) (by decide) hd hkk (nI c) (own := 1) (by decide)) (fun r I1 ρ1 hq => ?_)
  refine wp_iret dX5_gives_25 rfl ?_
  obtain ⟨e1, e2, e3⟩ := hq
  have e1 := e1.symm
  subst e1
  exact ⟨_, rfl, rfl, e2, e3⟩
theorem s_pays (ht : td ρ b) (hb : 79 ≤ b ∧ b ≤ 882) (hR : tR I b w s) (hw : wok w) (hT : cT I ρ tp q T) (hk : tok T) {dd c : Nat} (hd : dd < 6) (hc : c < tx_C T) :
    sm_M G xX5_pays (d + 404) [.ref b, .ref tp, .int (nI dd), .int (nI c)] I ρ (sm_Qi (fun r I1 ρ1 => ρ1 = ρ ∧ cf [b + 14, b + 15] I I1 ∧ r = r_pays T w dd c)) := by
  show sm_V G xX5_pays (d + 404) 0 [.ref b, .ref tp, .int (nI dd), .int (nI c)] [] I ρ _
  have hC := cT_c hT
  have hF := cT_cf hT hc
  have hlw := cT_law hT (k := 2) (by decide)
  cases hL : tx_law T 2 with
  | none =>
    rw [hL] at hlw
    refine wp_aload1 1 rfl dX5_pays_0 ?_
    refine wp_getr 4 rfl dX5_pays_1 fX5_102_5 (o5 hT) (p5_3 hT) ?_
    refine wp_iconst (nI 2) 5 rfl dX5_pays_4 (by decide) ?_
    refine wp_aaldN (t := 9) 6 rfl dX5_pays_5 (by decide) rfl rfl (s5_3 hT) (2) (rfl) (⟨by decide, by decide⟩) (hlw) ?_
    refine wp_ifnonnull_n 9 rfl dX5_pays_6 ?_
    refine wp_iconst (nI 1) 10 rfl dX5_pays_9 (by decide) ?_
    refine wp_goto 47 rfl dX5_pays_10 ?_
    refine wp_iret dX5_pays_47 rfl ?_
    refine ⟨_, rfl, rfl, cf.rf, ?_⟩
    unfold r_pays
    rw [hL]
    show nI 1 = z_within (nI 1) (nI 0) (nI 99)
    decide
  | some L =>
    rw [hL] at hlw
    obtain ⟨lo, hlo, hcl⟩ := hlw
    refine wp_aload1 1 rfl dX5_pays_0 ?_
    refine wp_getr 4 rfl dX5_pays_1 fX5_102_5 (o5 hT) (p5_3 hT) ?_
    refine wp_iconst (nI 2) 5 rfl dX5_pays_4 (by decide) ?_
    refine wp_aald (t := 9) 6 rfl dX5_pays_5 (by decide) rfl rfl (s5_3 hT) (2) (rfl) (⟨by decide, by decide⟩) (hlo) ?_
    refine wp_ifnonnull_r 13 rfl dX5_pays_6 ?_
    refine wp_bipush (nI 99) 15 rfl dX5_pays_13 (by decide) ?_
    refine wp_aload1 16 rfl dX5_pays_15 ?_
    refine wp_getr 19 rfl dX5_pays_16 fX5_102_5 (o5 hT) (p5_3 hT) ?_
    refine wp_iconst (nI 2) 20 rfl dX5_pays_19 (by decide) ?_
    refine wp_aald (t := 9) 21 rfl dX5_pays_20 (by decide) rfl rfl (s5_3 hT) (2) (rfl) (⟨by decide, by decide⟩) (hlo) ?_
    refine wp_aload0 22 rfl dX5_pays_21 ?_
    refine wp_iload2 23 rfl dX5_pays_22 ?_
    refine wp_iload3 24 rfl dX5_pays_23 ?_
    refine wp_aload1 25 rfl dX5_pays_24 ?_
    refine wp_getr 28 rfl dX5_pays_25 fX5_120_5 (o5 hT) (p5_1 hT) ?_
    refine wp_iload3 29 rfl dX5_pays_28 ?_
    refine wp_Ve1 32 rfl dX5_pays_29 kJ5_get lX5_54 (o18 (cT_c hT)) (nl rfl) (nl rfl) (s_get (d := d + 401) hC hc) ?_
    refine wp_cast 35 rfl dX5_pays_32 caX5_123_16 (o16 hF) ?_
    refine wp_getr 38 rfl dX5_pays_35 fX5_125_16 (o16 hF) (p16_1 hF) ?_
    refine wp_Vr3 41 rfl dX5_pays_38 kX5_asks lX5_110 (o6 ht) (nl rfl) (nl rfl) (s_asks (d := d + 401) ht hb hR hw (cFc_c hT hk hc) hd (nI c)) (fun r I1 ρ1 hq => ?_)
    obtain ⟨e1, e2, f0, e3, e4⟩ := hq
    have e2 := e2.symm
    subst e1
    subst e2
    subst e3
    have hcf : cf [b + 14, b + 15] I (sm_a I (b + 15) f0) := fun a ha => sm_a_ne I _ (fun e => ha (by rw [e]; simp))
    have hcl2 := hcl.kept (hcf.T (tW2 hb))
    refine wp_Vi1 44 rfl dX5_pays_41 kX11_of lX5_114 (p11 hcl2) (nl rfl) (nl rfl) (s_lawOf (d := d + 1) ht hb hcl2) (fun v J ρ1 hq => ?_)
    obtain ⟨e1, e2, e3⟩ := hq
    have e1 := e1.symm
    subst e1
    refine wp_mmin 47 rfl dX5_pays_44 q1237 (nl rfl) ?_
    refine wp_iret dX5_pays_47 rfl ?_
    refine ⟨_, rfl, rfl, hcf.tr (e2.wk (by simp)), ?_⟩
    show z_min (nI 99) v = _
    rw [e3, i_min_within _ 99 (by decide)]
    unfold r_pays
    rw [hL]
    have ev : lw_ev (sm_a I (b + 15) f0 (b + 15)) L.1 L.2 = lw_ev (r_var w dd (nI 0) (nI 0) (nI 0) (r_unl T w dd c) (nI c)) L.1 L.2 := by
      rw [sm_a_eq]
      obtain ⟨wf1, wf2⟩ := hk.2.2.2.2.2 2 (by decide) L.1 L.2 hL
      exact lw_ev_congr e4 wf1 L.1 wf2
    rw [ev]
    rfl
end C6
