/-! ===== the component's parser: unit; sums by the descent's fuel ===== -/
set_option maxRecDepth 100000
section F9
variable {G : sm_G} {P : Nat × (Nat → Int32)} {f : Nat}
theorem g_pass_l {t : Nat} {w x : Nat × Nat} (e : g_pass (.inr (t, w)) = .inl x) : t = 400 ∧ x = (2, t) := by
  by_cases q : t = 400
  · rw [show g_pass (.inr (t, w)) = .inl (2, t) from if_pos q] at e
    cases e
    exact ⟨q, rfl⟩
  · rw [show g_pass (.inr (t, w)) = .inr (t + 1, w) from if_neg q] at e
    cases e
theorem kt_100 {I : sm_I} (hP : cP I P) (t : Nat) : (kt P t).1 < 100 := ((ky_tw (b := P.2) hP.2.1).1 t).1
theorem kt_41 (t : Nat) : (kt P t).1 ≤ 40 := by
  show (ky_at P.1 (ky_c P.1 P.2) (kp P t)).1 ≤ 40
  generalize kp P t = i
  unfold ky_at
  have f1 := ky_find_in (ky_nm (ky_c P.1 P.2) i (ky_le (ky_c P.1 P.2) i - i)) 21
  have f2 := ky_sg_in (ky_c P.1 P.2 i)
  split
  · exact Nat.zero_le _
  · split
    · show (if 8 < ky_le (ky_c P.1 P.2) i - i then 3 else ky_find (ky_nm (ky_c P.1 P.2) i (ky_le (ky_c P.1 P.2) i - i)) 21) ≤ 40
      split <;> omega
    · split
      · show (if 4 < ky_de (ky_c P.1 P.2) i - i then 3 else 2) ≤ 40
        split <;> omega
      · show ky_sg (ky_c P.1 P.2 i) ≤ 40
        omega
theorem punit_all (hS : cU G P f 3 xX3_sum 3) : cU G P (f + 1) 0 xX3_unit 1 := by
  intro D I ρ op t w hR hp ho h6 hf hD
  obtain ⟨D, rfl⟩ : ∃ D', D = D' + 6 := ⟨D - 6, by omega⟩
  have hK := hR.1
  have hC := hR.2.2.2
  have hP := hR.2.2.1
  have hJ := hR.2.1
  have p4 := hp.1.1
  have p3 := hp.2.1
  have h41 := kt_41 (P := P) t
  have hlt := ctS_lt (kt P t).1
  show sm_V G xX3_unit (D + 6) 0 [.ref 73, .retAddr 0] [] I ρ _
  by_cases h3 : (kt P t).1 = 3
  · have eg : ps (kt P) (f + 1) 0 op t [] = .inl (1, t) := ps_0n (by unfold g_isU; omega) (by omega)
    rw [eg]
    refine wp_aload0 1 rfl dX3_unit_0 ?_
    refine wp_Vx0 4 rfl dX3_unit_1 kX3_sort lX3_65 (o4 hK) (nl rfl) (nl rfl) (s_psort hK hC hp) (fun v J1 ρ1 z => ?_) (fun b J1 ρ1 z => z.outS rfl hK gF.rf (bud.rf (Nat.le_refl t)) (by omega) (fun x e => by rw [if_pos h3] at e; cases e; rfl))
    obtain ⟨-, -, t', w', e1, -⟩ := z.ok
    rw [if_pos h3] at e1
    cases e1
  · have hso : ∀ {J : sm_I}, pJ I J → pst J (kt P) t w → sm_M G xX3_sort (D + 5) [.ref 73] J ρ (xN J ρ (kt P) (.inr (t, w)) (fun v => v = some (.int (nI (ctS (kt P t).1))))) := fun {J} j q => by
      have := s_psort (G := G) (d := D + 2) hK (hC.P j) q
      rw [if_neg h3] at this
      exact this
    refine wp_aload0 1 rfl dX3_unit_0 ?_
    refine wp_Vx0 4 rfl dX3_unit_1 kX3_sort lX3_65 (o4 hK) (nl rfl) (nl rfl) (hso pJ.rf hp) (fun v J1 ρ1 z => ?_) (fun b J1 ρ1 z => by obtain ⟨-, -, -, m, j, e, -⟩ := z.ex; cases e)
    obtain ⟨e0, j1, t', w', e1, p1, rfl⟩ := z.ok
    have e0 := e0.symm
    subst e0
    cases e1
    have hR1 := hR.P j1
    have o1 : J1 73 4 = nI op := j1.2.trans ho
    show sm_V G xX3_unit (D + 6) 4 [.ref 73, .retAddr 0] [.int (nI (ctS (kt P t).1))] J1 ρ _
    by_cases h2 : (kt P t).1 = 2
    · rw [ps_0u (Or.inl h2)]
      refine wp_iconst (nI 1) 5 rfl dX3_unit_4 (by decide) ?_
      refine wp_icmp_ne 8 33 rfl rfl dX3_unit_5 (fun c5 => absurd (by rw [h2]; rfl) c5) (fun c5 => ?_)
      refine wp_aload0 9 rfl dX3_unit_8 ?_
      refine wp_Vx0 12 rfl dX3_unit_9 kX3_pass lX3_59 (o4 hK) (nl rfl) (nl rfl) (s_ppass hK hR1.2.2.2 p1 (by rw [h2]; decide)) (fun v J2 ρ2 z => ?_) (fun b J2 ρ2 z => z.outS rfl hK (j1.g (A := pA) (B := pNo) (fun _ z => z)) (bud.rf (Nat.le_refl t)) (by omega) (fun x e => by rw [if_pos (g_pass_l e).1, (g_pass_l e).2]))
      obtain ⟨e0, j2, t', w', e2, p2, rfl⟩ := z.ok
      have e0 := e0.symm
      subst e0
      obtain ⟨t9, e9, q9, n9⟩ := g_pass_inv e2
      cases e9
      subst q9
      rw [if_neg n9]
      have hR2 := hR1.P j2
      obtain ⟨-, c2, c3, -, -⟩ := hR2.2.2.2 t p4 hp.1.2.1
      obtain ⟨i1, i2, i3, i4, i5⟩ := kt_int hP.2.1 h2
      rw [i1] at c2
      have p23 := p2.2.1
      show sm_V G xX3_unit (D + 6) 12 [.ref 73, .retAddr 0] [] J2 ρ _
      refine wp_new 15 rfl dX3_unit_12 nX3_224 (ρ.2.2.2.1 + 64) (rfl) ?_
      have fN : gF pNo pNo J2 ρ (sm_zI J2 (ρ.2.2.2.1 + 64)) (sm_nR ρ 12 0 1) := gF.nw _ _ _
      have sN : (sm_nR ρ 12 0 1).2.2.1 (ρ.2.2.2.1 + 64) = (12, 0) := sm_nR_at
      have zN : (sm_nR ρ 12 0 1).2.2.2.1 = ρ.2.2.2.1 + 1 ∧ (sm_nR ρ 12 0 1).2.2.2.2 = ρ.2.2.2.2 + 1 := ⟨rfl, rfl⟩
      generalize sm_zI J2 (ρ.2.2.2.1 + 64) = Jn at *
      generalize sm_nR ρ 12 0 1 = ρn at *
      obtain ⟨zN1, zN2⟩ := zN
      have hRn : rC Jn ρn P := hR2.g fN (fun _ _ z => z.elim) (fun _ _ z => z)
      have en : Jn 73 = J2 73 := fN.eI (by omega) (fun z => z)
      have hKn := hRn.1
      rw [← fN.eI (a := 70) (by omega) (fun z => z)] at c2
      rw [← fN.eI (a := 71) (by omega) (fun z => z)] at c3
      rw [← en] at p23
      have ht := s_tnumber (G := G) (d := D + 5) hKn hRn.2.2.1 (t := t) (by omega) c2 c3 i2 i3 i4
      rw [← i5] at ht
      refine wp_dup 16 rfl dX3_unit_15 rfl ?_
      refine wp_aload0 17 rfl dX3_unit_16 ?_
      refine wp_getr 20 rfl dX3_unit_17 fX3_9_4 (o4 hKn) (p4_0 hKn) ?_
      refine wp_aload0 21 rfl dX3_unit_20 ?_
      refine wp_geti 24 rfl dX3_unit_21 fX3_31_4 (o4 hKn) ?_
      rw [p23]
      refine wp_iconst (nI 1) 25 rfl dX3_unit_24 (by decide) ?_
      refine wp_isub 26 rfl dX3_unit_25 ?_
      rw [pk_sub (by omega), Nat.add_sub_cancel]
      refine wp_Ve1 29 rfl dX3_unit_26 kX2_number lX3_72 (o3 hKn) (nl rfl) (nl rfl) (ht) ?_
      refine wp_Ie1 32 rfl dX3_unit_29 kX13_init lX3_226 rfl (nl rfl) (nl rfl) (s_ninit sN) ?_
      refine wp_aret dX3_unit_32 rfl (Or.inl ⟨_, rfl⟩) ?_
      have e4 : sm_u Jn (ρ.2.2.2.1 + 64) 0 (nI (kt P t).2.2.1) 73 = J2 73 := by rw [sm_u_ne _ _ _ (by omega), en]
      refine ⟨(((j1.tr j2).g (A := pA) (B := pNo) (fun _ z => z)).tr fN (fun _ _ z => z.elim) (fun _ _ z => z)).tr (gF.u (B := pNo)) (fun x hx z => absurd z (by omega)) (fun _ _ z => z), _, rfl, p2.I e4, by rw [e4, j2.2, j1.2], ⟨by omega, by omega⟩, ?_⟩
      refine ⟨⟨Nat.le_refl _, by omega⟩, Or.inl ⟨sN, ?_⟩⟩
      rw [sm_u_eq, pk_us]
      unfold g_u
      rw [if_pos h2]
    · refine wp_iconst (nI 1) 5 rfl dX3_unit_4 (by decide) ?_
      refine wp_icmp_ne 8 33 rfl rfl dX3_unit_5 (fun c5 => ?_) (fun c5 => absurd c5 (fun z => h2 (ctS_1.mp ((nI_eq (by omega) (by decide)).mp z))))
      refine wp_aload0 34 rfl dX3_unit_33 ?_
      refine wp_Vx0 37 rfl dX3_unit_34 kX3_sort lX3_65 (o4 hK) (nl rfl) (nl rfl) (hso j1 p1) (fun v J2 ρ2 z => ?_) (fun b J2 ρ2 z => by obtain ⟨-, -, -, m, j, e, -⟩ := z.ex; cases e)
      obtain ⟨e0, j2, t', w', e1, p2, rfl⟩ := z.ok
      have e0 := e0.symm
      subst e0
      cases e1
      have hR2 := hR1.P j2
      have o2' : J2 73 4 = nI op := j2.2.trans o1
      have p23 := p2.2.1
      obtain ⟨-, -, -, -, c5⟩ := p2.ct hR2.2.2.2
      show sm_V G xX3_unit (D + 6) 37 [.ref 73, .retAddr 0] [.int (nI (ctS (kt P t).1))] J2 ρ _
      by_cases h32 : 32 ≤ (kt P t).1
      · rw [ps_0u (Or.inr ⟨h32, h41⟩)]
        refine wp_iconst (nI 3) 38 rfl dX3_unit_37 (by decide) ?_
        refine wp_icmp_ne 41 87 rfl rfl dX3_unit_38 (fun c38 => absurd (by rw [ctS_3.mpr (by omega)]) c38) (fun c38 => ?_)
        refine wp_aload0 42 rfl dX3_unit_41 ?_
        refine wp_getr 45 rfl dX3_unit_42 fX3_9_4 (o4 hK) (p4_0 hK) ?_
        refine wp_getr 48 rfl dX3_unit_45 fX3_52_3 (o3 hK) (p3_6 hK) ?_
        refine wp_aload0 49 rfl dX3_unit_48 ?_
        refine wp_geti 52 rfl dX3_unit_49 fX3_31_4 (o4 hK) ?_
        refine wp_sald 53 rfl dX3_unit_52 (s3_6 hK) (t) (p23) (⟨by omega, by decide⟩) ?_
        rw [c5 (by omega)]
        refine wp_bipush (nI 12) 55 rfl dX3_unit_53 (by decide) ?_
        refine wp_icmp_lt 58 87 rfl rfl dX3_unit_55 (fun c55 => absurd c55 (nI_nlt (by omega) (by omega))) (fun c55 => ?_)
        refine wp_aload0 59 rfl dX3_unit_58 ?_
        refine wp_Vx0 62 rfl dX3_unit_59 kX3_pass lX3_59 (o4 hK) (nl rfl) (nl rfl) (s_ppass hK hR2.2.2.2 p2 (by unfold cGd; omega)) (fun v J3 ρ3 z => ?_) (fun b J3 ρ3 z => z.outS rfl hK ((j1.tr j2).g (A := pA) (B := pNo) (fun _ z => z)) (bud.rf (Nat.le_refl t)) (by omega) (fun x e => by rw [if_pos (g_pass_l e).1, (g_pass_l e).2]))
        obtain ⟨e0, j3, t', w', e2, p3', rfl⟩ := z.ok
        have e0 := e0.symm
        subst e0
        obtain ⟨t9, e9, q9, n9⟩ := g_pass_inv e2
        cases e9
        subst q9
        rw [if_neg n9]
        have hR3 := hR2.P j3
        obtain ⟨-, -, -, -, c5⟩ := hR3.2.2.2 t p4 hp.1.2.1
        have c5 := c5 (by omega)
        have p33 := p3'.2.1
        show sm_V G xX3_unit (D + 6) 62 [.ref 73, .retAddr 0] [] J3 ρ _
        refine wp_new 65 rfl dX3_unit_62 nX3_228 (ρ.2.2.2.1 + 64) (rfl) ?_
        have fN : gF pNo pNo J3 ρ (sm_zI J3 (ρ.2.2.2.1 + 64)) (sm_nR ρ 13 0 1) := gF.nw _ _ _
        have sN : (sm_nR ρ 13 0 1).2.2.1 (ρ.2.2.2.1 + 64) = (13, 0) := sm_nR_at
        have zN : (sm_nR ρ 13 0 1).2.2.2.1 = ρ.2.2.2.1 + 1 ∧ (sm_nR ρ 13 0 1).2.2.2.2 = ρ.2.2.2.2 + 1 := ⟨rfl, rfl⟩
        generalize sm_zI J3 (ρ.2.2.2.1 + 64) = Jn at *
        generalize sm_nR ρ 13 0 1 = ρn at *
        obtain ⟨zN1, zN2⟩ := zN
        have hRn : rC Jn ρn P := hR3.g fN (fun _ _ z => z.elim) (fun _ _ z => z)
        have en : Jn 73 = J3 73 := fN.eI (by omega) (fun z => z)
        have hKn := hRn.1
        rw [← fN.eI (a := 72) (by omega) (fun z => z)] at c5
        rw [← en] at p33
        refine wp_dup 66 rfl dX3_unit_65 rfl ?_
        refine wp_aload0 67 rfl dX3_unit_66 ?_
        refine wp_getr 70 rfl dX3_unit_67 fX3_9_4 (o4 hKn) (p4_0 hKn) ?_
        refine wp_getr 73 rfl dX3_unit_70 fX3_52_3 (o3 hKn) (p3_6 hKn) ?_
        refine wp_aload0 74 rfl dX3_unit_73 ?_
        refine wp_geti 77 rfl dX3_unit_74 fX3_31_4 (o4 hKn) ?_
        rw [p33]
        refine wp_iconst (nI 1) 78 rfl dX3_unit_77 (by decide) ?_
        refine wp_isub 79 rfl dX3_unit_78 ?_
        rw [pk_sub (by omega), Nat.add_sub_cancel]
        refine wp_sald 80 rfl dX3_unit_79 (s3_6 hKn) (t) (rfl) (⟨by omega, by decide⟩) ?_
        rw [c5]
        refine wp_bipush (nI 12) 82 rfl dX3_unit_80 (by decide) ?_
        refine wp_isub 83 rfl dX3_unit_82 ?_
        rw [pk_sub (by omega), show (kt P t).1 - 20 - 12 = (kt P t).1 - 32 by omega]
        refine wp_Ie1 86 rfl dX3_unit_83 kX14_init lX3_230 rfl (nl rfl) (nl rfl) (s_vinit sN) ?_
        refine wp_aret dX3_unit_86 rfl (Or.inl ⟨_, rfl⟩) ?_
        have e4 : sm_u Jn (ρ.2.2.2.1 + 64) 0 (nI ((kt P t).1 - 32)) 73 = J3 73 := by rw [sm_u_ne _ _ _ (by omega), en]
        refine ⟨((((j1.tr j2).tr j3).g (A := pA) (B := pNo) (fun _ z => z)).tr fN (fun _ _ z => z.elim) (fun _ _ z => z)).tr (gF.u (B := pNo)) (fun x hx z => absurd z (by omega)) (fun _ _ z => z), _, rfl, p3'.I e4, by rw [e4, j3.2, j2.2, j1.2], ⟨by omega, by omega⟩, ?_⟩
        refine ⟨⟨Nat.le_refl _, by omega⟩, Or.inr (Or.inl ⟨sN, (kt P t).1 - 32, by omega, ?_, ?_⟩)⟩
        · rw [sm_u_eq, pk_us]
        · unfold g_u
          rw [if_neg h2]
      · -- a bracket, or nothing that fits
        have hbr : sm_V G xX3_unit (D + 6) 87 [.ref 73, .retAddr 0] [] J2 ρ (xE I ρ (kt P) t w (ps (kt P) (f + 1) 0 op t [])) := by
          have j12 := j1.tr j2
          have fj : gF pA pNo I ρ J2 ρ := j12.g (A := pA) (B := pNo) (fun _ z => z)
          refine wp_aload0 88 rfl dX3_unit_87 ?_
          refine wp_bipush (nI 40) 90 rfl dX3_unit_88 (by decide) ?_
          refine wp_Ve1 93 rfl dX3_unit_90 kX3_isSign lX3_55 (o4 hK) (nl rfl) (nl rfl) (s_pisSign hK hR2.2.2.2 p2 6 40 (by decide) rfl (by decide)) ?_
          by_cases hb6 : (kt P t).1 = 6
          · rw [z_bt hb6, ps_0b hb6]
            refine wp_if_ne 96 102 rfl rfl dX3_unit_93 (fun c93 => ?_) (fun c93 => absurd c93 (by decide))
            refine wp_aload0 103 rfl dX3_unit_102 ?_
            refine wp_geti 106 rfl dX3_unit_103 fX3_99_4 (o4 hK) ?_
            rw [o2']
            by_cases hop : op = 6
            · rw [if_pos (Or.inl hop)]
              refine wp_bipush (nI 6) 108 rfl dX3_unit_106 (by decide) ?_
              refine wp_icmp_ne 111 117 rfl rfl dX3_unit_108 (fun c108 => absurd (by rw [hop]) c108) (fun c108 => ?_)
              refine wp_aload0 112 rfl dX3_unit_111 ?_
              refine wp_iconst (nI 2) 113 rfl dX3_unit_112 (by decide) ?_
              refine wp_Ve1 116 rfl dX3_unit_113 kX3_wrong lX3_48 (o4 hK) (nl rfl) (nl rfl) (s_pwrong hK hR2.2.2.2 p2) ?_
              refine wp_athrow dX3_unit_116 ?_
              exact wp_out rfl (o2 hK) ⟨fj.tr (M_f_J.g (A := pA) (B := pNo) (fun _ z => z)) (fun _ _ z => z) (fun _ _ z => z), rfl, M_f_t, bud.rf (by omega)⟩
            · refine wp_bipush (nI 6) 108 rfl dX3_unit_106 (by decide) ?_
              refine wp_icmp_ne 111 117 rfl rfl dX3_unit_108 (fun c108 => ?_) (fun c108 => absurd c108 (fun z => hop ((nI_eq (by omega) (by decide)).mp z)))
              refine wp_aload0 118 rfl dX3_unit_117 ?_
              refine wp_dup 119 rfl dX3_unit_118 rfl ?_
              refine wp_geti 122 rfl dX3_unit_119 fX3_99_4 (o4 hK) ?_
              rw [o2']
              refine wp_iconst (nI 1) 123 rfl dX3_unit_122 (by decide) ?_
              refine wp_iadd 124 rfl dX3_unit_123 ?_
              rw [nI_add]
              refine wp_puti 127 rfl dX3_unit_124 pX3_99_4 (o4 hK) (⟨rfl, rfl⟩) ?_
              have e5 : ∀ k, ¬ k = 4 → sm_u J2 73 4 (nI (op + 1)) 73 k = J2 73 k := fun k hk => by rw [sm_u_eq, pk_un hk]
              have j5 : ∀ a, ¬ (a = 65 ∨ a = 73) → sm_u J2 73 4 (nI (op + 1)) a = J2 a := fun a ha => sm_u_ne _ _ _ (by omega)
              have p5 : pst (sm_u J2 73 4 (nI (op + 1))) (kt P) t w := by
                unfold pst
                rw [e5 3 (by decide), e5 5 (by decide), e5 6 (by decide)]
                exact p2
              have o5 : sm_u J2 73 4 (nI (op + 1)) 73 4 = nI (op + 1) := by rw [sm_u_eq, pk_us]
              generalize sm_u J2 73 4 (nI (op + 1)) = J5 at *
              have f5 : gF pA pNo J2 ρ J5 ρ := gF.i (fun a ha => j5 a ha)
              have hR5 : rC J5 ρ P := hR2.g f5 (fun _ _ z => z) (fun _ _ z => z)
              have fi5 : gF pA pNo I ρ J5 ρ := fj.tr f5 (fun _ _ z => z) (fun _ _ z => z)
              refine wp_aload0 128 rfl dX3_unit_127 ?_
              refine wp_Vx0 131 rfl dX3_unit_128 kX3_pass lX3_59 (o4 hK) (nl rfl) (nl rfl) (s_ppass hK hR5.2.2.2 p5 (by rw [hb6]; decide)) (fun v J6 ρ6 z => ?_) (fun b J6 ρ6 z => z.outS rfl hK fi5 (bud.rf (Nat.le_refl t)) (by omega) (fun x e => by rw [if_pos (Or.inr (g_pass_l e).1), (g_pass_l e).2]))
              obtain ⟨e0, j6, t', w', e2, p6, rfl⟩ := z.ok
              have e0 := e0.symm
              subst e0
              obtain ⟨t9, e9, q9, n9⟩ := g_pass_inv e2
              cases e9
              subst q9
              rw [if_neg (by omega)]
              have hR6 := hR5.P j6
              have fi6 : gF pA pNo I ρ J6 ρ := fi5.tr (j6.g (A := pA) (B := pNo) (fun _ z => z)) (fun _ _ z => z) (fun _ _ z => z)
              show sm_V G xX3_unit (D + 6) 131 [.ref 73, .retAddr 0] [] J6 ρ _
              refine wp_aload0 132 rfl dX3_unit_131 ?_
              refine wp_Vx0 135 rfl dX3_unit_132 kX3_sum lX3_200 (o4 hK) (nl rfl) (nl rfl) (hS (D + 5) J6 ρ (op + 1) (t + 1) w hR6 p6 (j6.2.trans o5) (by omega) (by omega) (by omega)) (fun v J7 ρ7 z => ?_) (fun b J7 ρ7 z => z.outS rfl hK hR.2.1 fi6 (bud.rf (Nat.le_succ t)) (fun x e => by rw [e]))
              obtain ⟨f7, u, t7, a, e7, rfl, p7, o7, b7, s7⟩ := z.ok
              rw [e7]
              have hR7 : rC J7 ρ7 P := hR6.g f7 (fun _ _ z => z) (fun _ _ z => z)
              have hK7 := hR7.1
              have fi7 : gF pA pNo I ρ J7 ρ7 := fi6.tr f7 (fun _ _ z => z) (fun _ _ z => z)
              have b7' : bud ρ t ρ7 t7 := (bud.rf (Nat.le_succ t)).tr b7
              have o7 : J7 73 4 = nI (op + 1) := o7.trans (j6.2.trans o5)
              have t74 := p7.1.1
              show sm_V G xX3_unit (D + 6) 135 [.ref 73, .retAddr 0] [.ref a] J7 ρ7 (xE I ρ (kt P) t w (if (kt P t7).1 = 7 then (if t7 = 400 then .inl (2, t7) else .inr (u, t7 + 1)) else .inl (1, t7)))
              have g7 : ∀ x, g_must (kt P) 7 (.inr (t7, w)) = .inl x → (if (kt P t7).1 = 7 then (if t7 = 400 then .inl (2, t7) else .inr (u, t7 + 1)) else .inl (1, t7)) = (.inl x : pE) := fun x e => by
                by_cases q : (kt P t7).1 = 7
                · rw [show g_must (kt P) 7 (.inr (t7, w)) = g_pass (.inr (t7, w)) from if_pos q] at e
                  rw [if_pos q, if_pos (g_pass_l e).1, (g_pass_l e).2]
                · rw [show g_must (kt P) 7 (.inr (t7, w)) = .inl (1, t7) from if_neg q] at e
                  cases e
                  rw [if_neg q]
              refine wp_astore1 136 rfl dX3_unit_135 (by decide) rfl ?_
              refine wp_aload0 137 rfl dX3_unit_136 ?_
              refine wp_bipush (nI 41) 139 rfl dX3_unit_137 (by decide) ?_
              refine wp_Vx1 142 rfl dX3_unit_139 kX3_sign lX3_105 (o4 hK7) (nl rfl) (nl rfl) (s_psign hK7 hR7.2.2.2 p7 7 41 (by decide) rfl (by decide)) (fun v J8 ρ8 z => ?_) (fun b J8 ρ8 z => z.outS rfl hK7 fi7 b7' (by omega) g7)
              obtain ⟨e0, j8, t', w', e8, p8, rfl⟩ := z.ok
              have e0 := e0.symm
              subst e0
              obtain ⟨t9, e9, k9, q9, n9⟩ := g_must_inv e8
              cases e9
              subst q9
              rw [if_pos k9, if_neg n9]
              have o8 : J8 73 4 = nI (op + 1) := j8.2.trans o7
              show sm_V G xX3_unit (D + 6) 142 [.ref 73, .ref a] [] J8 ρ7 _
              refine wp_aload0 143 rfl dX3_unit_142 ?_
              refine wp_dup 144 rfl dX3_unit_143 rfl ?_
              refine wp_geti 147 rfl dX3_unit_144 fX3_99_4 (o4 hK7) ?_
              rw [o8]
              refine wp_iconst (nI 1) 148 rfl dX3_unit_147 (by decide) ?_
              refine wp_isub 149 rfl dX3_unit_148 ?_
              rw [pk_sub (by omega), Nat.add_sub_cancel]
              refine wp_puti 152 rfl dX3_unit_149 pX3_99_4 (o4 hK7) (⟨rfl, rfl⟩) ?_
              refine wp_aload1 153 rfl dX3_unit_152 ?_
              refine wp_aret dX3_unit_153 rfl (Or.inl ⟨_, rfl⟩) ?_
              have e9 : ∀ k, ¬ k = 4 → sm_u J8 73 4 (nI op) 73 k = J8 73 k := fun k hk => by rw [sm_u_eq, pk_un hk]
              have f9 : gF pA pNo J8 ρ7 (sm_u J8 73 4 (nI op)) ρ7 := (gF.u (B := pNo)).wk (fun x hx z => Or.inr z) (fun _ _ z => z)
              have f89 : gF pA pNo J7 ρ7 (sm_u J8 73 4 (nI op)) ρ7 := (j8.g (A := pA) (B := pNo) (fun _ z => z)).tr f9 (fun _ _ z => z) (fun _ _ z => z)
              refine ⟨fi7.tr f89 (fun _ _ z => z) (fun _ _ z => z), a, rfl, ?_, ?_, b7'.up (Nat.le_succ t7), s7.g f89 (Nat.le_refl _) (fun x hx _ z => by unfold pA at z; omega) (fun _ _ _ z => z)⟩
              · unfold pst
                rw [e9 3 (by decide), e9 5 (by decide), e9 6 (by decide)]
                exact p8
              · rw [sm_u_eq, pk_us]
                exact ho.symm
          · rw [z_bf hb6, ps_0n (by unfold g_isU; omega) hb6]
            refine wp_if_ne 96 102 rfl rfl dX3_unit_93 (fun c93 => absurd (rfl) c93) (fun c93 => ?_)
            refine wp_aload0 97 rfl dX3_unit_96 ?_
            refine wp_iconst (nI 1) 98 rfl dX3_unit_97 (by decide) ?_
            refine wp_Ve1 101 rfl dX3_unit_98 kX3_wrong lX3_48 (o4 hK) (nl rfl) (nl rfl) (s_pwrong hK hR2.2.2.2 p2) ?_
            refine wp_athrow dX3_unit_101 ?_
            exact wp_out rfl (o2 hK) ⟨fj.tr (M_f_J.g (A := pA) (B := pNo) (fun _ z => z)) (fun _ _ z => z) (fun _ _ z => z), rfl, M_f_t, bud.rf (by omega)⟩
        by_cases h20 : 20 ≤ (kt P t).1
        · refine wp_iconst (nI 3) 38 rfl dX3_unit_37 (by decide) ?_
          refine wp_icmp_ne 41 87 rfl rfl dX3_unit_38 (fun c38 => absurd (by rw [ctS_3.mpr h20]) c38) (fun c38 => ?_)
          refine wp_aload0 42 rfl dX3_unit_41 ?_
          refine wp_getr 45 rfl dX3_unit_42 fX3_9_4 (o4 hK) (p4_0 hK) ?_
          refine wp_getr 48 rfl dX3_unit_45 fX3_52_3 (o3 hK) (p3_6 hK) ?_
          refine wp_aload0 49 rfl dX3_unit_48 ?_
          refine wp_geti 52 rfl dX3_unit_49 fX3_31_4 (o4 hK) ?_
          refine wp_sald 53 rfl dX3_unit_52 (s3_6 hK) (t) (p23) (⟨by omega, by decide⟩) ?_
          rw [c5 h20]
          refine wp_bipush (nI 12) 55 rfl dX3_unit_53 (by decide) ?_
          refine wp_icmp_lt 58 87 rfl rfl dX3_unit_55 (fun c55 => ?_) (fun c55 => absurd (nI_lt (by omega) (by decide)) c55)
          exact hbr
        · refine wp_iconst (nI 3) 38 rfl dX3_unit_37 (by decide) ?_
          refine wp_icmp_ne 41 87 rfl rfl dX3_unit_38 (fun c38 => ?_) (fun c38 => absurd c38 (fun z => h20 (ctS_3.mp ((nI_eq (by omega) (by decide)).mp z))))
          exact hbr
theorem p_all (G : sm_G) (P : Nat × (Nat → Int32)) : ∀ f, cU G P f 0 xX3_unit 1 ∧ cU G P f 1 xX3_part 2 ∧ cV G P f 2 xX3_part 2 ∧ cU G P f 3 xX3_sum 3 ∧ cV G P f 4 xX3_sum 3
  | 0 => ⟨fun D I ρ op t w _ _ _ _ h => absurd h (by omega), fun D I ρ op t w _ _ _ _ h => absurd h (by omega), fun D I ρ J ρJ op t t0 w a acc x2 _ _ _ _ _ _ _ h => absurd h (by omega), fun D I ρ op t w _ _ _ _ h => absurd h (by omega), fun D I ρ J ρJ op t t0 w a acc x2 _ _ _ _ _ _ _ h => absurd h (by omega)⟩
  | f + 1 => by
    obtain ⟨h1, h2, h3, h4, h5⟩ := p_all G P f
    exact ⟨punit_all h4, ppart_all h1 h3, ppart_loop h1 h3, psum_all h2 h5, psum_loop h2 h5⟩
theorem s_psum {I : sm_I} {ρ : sm_R} {d t : Nat} {w : Nat × Nat} (hR : rC I ρ P) (hp : pst I (kt P) t w) (ho : I 73 4 = nI 0) : sm_M G xX3_sum (d + 26) [.ref 73] I ρ (xE I ρ (kt P) t w (ps (kt P) 4000 3 0 t [])) :=
  (p_all G P 4000).2.2.2.1 (d + 26) I ρ 0 t w hR hp ho (by decide) (by omega) (by omega)
end F9
