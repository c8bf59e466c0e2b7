/-! ===== the component's parser: part, sum ===== -/
set_option maxRecDepth 100000
theorem pst.I {I J : sm_I} {tk : tkf} {t : Nat} {w : Nat × Nat} (h : pst I tk t w) (e : J 73 = I 73) : pst J tk t w := by
  unfold pst
  rw [e]
  exact h
/-- a contract of unit, part, sum -/
def cU (G : sm_G) (P : Nat × (Nat → Int32)) (f m : Nat) (X : sm_X) (k : Nat) : Prop := ∀ (D : Nat) (I : sm_I) (ρ : sm_R) (op t : Nat) (w : Nat × Nat), rC I ρ P → pst I (kt P) t w → I 73 4 = nI op → op ≤ 6 → 8 * (401 - t) + k ≤ f → k + 5 + 3 * (6 - op) ≤ D → sm_M G X D [.ref 73] I ρ (xE I ρ (kt P) t w (ps (kt P) f m op t []))
/-- and of the loops of part, sum -/
def cV (G : sm_G) (P : Nat × (Nat → Int32)) (f m : Nat) (X : sm_X) (k : Nat) : Prop := ∀ (D : Nat) (I : sm_I) (ρ : sm_R) (J : sm_I) (ρJ : sm_R) (op t t0 : Nat) (w : Nat × Nat) (a : Nat) (acc : ex) (x2 : Value), rC J ρJ P → 879 ≤ ρ.2.2.2.1 → gF pA pNo I ρ J ρJ → pst J (kt P) t w → J 73 4 = nI op → I 73 4 = nI op → op ≤ 6 → 8 * (401 - t) + 1 ≤ f → k + 5 + 3 * (6 - op) ≤ D → bud ρ t0 ρJ t → sB J ρJ (ρ.2.2.2.1 + 64) (ρJ.2.2.2.1 + 64) acc.length a acc → sm_V G X D 5 [.ref 73, .ref a, x2] [] J ρJ (xE I ρ (kt P) t0 w (ps (kt P) f m op t acc))
theorem co_ch {k : Nat} (h : k = 8 ∨ k = 9 ∨ k = 10 ∨ k = 15) : nI (ctC k) = sOp (co_c k) := by
  rcases h with e | e | e | e <;> rw [e] <;> rfl
section G2
variable {G : sm_G} {P : Nat × (Nat → Int32)} {f : Nat}
theorem ppart_loop (hU : cU G P f 0 xX3_unit 1) (hV : cV G P f 2 xX3_part 2) : cV G P (f + 1) 2 xX3_part 2 := by
  intro D I ρ J ρJ op t t0 w a acc x2 hR hlo hF hp ho hoI h6 hf hD hb hB
  obtain ⟨D, rfl⟩ : ∃ D', D = D' + 5 := ⟨D - 5, by omega⟩
  have hK := hR.1
  have hC := hR.2.2.2
  have hJ := hR.2.1
  have p4 := hp.1.1
  have p3 := hp.2.1
  have hFl := hF.1
  refine wp_aload0 6 rfl dX3_part_5 ?_
  refine wp_bipush (nI 42) 8 rfl dX3_part_6 (by decide) ?_
  refine wp_Ve1 11 rfl dX3_part_8 kX3_isSign lX3_55 (o4 hK) (nl rfl) (nl rfl) (s_pisSign hK hC hp 10 42 (by decide) rfl (by decide)) ?_
  by_cases h1 : (kt P t).1 = 10 ∨ (kt P t).1 = 15
  · have hst : sm_V G xX3_part (D + 5) 23 [.ref 73, .ref a, x2] [] J ρJ (xE I ρ (kt P) t0 w (ps (kt P) (f + 1) 2 op t acc)) := by
      rw [ps_2 h1]
      obtain ⟨-, -, -, c4, -⟩ := hp.ct hC
      have c4 := c4 (by omega) (by omega)
      refine wp_aload0 24 rfl dX3_part_23 ?_
      refine wp_getr 27 rfl dX3_part_24 fX3_9_4 (o4 hK) (p4_0 hK) ?_
      refine wp_getr 30 rfl dX3_part_27 fX3_52_3 (o3 hK) (p3_6 hK) ?_
      refine wp_aload0 31 rfl dX3_part_30 ?_
      refine wp_geti 34 rfl dX3_part_31 fX3_31_4 (o4 hK) ?_
      refine wp_sald 35 rfl dX3_part_34 (s3_6 hK) (t) (p3) (⟨by omega, by decide⟩) ?_
      rw [c4]
      have gp : ∀ x, g_pass (.inr (t, w)) = .inl x → t = 400 ∧ x = (2, t) := fun x e => by
        by_cases q : t = 400
        · rw [show g_pass (.inr (t, w)) = .inl (2, t) from if_pos q] at e
          cases e
          exact ⟨q, rfl⟩
        · rw [show g_pass (.inr (t, w)) = .inr (t + 1, w) from if_neg q] at e
          cases e
      refine wp_istore2 36 rfl dX3_part_35 (by decide) rfl ?_
      refine wp_aload0 37 rfl dX3_part_36 ?_
      refine wp_Vx0 40 rfl dX3_part_37 kX3_pass lX3_59 (o4 hK) (nl rfl) (nl rfl) (s_ppass hK hC hp (by unfold cGd; omega)) (fun v J1 ρ1 z => ?_) (fun b J1 ρ1 z => z.outS rfl hK hF hb (by omega) (fun x e => by rw [if_pos (gp x e).1, (gp x e).2]))
      obtain ⟨e0, j1, t', w', e1, p1, rfl⟩ := z.ok
      have e0 := e0.symm
      subst e0
      obtain ⟨t9, e9, q9, n9⟩ := g_pass_inv e1
      cases e9
      subst q9
      rw [if_neg n9]
      have hR1 := hR.P j1
      have o1 : J1 73 4 = nI op := j1.2.trans ho
      show sm_V G xX3_part (D + 5) 40 [.ref 73, .ref a, .int (nI (ctC (kt P t).1))] [] J1 ρJ _
      refine wp_new 43 rfl dX3_part_40 nX3_216 (ρJ.2.2.2.1 + 64) (rfl) ?_
      have fN : gF pNo pNo J1 ρJ (sm_zI J1 (ρJ.2.2.2.1 + 64)) (sm_nR ρJ 14 0 3) := gF.nw _ _ _
      have sN : (sm_nR ρJ 14 0 3).2.2.1 (ρJ.2.2.2.1 + 64) = (14, 0) := sm_nR_at
      have zN : (sm_nR ρJ 14 0 3).2.2.2.1 = ρJ.2.2.2.1 + 1 ∧ (sm_nR ρJ 14 0 3).2.2.2.2 = ρJ.2.2.2.2 + 3 := ⟨rfl, rfl⟩
      generalize sm_zI J1 (ρJ.2.2.2.1 + 64) = Jn at *
      generalize sm_nR ρJ 14 0 3 = ρn at *
      obtain ⟨zN1, zN2⟩ := zN
      have hRn : rC Jn ρn P := hR1.g fN (fun _ _ z => z.elim) (fun _ _ z => z)
      have en : Jn 73 = J1 73 := fN.eI (by omega) (fun z => z)
      have pn := p1.I en
      have on : Jn 73 4 = nI op := by rw [en]; exact o1
      have fJ : gF pA pNo J ρJ Jn ρn := (j1.g (A := pA) (B := pNo) (fun _ z => z)).tr fN (fun _ _ z => z.elim) (fun _ _ z => z)
      have fn : gF pA pNo I ρ Jn ρn := hF.tr fJ (fun _ _ z => z) (fun _ _ z => z)
      have bn : bud ρ t0 ρn (t + 1) := by
        obtain ⟨b1, b2⟩ := hb
        exact ⟨by omega, by omega⟩
      have hKn := hRn.1
      refine wp_dup 44 rfl dX3_part_43 rfl ?_
      refine wp_iload2 45 rfl dX3_part_44 ?_
      refine wp_aload1 46 rfl dX3_part_45 ?_
      refine wp_aload0 47 rfl dX3_part_46 ?_
      refine wp_Vx0 50 rfl dX3_part_47 kX3_unit lX3_221 (o4 hKn) (nl rfl) (nl rfl) (hU (D + 4) Jn ρn op (t + 1) w hRn pn on h6 (by omega) (by omega)) (fun v J3 ρ3 z => ?_) (fun b J3 ρ3 z => z.outS rfl hKn hRn.2.1 fn bn (fun x e => by rw [e]))
      obtain ⟨f3, u, t2, b, e3, rfl, p3', o3, b3, s3⟩ := z.ok
      rw [e3]
      show sm_V G xX3_part (D + 5) 50 [.ref 73, .ref a, .int (nI (ctC (kt P t).1))] [.ref b, .ref a, .int (nI (ctC (kt P t).1)), .ref (ρJ.2.2.2.1 + 64), .ref (ρJ.2.2.2.1 + 64)] J3 ρ3 (xE I ρ (kt P) t0 w (ps (kt P) f 2 op t2 (acc ++ u ++ [(co_c (kt P t).1, nI 0)])))
      have h3l := f3.1
      have hok := (ps_good (kt P) f).1 op (t + 1) u t2 (by omega) e3
      have s14 : ρ3.2.2.1 (ρJ.2.2.2.1 + 64) = (14, 0) := (f3.eS (by omega)).trans sN
      refine wp_Ie3 53 rfl dX3_part_50 kX15_init lX3_218 rfl (nl rfl) (nl rfl) (s_jinit s14) ?_
      refine wp_astore1 54 rfl dX3_part_53 (by decide) rfl ?_
      refine wp_goto 5 rfl dX3_part_54 ?_
      have fE : gF (fun x => x = ρJ.2.2.2.1 + 64) (fun x => x = ρJ.2.2.2.1 + 64) J3 ρ3 (sm_u J3 (ρJ.2.2.2.1 + 64) 0 (nI (ctC (kt P t).1))) (ρ3.1, sm_up (sm_up ρ3.2.1 (ρJ.2.2.2.1 + 64) 1 (some a)) (ρJ.2.2.2.1 + 64) 2 (some b), ρ3.2.2) :=
        ⟨⟨Nat.le_refl _, Nat.le_refl _, fun _ _ => rfl⟩, fun _ _ => ⟨rfl, rfl⟩, fun x _ hn => sm_u_ne _ _ _ hn, fun x _ hn => by
          show sm_up (sm_up ρ3.2.1 (ρJ.2.2.2.1 + 64) 1 (some a)) (ρJ.2.2.2.1 + 64) 2 (some b) x = _
          rw [sm_up_ne _ _ _ hn, sm_up_ne _ _ _ hn]⟩
      have hR3 : rC J3 ρ3 P := hRn.g f3 (fun _ _ z => z) (fun _ _ z => z)
      have hR4 := hR3.g fE (fun x hx z => by omega) (fun x hx z => by omega)
      have f4 : gF pA pNo J ρJ _ _ := (fJ.tr f3 (fun _ _ z => z) (fun _ _ z => z)).tr fE (fun x hx z => absurd z (by omega)) (fun x hx z => absurd z (by omega))
      have e4 : sm_u J3 (ρJ.2.2.2.1 + 64) 0 (nI (ctC (kt P t).1)) 73 = J3 73 := sm_u_ne _ _ _ (by omega)
      refine hV (D + 5) I ρ _ _ op t2 t0 w (ρJ.2.2.2.1 + 64) _ _ hR4 hlo (hF.tr f4 (fun _ _ z => z) (fun _ _ z => z)) (p3'.I e4) (by rw [e4, o3]; exact on) hoI h6 (by have := hok.1; omega) (by omega) ?_ ?_
      · obtain ⟨b1, b2⟩ := bn
        obtain ⟨b5, b6⟩ := b3
        exact ⟨by show ρ3.2.2.2.1 + _ ≤ _; omega, by show ρ3.2.2.2.2 + _ ≤ _; omega⟩
      · have el : (acc ++ u ++ [(co_c (kt P t).1, nI 0)]).length = (acc.length + u.length) + 1 := by simp; omega
        rw [el]
        refine ⟨⟨by omega, by show _ < ρ3.2.2.2.1 + 64; omega⟩, Or.inr (Or.inr ⟨s14, co_c (kt P t).1, a, b, acc, u, co_c_in _, ?_, ?_, ?_, ?_, ?_, rfl⟩)⟩
        · rw [sm_u_eq, pk_us]
          exact co_ch (by omega)
        · show sm_up (sm_up ρ3.2.1 (ρJ.2.2.2.1 + 64) 1 (some a)) (ρJ.2.2.2.1 + 64) 2 (some b) (ρJ.2.2.2.1 + 64) 1 = _
          rw [sm_up_eq]
          unfold va_up
          rw [if_neg (by decide), sm_up_eq]
          unfold va_up
          rw [if_pos rfl]
        · show sm_up (sm_up ρ3.2.1 (ρJ.2.2.2.1 + 64) 1 (some a)) (ρJ.2.2.2.1 + 64) 2 (some b) (ρJ.2.2.2.1 + 64) 2 = _
          rw [sm_up_eq]
          unfold va_up
          rw [if_pos rfl]
        · exact (hB.g f4 (Nat.le_refl _) (fun x hx _ z => by unfold pA at z; omega) (fun x _ _ z => z)).wk (Nat.le_refl _) (by show _ ≤ ρ3.2.2.2.1 + 64; omega) (by omega)
        · exact (s3.g fE (Nat.le_refl _) (fun x hx _ z => by omega) (fun x hx _ z => by omega)).wk (by omega) (Nat.le_refl _) (by omega)
    by_cases h10 : (kt P t).1 = 10
    · rw [z_bt h10]
      refine wp_if_ne 14 23 rfl rfl dX3_part_11 (fun c11 => ?_) (fun c11 => absurd c11 (by decide))
      exact hst
    · rw [z_bf h10]
      refine wp_if_ne 14 23 rfl rfl dX3_part_11 (fun c11 => absurd (rfl) c11) (fun c11 => ?_)
      refine wp_aload0 15 rfl dX3_part_14 ?_
      refine wp_bipush (nI 47) 17 rfl dX3_part_15 (by decide) ?_
      refine wp_Ve1 20 rfl dX3_part_17 kX3_isSign lX3_55 (o4 hK) (nl rfl) (nl rfl) (s_pisSign hK hC hp 15 47 (by decide) rfl (by decide)) ?_
      rw [z_bt (h1.resolve_left h10)]
      refine wp_if_eq 23 57 rfl rfl dX3_part_20 (fun c20 => absurd c20 (by decide)) (fun c20 => ?_)
      exact hst
  · rw [z_bf (fun z => h1 (Or.inl z)), ps_2n h1]
    refine wp_if_ne 14 23 rfl rfl dX3_part_11 (fun c11 => absurd (rfl) c11) (fun c11 => ?_)
    refine wp_aload0 15 rfl dX3_part_14 ?_
    refine wp_bipush (nI 47) 17 rfl dX3_part_15 (by decide) ?_
    refine wp_Ve1 20 rfl dX3_part_17 kX3_isSign lX3_55 (o4 hK) (nl rfl) (nl rfl) (s_pisSign hK hC hp 15 47 (by decide) rfl (by decide)) ?_
    rw [z_bf (fun z => h1 (Or.inr z))]
    refine wp_if_eq 23 57 rfl rfl dX3_part_20 (fun c20 => ?_) (fun c20 => absurd (rfl) c20)
    refine wp_aload1 58 rfl dX3_part_57 ?_
    refine wp_aret dX3_part_58 rfl (Or.inl ⟨_, rfl⟩) ?_
    exact ⟨hF, a, rfl, hp, ho.trans hoI.symm, hb, hB⟩
theorem ppart_all (hU : cU G P f 0 xX3_unit 1) (hV : cV G P f 2 xX3_part 2) : cU G P (f + 1) 1 xX3_part 2 := by
  intro D I ρ op t w hR hp ho h6 hf hD
  obtain ⟨D, rfl⟩ : ∃ D', D = D' + 5 := ⟨D - 5, by omega⟩
  have hK := hR.1
  have p4 := hp.1.1
  show sm_V G xX3_part (D + 5) 0 [.ref 73, .retAddr 0, .retAddr 0] [] I ρ _
  rw [ps_1]
  refine wp_aload0 1 rfl dX3_part_0 ?_
  refine wp_Vx0 4 rfl dX3_part_1 kX3_unit lX3_221 (o4 hK) (nl rfl) (nl rfl) (hU (D + 4) I ρ op t w hR hp ho h6 (by omega) (by omega)) (fun v J1 ρ1 z => ?_) (fun b J1 ρ1 z => z.outS rfl hK hR.2.1 gF.rf (bud.rf (Nat.le_refl _)) (fun x e => by rw [e]))
  obtain ⟨f1, u, t1, a, e1, rfl, p1, o1, b1, s1⟩ := z.ok
  rw [e1]
  have hok := (ps_good (kt P) f).1 op t u t1 p4 e1
  show sm_V G xX3_part (D + 5) 4 [.ref 73, .retAddr 0, .retAddr 0] [.ref a] J1 ρ1 (xE I ρ (kt P) t w (ps (kt P) f 2 op t1 u))
  refine wp_astore1 5 rfl dX3_part_4 (by decide) rfl ?_
  exact hV (D + 5) I ρ J1 ρ1 op t1 t w a u _ (hR.g f1 (fun _ _ z => z) (fun _ _ z => z)) hR.2.1 f1 p1 (o1.trans ho) ho h6 (by have := hok.1; omega) (by omega) b1 s1
theorem psum_loop (hU : cU G P f 1 xX3_part 2) (hV : cV G P f 4 xX3_sum 3) : cV G P (f + 1) 4 xX3_sum 3 := by
  intro D I ρ J ρJ op t t0 w a acc x2 hR hlo hF hp ho hoI h6 hf hD hb hB
  obtain ⟨D, rfl⟩ : ∃ D', D = D' + 5 := ⟨D - 5, by omega⟩
  have hK := hR.1
  have hC := hR.2.2.2
  have hJ := hR.2.1
  have p4 := hp.1.1
  have p3 := hp.2.1
  have hFl := hF.1
  refine wp_aload0 6 rfl dX3_sum_5 ?_
  refine wp_bipush (nI 43) 8 rfl dX3_sum_6 (by decide) ?_
  refine wp_Ve1 11 rfl dX3_sum_8 kX3_isSign lX3_55 (o4 hK) (nl rfl) (nl rfl) (s_pisSign hK hC hp 8 43 (by decide) rfl (by decide)) ?_
  by_cases h1 : (kt P t).1 = 8 ∨ (kt P t).1 = 9
  · have hst : sm_V G xX3_sum (D + 5) 23 [.ref 73, .ref a, x2] [] J ρJ (xE I ρ (kt P) t0 w (ps (kt P) (f + 1) 4 op t acc)) := by
      rw [ps_4 h1]
      obtain ⟨-, -, -, c4, -⟩ := hp.ct hC
      have c4 := c4 (by omega) (by omega)
      refine wp_aload0 24 rfl dX3_sum_23 ?_
      refine wp_getr 27 rfl dX3_sum_24 fX3_9_4 (o4 hK) (p4_0 hK) ?_
      refine wp_getr 30 rfl dX3_sum_27 fX3_52_3 (o3 hK) (p3_6 hK) ?_
      refine wp_aload0 31 rfl dX3_sum_30 ?_
      refine wp_geti 34 rfl dX3_sum_31 fX3_31_4 (o4 hK) ?_
      refine wp_sald 35 rfl dX3_sum_34 (s3_6 hK) (t) (p3) (⟨by omega, by decide⟩) ?_
      rw [c4]
      have gp : ∀ x, g_pass (.inr (t, w)) = .inl x → t = 400 ∧ x = (2, t) := fun x e => by
        by_cases q : t = 400
        · rw [show g_pass (.inr (t, w)) = .inl (2, t) from if_pos q] at e
          cases e
          exact ⟨q, rfl⟩
        · rw [show g_pass (.inr (t, w)) = .inr (t + 1, w) from if_neg q] at e
          cases e
      refine wp_istore2 36 rfl dX3_sum_35 (by decide) rfl ?_
      refine wp_aload0 37 rfl dX3_sum_36 ?_
      refine wp_Vx0 40 rfl dX3_sum_37 kX3_pass lX3_59 (o4 hK) (nl rfl) (nl rfl) (s_ppass hK hC hp (by unfold cGd; omega)) (fun v J1 ρ1 z => ?_) (fun b J1 ρ1 z => z.outS rfl hK hF hb (by omega) (fun x e => by rw [if_pos (gp x e).1, (gp x e).2]))
      obtain ⟨e0, j1, t', w', e1, p1, rfl⟩ := z.ok
      have e0 := e0.symm
      subst e0
      obtain ⟨t9, e9, q9, n9⟩ := g_pass_inv e1
      cases e9
      subst q9
      rw [if_neg n9]
      have hR1 := hR.P j1
      have o1 : J1 73 4 = nI op := j1.2.trans ho
      show sm_V G xX3_sum (D + 5) 40 [.ref 73, .ref a, .int (nI (ctC (kt P t).1))] [] J1 ρJ _
      refine wp_new 43 rfl dX3_sum_40 nX3_216 (ρJ.2.2.2.1 + 64) (rfl) ?_
      have fN : gF pNo pNo J1 ρJ (sm_zI J1 (ρJ.2.2.2.1 + 64)) (sm_nR ρJ 14 0 3) := gF.nw _ _ _
      have sN : (sm_nR ρJ 14 0 3).2.2.1 (ρJ.2.2.2.1 + 64) = (14, 0) := sm_nR_at
      have zN : (sm_nR ρJ 14 0 3).2.2.2.1 = ρJ.2.2.2.1 + 1 ∧ (sm_nR ρJ 14 0 3).2.2.2.2 = ρJ.2.2.2.2 + 3 := ⟨rfl, rfl⟩
      generalize sm_zI J1 (ρJ.2.2.2.1 + 64) = Jn at *
      generalize sm_nR ρJ 14 0 3 = ρn at *
      obtain ⟨zN1, zN2⟩ := zN
      have hRn : rC Jn ρn P := hR1.g fN (fun _ _ z => z.elim) (fun _ _ z => z)
      have en : Jn 73 = J1 73 := fN.eI (by omega) (fun z => z)
      have pn := p1.I en
      have on : Jn 73 4 = nI op := by rw [en]; exact o1
      have fJ : gF pA pNo J ρJ Jn ρn := (j1.g (A := pA) (B := pNo) (fun _ z => z)).tr fN (fun _ _ z => z.elim) (fun _ _ z => z)
      have fn : gF pA pNo I ρ Jn ρn := hF.tr fJ (fun _ _ z => z) (fun _ _ z => z)
      have bn : bud ρ t0 ρn (t + 1) := by
        obtain ⟨b1, b2⟩ := hb
        exact ⟨by omega, by omega⟩
      have hKn := hRn.1
      refine wp_dup 44 rfl dX3_sum_43 rfl ?_
      refine wp_iload2 45 rfl dX3_sum_44 ?_
      refine wp_aload1 46 rfl dX3_sum_45 ?_
      refine wp_aload0 47 rfl dX3_sum_46 ?_
      refine wp_Vx0 50 rfl dX3_sum_47 kX3_part lX3_213 (o4 hKn) (nl rfl) (nl rfl) (hU (D + 4) Jn ρn op (t + 1) w hRn pn on h6 (by omega) (by omega)) (fun v J3 ρ3 z => ?_) (fun b J3 ρ3 z => z.outS rfl hKn hRn.2.1 fn bn (fun x e => by rw [e]))
      obtain ⟨f3, u, t2, b, e3, rfl, p3', o3, b3, s3⟩ := z.ok
      rw [e3]
      show sm_V G xX3_sum (D + 5) 50 [.ref 73, .ref a, .int (nI (ctC (kt P t).1))] [.ref b, .ref a, .int (nI (ctC (kt P t).1)), .ref (ρJ.2.2.2.1 + 64), .ref (ρJ.2.2.2.1 + 64)] J3 ρ3 (xE I ρ (kt P) t0 w (ps (kt P) f 4 op t2 (acc ++ u ++ [(co_c (kt P t).1, nI 0)])))
      have h3l := f3.1
      have hok := (ps_good (kt P) f).2.1 op (t + 1) u t2 (by omega) e3
      have s14 : ρ3.2.2.1 (ρJ.2.2.2.1 + 64) = (14, 0) := (f3.eS (by omega)).trans sN
      refine wp_Ie3 53 rfl dX3_sum_50 kX15_init lX3_218 rfl (nl rfl) (nl rfl) (s_jinit s14) ?_
      refine wp_astore1 54 rfl dX3_sum_53 (by decide) rfl ?_
      refine wp_goto 5 rfl dX3_sum_54 ?_
      have fE : gF (fun x => x = ρJ.2.2.2.1 + 64) (fun x => x = ρJ.2.2.2.1 + 64) J3 ρ3 (sm_u J3 (ρJ.2.2.2.1 + 64) 0 (nI (ctC (kt P t).1))) (ρ3.1, sm_up (sm_up ρ3.2.1 (ρJ.2.2.2.1 + 64) 1 (some a)) (ρJ.2.2.2.1 + 64) 2 (some b), ρ3.2.2) :=
        ⟨⟨Nat.le_refl _, Nat.le_refl _, fun _ _ => rfl⟩, fun _ _ => ⟨rfl, rfl⟩, fun x _ hn => sm_u_ne _ _ _ hn, fun x _ hn => by
          show sm_up (sm_up ρ3.2.1 (ρJ.2.2.2.1 + 64) 1 (some a)) (ρJ.2.2.2.1 + 64) 2 (some b) x = _
          rw [sm_up_ne _ _ _ hn, sm_up_ne _ _ _ hn]⟩
      have hR3 : rC J3 ρ3 P := hRn.g f3 (fun _ _ z => z) (fun _ _ z => z)
      have hR4 := hR3.g fE (fun x hx z => by omega) (fun x hx z => by omega)
      have f4 : gF pA pNo J ρJ _ _ := (fJ.tr f3 (fun _ _ z => z) (fun _ _ z => z)).tr fE (fun x hx z => absurd z (by omega)) (fun x hx z => absurd z (by omega))
      have e4 : sm_u J3 (ρJ.2.2.2.1 + 64) 0 (nI (ctC (kt P t).1)) 73 = J3 73 := sm_u_ne _ _ _ (by omega)
      refine hV (D + 5) I ρ _ _ op t2 t0 w (ρJ.2.2.2.1 + 64) _ _ hR4 hlo (hF.tr f4 (fun _ _ z => z) (fun _ _ z => z)) (p3'.I e4) (by rw [e4, o3]; exact on) hoI h6 (by have := hok.1; omega) (by omega) ?_ ?_
      · obtain ⟨b1, b2⟩ := bn
        obtain ⟨b5, b6⟩ := b3
        exact ⟨by show ρ3.2.2.2.1 + _ ≤ _; omega, by show ρ3.2.2.2.2 + _ ≤ _; omega⟩
      · have el : (acc ++ u ++ [(co_c (kt P t).1, nI 0)]).length = (acc.length + u.length) + 1 := by simp; omega
        rw [el]
        refine ⟨⟨by omega, by show _ < ρ3.2.2.2.1 + 64; omega⟩, Or.inr (Or.inr ⟨s14, co_c (kt P t).1, a, b, acc, u, co_c_in _, ?_, ?_, ?_, ?_, ?_, rfl⟩)⟩
        · rw [sm_u_eq, pk_us]
          exact co_ch (by omega)
        · show sm_up (sm_up ρ3.2.1 (ρJ.2.2.2.1 + 64) 1 (some a)) (ρJ.2.2.2.1 + 64) 2 (some b) (ρJ.2.2.2.1 + 64) 1 = _
          rw [sm_up_eq]
          unfold va_up
          rw [if_neg (by decide), sm_up_eq]
          unfold va_up
          rw [if_pos rfl]
        · show sm_up (sm_up ρ3.2.1 (ρJ.2.2.2.1 + 64) 1 (some a)) (ρJ.2.2.2.1 + 64) 2 (some b) (ρJ.2.2.2.1 + 64) 2 = _
          rw [sm_up_eq]
          unfold va_up
          rw [if_pos rfl]
        · exact (hB.g f4 (Nat.le_refl _) (fun x hx _ z => by unfold pA at z; omega) (fun x _ _ z => z)).wk (Nat.le_refl _) (by show _ ≤ ρ3.2.2.2.1 + 64; omega) (by omega)
        · exact (s3.g fE (Nat.le_refl _) (fun x hx _ z => by omega) (fun x hx _ z => by omega)).wk (by omega) (Nat.le_refl _) (by omega)
    by_cases h10 : (kt P t).1 = 8
    · rw [z_bt h10]
      refine wp_if_ne 14 23 rfl rfl dX3_sum_11 (fun c11 => ?_) (fun c11 => absurd c11 (by decide))
      exact hst
    · rw [z_bf h10]
      refine wp_if_ne 14 23 rfl rfl dX3_sum_11 (fun c11 => absurd (rfl) c11) (fun c11 => ?_)
      refine wp_aload0 15 rfl dX3_sum_14 ?_
      refine wp_bipush (nI 45) 17 rfl dX3_sum_15 (by decide) ?_
      refine wp_Ve1 20 rfl dX3_sum_17 kX3_isSign lX3_55 (o4 hK) (nl rfl) (nl rfl) (s_pisSign hK hC hp 9 45 (by decide) rfl (by decide)) ?_
      rw [z_bt (h1.resolve_left h10)]
      refine wp_if_eq 23 57 rfl rfl dX3_sum_20 (fun c20 => absurd c20 (by decide)) (fun c20 => ?_)
      exact hst
  · rw [z_bf (fun z => h1 (Or.inl z)), ps_4n h1]
    refine wp_if_ne 14 23 rfl rfl dX3_sum_11 (fun c11 => absurd (rfl) c11) (fun c11 => ?_)
    refine wp_aload0 15 rfl dX3_sum_14 ?_
    refine wp_bipush (nI 45) 17 rfl dX3_sum_15 (by decide) ?_
    refine wp_Ve1 20 rfl dX3_sum_17 kX3_isSign lX3_55 (o4 hK) (nl rfl) (nl rfl) (s_pisSign hK hC hp 9 45 (by decide) rfl (by decide)) ?_
    rw [z_bf (fun z => h1 (Or.inr z))]
    refine wp_if_eq 23 57 rfl rfl dX3_sum_20 (fun c20 => ?_) (fun c20 => absurd (rfl) c20)
    refine wp_aload1 58 rfl dX3_sum_57 ?_
    refine wp_aret dX3_sum_58 rfl (Or.inl ⟨_, rfl⟩) ?_
    exact ⟨hF, a, rfl, hp, ho.trans hoI.symm, hb, hB⟩
theorem psum_all (hU : cU G P f 1 xX3_part 2) (hV : cV G P f 4 xX3_sum 3) : cU G P (f + 1) 3 xX3_sum 3 := by
  intro D I ρ op t w hR hp ho h6 hf hD
  obtain ⟨D, rfl⟩ : ∃ D', D = D' + 5 := ⟨D - 5, by omega⟩
  have hK := hR.1
  have p4 := hp.1.1
  show sm_V G xX3_sum (D + 5) 0 [.ref 73, .retAddr 0, .retAddr 0] [] I ρ _
  rw [ps_3]
  refine wp_aload0 1 rfl dX3_sum_0 ?_
  refine wp_Vx0 4 rfl dX3_sum_1 kX3_part lX3_213 (o4 hK) (nl rfl) (nl rfl) (hU (D + 4) I ρ op t w hR hp ho h6 (by omega) (by omega)) (fun v J1 ρ1 z => ?_) (fun b J1 ρ1 z => z.outS rfl hK hR.2.1 gF.rf (bud.rf (Nat.le_refl _)) (fun x e => by rw [e]))
  obtain ⟨f1, u, t1, a, e1, rfl, p1, o1, b1, s1⟩ := z.ok
  rw [e1]
  have hok := (ps_good (kt P) f).2.1 op t u t1 p4 e1
  show sm_V G xX3_sum (D + 5) 4 [.ref 73, .retAddr 0, .retAddr 0] [.ref a] J1 ρ1 (xE I ρ (kt P) t w (ps (kt P) f 4 op t1 u))
  refine wp_astore1 5 rfl dX3_sum_4 (by decide) rfl ?_
  exact hV (D + 5) I ρ J1 ρ1 op t1 t w a u _ (hR.g f1 (fun _ _ z => z) (fun _ _ z => z)) hR.2.1 f1 p1 (o1.trans ho) ho h6 (by have := hok.1; omega) (by omega) b1 s1
end G2
