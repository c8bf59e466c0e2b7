/-! ===== the component's parser: a law ===== -/
set_option maxRecDepth 100000
/-- in the middle of a law -/
def lS (I0 : sm_I) (ρ0 : sm_R) (P : Nat × (Nat → Int32)) (t0 a : Nat) (ts : lwt) (w : Nat × Nat) (J : sm_I) (ρJ : sm_R) (t : Nat) (qs : List (Nat × ex)) : Prop := rC J ρJ P ∧ pst J (kt P) t w ∧ J 73 4 = nI 0 ∧ gF pA pNo I0 ρ0 J ρJ ∧ (a = ρ0.2.2.2.1 + 64 ∧ 879 ≤ ρ0.2.2.2.1 ∧ a + 3 < ρJ.2.2.2.1 + 64) ∧ lP J ρJ a (ρJ.2.2.2.1 + 64) ts ∧ bud ρ0 t0 ρJ (t + 1) ∧ ∀ x ∈ qs, (a + 1 ≤ x.1 ∧ x.1 ≤ a + 3) ∧ lQ J ρJ (a + 4) (ρJ.2.2.2.1 + 64) x.1 ts.length x.2
section G4
variable {G : sm_G} {D : Nat} {I0 : sm_I} {ρ0 : sm_R} {P : Nat × (Nat → Int32)} {t0 a : Nat} {ts : lwt} {w : Nat × Nat} {J J1 : sm_I} {ρJ ρ1 : sm_R} {t t1 : Nat} {qs : List (Nat × ex)}
theorem lS.tok (h : lS I0 ρ0 P t0 a ts w J ρJ t qs) (j : pJ J J1) (hp : pst J1 (kt P) t1 w) (ht : t ≤ t1) : lS I0 ρ0 P t0 a ts w J1 ρJ t1 qs := by
  obtain ⟨h1, h2, h3, h4, ⟨h5, h5b, h5c⟩, h6, h7, h8⟩ := h
  have f : gF pA pNo J ρJ J1 ρJ := j.g (fun _ z => z)
  have hA : ∀ x, a + 4 ≤ x → ¬ pA x := fun x hx z => by unfold pA at z; omega
  refine ⟨h1.P j, hp, j.2.trans h3, h4.tr f (fun _ _ z => z) (fun _ _ z => z), ⟨h5, h5b, h5c⟩, ?_, h7.up (by omega), fun x hx => ?_⟩
  · exact h6.g f h5c (Nat.le_refl _) (Nat.le_refl _) hA (fun _ _ z => z) (by rw [j.1 a (by omega)]) (fun z => z) (fun _ _ _ _ _ => rfl)
  · obtain ⟨q1, q2⟩ := h8 x hx
    exact ⟨q1, q2.g f (by omega) rfl (Nat.le_refl _) (Nat.le_refl _) hA (fun _ _ z => z)⟩
theorem lS.sum {l b : Nat} {u : ex} (h : lS I0 ρ0 P t0 a ts w J ρJ t qs) (hl : a + 1 ≤ l ∧ l ≤ a + 3) (hq : ∀ x ∈ qs, ¬ x.1 = l) (f : gF pA (fun x => x = l) J ρJ J1 ρ1) (hR : rC J1 ρ1 P) (hp : pst J1 (kt P) t1 w) (ho : J1 73 4 = nI 0) (hb : bud ρ0 t0 ρ1 (t1 + 1)) (up : ρ1.2.1 l = va_up (ρJ.2.1 l) ts.length (some b)) (hs : sB J1 ρ1 (ρJ.2.2.2.1 + 64) (ρ1.2.2.2.1 + 64) 400 b u) : lS I0 ρ0 P t0 a ts w J1 ρ1 t1 ((l, u) :: qs) := by
  obtain ⟨h1, h2, h3, h4, ⟨h5, h5b, h5c⟩, h6, h7, h8⟩ := h
  have hA : ∀ x, a + 4 ≤ x → ¬ pA x := fun x hx z => by unfold pA at z; omega
  have hB : ∀ x, a + 4 ≤ x → ¬ x = l := fun x hx z => by omega
  have hle := f.nxl
  refine ⟨hR, hp, ho, h4.tr f (fun _ _ z => z) (fun x hx z => absurd z (by omega)), ⟨h5, h5b, by omega⟩, ?_, hb, fun x hx => ?_⟩
  · refine h6.g f h5c (Nat.le_refl _) hle hA hB (congrFun (f.eI (by omega) (fun z => by unfold pA at z; omega)) 3) (by omega) (fun l' i g1 g2 g3 => ?_)
    by_cases e : l' = l
    · rw [e, up]
      unfold va_up
      rw [if_neg (by omega)]
    · exact congrFun (f.eP (by omega) e) i
  · rcases List.mem_cons.mp hx with e | e
    · rw [e]
      refine ⟨hl, b, ?_, hs.wk (by omega) (Nat.le_refl _) (Nat.le_refl _)⟩
      show ρ1.2.1 l ts.length = _
      rw [up]
      unfold va_up
      rw [if_pos rfl]
    · obtain ⟨q1, q2⟩ := h8 x e
      exact ⟨q1, q2.g f (by omega) (congrFun (f.eP (by omega) (hq x e)) _) (Nat.le_refl _) hle hA hB⟩
/-- what else -/
theorem lw_else (h : lS I0 ρ0 P t0 a ts w J ρJ t []) (h4 : ts.length ≤ 4) : sm_V G xX3_law (D + 27) 102 [.ref 73, .ref a] [] J ρJ (xO pA pNo I0 ρ0 (kt P) t0 1 (g_ex (kt P) (.inr (t, w))).1 (lE a (ts, (g_ex (kt P) (.inr (t, w))).2) ρ0)) := by
  have h' := h
  obtain ⟨hR, hp, ho, hF, ⟨ha, hn0, ha3⟩, hP, hb, -⟩ := h'
  have hl := hP.1
  have h3 := hP.2.1
  refine wp_aload1 103 rfl dX3_law_102 ?_
  refine wp_getr 106 rfl dX3_law_103 fX3_210_11 (hl.1) (hl.2.1.2.2) ?_
  refine wp_aload1 107 rfl dX3_law_106 ?_
  refine wp_geti 110 rfl dX3_law_107 fX3_193_11 (hl.1) ?_
  rw [h3]
  refine wp_aload0 111 rfl dX3_law_110 ?_
  refine lw_st 114 115 rfl rfl dX3_law_111 dX3_law_114 (nl rfl) hR hp ho hl.2.2.2.2 (by omega) (by omega) (by omega) (by omega) hn0 hF hb (fun x e => by rw [g_ex_l e]) (fun u t' b J1 ρ1 e1 hok f1 hR1 q1 o1 b1 up s1 => ?_)
  have hS := h.sum (l := a + 3) (by omega) (fun x hx => by cases hx) f1 hR1 q1 o1 b1 up s1
  rw [g_ex_r e1]
  refine wp_aload1 116 rfl dX3_law_115 ?_
  refine wp_aret dX3_law_116 rfl (Or.inl ⟨_, rfl⟩) ?_
  obtain ⟨-, -, -, hF1, ⟨-, -, ha31⟩, hP1, -, hq1⟩ := hS
  exact ⟨hF1, _, rfl, q1, o1, b1, rfl, ⟨by omega, ha31⟩, hP1, h4, (hq1 _ List.mem_cons_self).2⟩
theorem lw_loop : ∀ (n : Nat) (J : sm_I) (ρJ : sm_R) (t : Nat) (w : Nat × Nat) (ts : lwt), lS I0 ρ0 P t0 a ts w J ρJ t [] → ts.length + n = 4 →
    sm_V G xX3_law (D + 27) 14 [.ref 73, .ref a] [] J ρJ (xO pA pNo I0 ρ0 (kt P) t0 1 (g_ifs (kt P) n (.inr (t, w))).1 (lE a (ts ++ (g_ifs (kt P) n (.inr (t, w))).2.1, (g_ifs (kt P) n (.inr (t, w))).2.2) ρ0)) := by
  intro n
  induction n with
  | zero =>
    intro J ρJ t w ts h hn
    have h' := h
    obtain ⟨hR, hp, ho, hF, ⟨ha, hn0, ha3⟩, hP, hb, -⟩ := h'
    have hK := hR.1
    refine wp_aload0 15 rfl dX3_law_14 ?_
    refine wp_bipush (nI 9) 17 rfl dX3_law_15 (by decide) ?_
    refine wp_Ve1 20 rfl dX3_law_17 kX3_isWord lX3_62 (o4 hK) (nl rfl) (nl rfl) (s_pisWord hK hR.2.2.1 hR.2.2.2 hp 9 (by decide)) ?_
    by_cases h29 : (kt P t).1 = 29
    · rw [z_bt (show (kt P t).1 = 20 + 9 from h29), g_ifs_0 h29]
      have h3 := hP.2.1
      refine wp_if_eq 23 102 rfl rfl dX3_law_20 (fun c20 => absurd c20 (by decide)) (fun c20 => ?_)
      refine wp_aload0 24 rfl dX3_law_23 ?_
      refine wp_aload1 25 rfl dX3_law_24 ?_
      refine wp_geti 28 rfl dX3_law_25 fX3_193_11 (hP.1.1) ?_
      rw [h3, show ts.length = 4 by omega]
      refine wp_iconst (nI 4) 29 rfl dX3_law_28 (by decide) ?_
      refine wp_Vx2 32 rfl dX3_law_29 kX3_begins lX3_126 (o4 hK) (nl rfl) (nl rfl) (s_pbegins hK hR.2.2.2 hp (by rw [h29]; decide) 4 4 (by decide) (by decide)) (fun v J1 ρ1 z => ?_) (fun b J1 ρ1 z => z.outO rfl hK hF (fun _ _ z => z) hb (by have := hp.1.1; omega) (fun x e => e))
      obtain ⟨-, -, t', w', e1, -⟩ := z.ok
      cases e1
    · rw [z_bf (show ¬ (kt P t).1 = 20 + 9 from h29), g_ifs_n h29]
      refine wp_if_eq 23 102 rfl rfl dX3_law_20 (fun c20 => ?_) (fun c20 => absurd (rfl) c20)
      have := lw_else (G := G) (D := D) h (by omega)
      rw [List.append_nil]
      exact this
  | succ n ih =>
    intro J ρJ t w ts h hn
    have h' := h
    obtain ⟨hR, hp, ho, hF, ⟨ha, hn0, ha3⟩, hP, hb, -⟩ := h'
    have hK := hR.1
    refine wp_aload0 15 rfl dX3_law_14 ?_
    refine wp_bipush (nI 9) 17 rfl dX3_law_15 (by decide) ?_
    refine wp_Ve1 20 rfl dX3_law_17 kX3_isWord lX3_62 (o4 hK) (nl rfl) (nl rfl) (s_pisWord hK hR.2.2.1 hR.2.2.2 hp 9 (by decide)) ?_
    by_cases h29 : (kt P t).1 = 29
    · rw [z_bt (show (kt P t).1 = 20 + 9 from h29), g_ifs_s h29]
      have h3 := hP.2.1
      have gr : g_room ts.length 4 (.inr (t, w)) = g_pass (.inr (t, w)) := by
        unfold g_room
        rw [if_neg (by omega)]
      -- faults go through
      have g0 : ∀ x, g_i7 (kt P) (.inl x) = .inl x := fun x => rfl
      refine wp_if_eq 23 102 rfl rfl dX3_law_20 (fun c20 => absurd c20 (by decide)) (fun c20 => ?_)
      refine wp_aload0 24 rfl dX3_law_23 ?_
      refine wp_aload1 25 rfl dX3_law_24 ?_
      refine wp_geti 28 rfl dX3_law_25 fX3_193_11 (hP.1.1) ?_
      rw [h3]
      refine wp_iconst (nI 4) 29 rfl dX3_law_28 (by decide) ?_
      refine wp_Vx2 32 rfl dX3_law_29 kX3_begins lX3_126 (o4 hK) (nl rfl) (nl rfl) (s_pbegins hK hR.2.2.2 hp (by rw [h29]; decide) ts.length 4 (by omega) (by decide)) (fun v J1 ρ1 z => ?_) (fun b J1 ρ1 z => z.outO rfl hK hF (fun _ _ z => z) hb (by have := hp.1.1; omega) (fun x e => by rw [gr] at e; rw [e, g0, g_ifs_l]))
      obtain ⟨e0, j1, t', w', e1, p1, rfl⟩ := z.ok
      have e0 := e0.symm
      subst e0
      rw [gr] at e1
      rw [e1]
      obtain ⟨t9, e9, q9, n9⟩ := g_pass_inv e1
      cases e9
      subst q9
      have S1 := h.tok j1 p1 (by omega)
      have i3l : ∀ x, (g_ex (kt P) (.inr (t + 1, w))).1 = .inl x → g_i7 (kt P) (.inr (t + 1, w)) = .inl x := fun x e => by
        unfold g_i7 g_i5 g_i3
        rw [e]
        rfl
      show sm_V G xX3_law (D + 27) 32 [.ref 73, .ref a] [] J1 ρJ _
      have hP1 := S1.2.2.2.2.2.1
      have h31 := hP1.2.1
      refine wp_aload1 33 rfl dX3_law_32 ?_
      refine wp_getr 36 rfl dX3_law_33 fX3_196_11 (hP1.1.1) (hP1.1.2.1.1) ?_
      refine wp_aload1 37 rfl dX3_law_36 ?_
      refine wp_geti 40 rfl dX3_law_37 fX3_193_11 (hP1.1.1) ?_
      rw [h31]
      refine wp_aload0 41 rfl dX3_law_40 ?_
      refine lw_st 44 45 rfl rfl dX3_law_41 dX3_law_44 (nl rfl) S1.1 S1.2.1 S1.2.2.1 hP1.1.2.2.1 (by omega) (by omega) (by omega) (by omega) hn0 S1.2.2.2.1 S1.2.2.2.2.2.2.1 (fun x e => by rw [i3l x (by rw [g_ex_l e]), g_ifs_l]) (fun u1 t2 b2 J2 ρ2 e2 hok2 f2 hR2 q2 o2' b2' up2 s2 => ?_)
      have S2 := S1.sum (l := a + 1) (by omega) (fun x hx => by cases hx) f2 hR2 q2 o2' b2' up2 s2
      have x2 : g_ex (kt P) (.inr (t + 1, w)) = (.inr (t2, w), u1) := g_ex_r e2
      have i3 : g_i3 (kt P) (.inr (t + 1, w)) = g_must (kt P) 13 (.inr (t2, w)) := by
        unfold g_i3
        rw [x2]
      have i5l : ∀ x, g_i3 (kt P) (.inr (t + 1, w)) = .inl x → g_i7 (kt P) (.inr (t + 1, w)) = .inl x := fun x e => by
        unfold g_i7 g_i5
        rw [e]
        rfl
      have hK2 := S2.1.1
      refine wp_aload0 46 rfl dX3_law_45 ?_
      refine wp_bipush (nI 60) 48 rfl dX3_law_46 (by decide) ?_
      refine wp_Vx1 51 rfl dX3_law_48 kX3_sign lX3_105 (o4 hK2) (nl rfl) (nl rfl) (s_psign hK2 S2.1.2.2.2 S2.2.1 13 60 (by decide) rfl (by decide)) (fun v J3 ρ3 z => ?_) (fun b J3 ρ3 z => z.outO rfl hK2 S2.2.2.2.1 (fun _ _ z => z) S2.2.2.2.2.2.2.1 (by have := S2.2.1.1.1; omega) (fun x e => by rw [i5l x (i3.trans e), g_ifs_l]))
      obtain ⟨e0, j3, t3, w3, e3, p3, rfl⟩ := z.ok
      have e0 := e0.symm
      subst e0
      obtain ⟨t9, e9, k9, q9, n93⟩ := g_must_inv e3
      cases e9
      subst q9
      have S3 := S2.tok j3 p3 (by omega)
      have i3r : g_i3 (kt P) (.inr (t + 1, w)) = .inr (t2 + 1, w) := i3.trans e3
      show sm_V G xX3_law (D + 27) 51 [.ref 73, .ref a] [] J3 ρ2 _
      have hP3 := S3.2.2.2.2.2.1
      have h33 := hP3.2.1
      have i5m : ∀ x, (g_ex (kt P) (.inr (t2 + 1, w))).1 = .inl x → g_i7 (kt P) (.inr (t + 1, w)) = .inl x := fun x e => by
        unfold g_i7 g_i5
        rw [i3r, e]
        rfl
      have z3 := S3.2.2.2.2.1
      refine wp_aload1 52 rfl dX3_law_51 ?_
      refine wp_getr 55 rfl dX3_law_52 fX3_204_11 (hP3.1.1) (hP3.1.2.1.2.1) ?_
      refine wp_aload1 56 rfl dX3_law_55 ?_
      refine wp_geti 59 rfl dX3_law_56 fX3_193_11 (hP3.1.1) ?_
      rw [h33]
      refine wp_aload0 60 rfl dX3_law_59 ?_
      refine lw_st 63 64 rfl rfl dX3_law_60 dX3_law_63 (nl rfl) S3.1 S3.2.1 S3.2.2.1 hP3.1.2.2.2.1 (by omega) (by omega) (by omega) (by omega) hn0 S3.2.2.2.1 S3.2.2.2.2.2.2.1 (fun x e => by rw [i5m x (by rw [g_ex_l e]), g_ifs_l]) (fun u2 t4 b4 J4 ρ4 e4 hok4 f4 hR4 q4 o4' b4' up4 s4 => ?_)
      have S4 := S3.sum (l := a + 2) (by omega) (fun x hx => by rw [List.mem_singleton.mp hx]; show ¬ a + 1 = a + 2; omega) f4 hR4 q4 o4' b4' up4 s4
      have x4 : g_ex (kt P) (.inr (t2 + 1, w)) = (.inr (t4, w), u2) := g_ex_r e4
      have i5 : g_i5 (kt P) (.inr (t + 1, w)) = g_must (kt P) 30 (.inr (t4, w)) := by
        unfold g_i5
        rw [i3r, x4]
      have i7l : ∀ x, g_i5 (kt P) (.inr (t + 1, w)) = .inl x → g_i7 (kt P) (.inr (t + 1, w)) = .inl x := fun x e => by
        unfold g_i7
        rw [e]
        rfl
      have hK4 := S4.1.1
      refine wp_aload0 65 rfl dX3_law_64 ?_
      refine wp_bipush (nI 10) 67 rfl dX3_law_65 (by decide) ?_
      refine wp_Vx1 70 rfl dX3_law_67 kX3_word lX3_207 (o4 hK4) (nl rfl) (nl rfl) (s_pword hK4 S4.1.2.2.1 S4.1.2.2.2 S4.2.1 10 (by decide)) (fun v J5 ρ5 z => ?_) (fun b J5 ρ5 z => z.outO rfl hK4 S4.2.2.2.1 (fun _ _ z => z) S4.2.2.2.2.2.2.1 (by have := S4.2.1.1.1; omega) (fun x e => by rw [i7l x (i5.trans e), g_ifs_l]))
      obtain ⟨e0, j5, t5, w5, e5, p5, rfl⟩ := z.ok
      have e0 := e0.symm
      subst e0
      obtain ⟨t9, e9, k9, q9, n95⟩ := g_must_inv e5
      cases e9
      subst q9
      have S5 := S4.tok j5 p5 (by omega)
      have i5r : g_i5 (kt P) (.inr (t + 1, w)) = .inr (t4 + 1, w) := i5.trans e5
      show sm_V G xX3_law (D + 27) 70 [.ref 73, .ref a] [] J5 ρ4 _
      have hP5 := S5.2.2.2.2.2.1
      have h35 := hP5.2.1
      have z5 := S5.2.2.2.2.1
      have i7m : ∀ x, (g_ex (kt P) (.inr (t4 + 1, w))).1 = .inl x → g_i7 (kt P) (.inr (t + 1, w)) = .inl x := fun x e => by
        unfold g_i7
        rw [i5r, e]
        rfl
      refine wp_aload1 71 rfl dX3_law_70 ?_
      refine wp_getr 74 rfl dX3_law_71 fX3_210_11 (hP5.1.1) (hP5.1.2.1.2.2) ?_
      refine wp_aload1 75 rfl dX3_law_74 ?_
      refine wp_geti 78 rfl dX3_law_75 fX3_193_11 (hP5.1.1) ?_
      rw [h35]
      refine wp_aload0 79 rfl dX3_law_78 ?_
      refine lw_st 82 83 rfl rfl dX3_law_79 dX3_law_82 (nl rfl) S5.1 S5.2.1 S5.2.2.1 hP5.1.2.2.2.2 (by omega) (by omega) (by omega) (by omega) hn0 S5.2.2.2.1 S5.2.2.2.2.2.2.1 (fun x e => by rw [i7m x (by rw [g_ex_l e]), g_ifs_l]) (fun u3 t6 b6 J6 ρ6 e6 hok6 f6 hR6 q6 o6' b6' up6 s6 => ?_)
      have S6 := S5.sum (l := a + 3) (by omega) (fun x hx => by
        rcases List.mem_cons.mp hx with e | e
        · rw [e]; show ¬ a + 2 = a + 3; omega
        · rw [List.mem_singleton.mp e]; show ¬ a + 1 = a + 3; omega) f6 hR6 q6 o6' b6' up6 s6
      have x6 : g_ex (kt P) (.inr (t4 + 1, w)) = (.inr (t6, w), u3) := g_ex_r e6
      have i7 : g_i7 (kt P) (.inr (t + 1, w)) = g_must (kt P) 31 (.inr (t6, w)) := by
        unfold g_i7
        rw [i5r, x6]
      have git : g_it (kt P) (.inr (t + 1, w)) = (u1, u2, u3) := by
        unfold g_it
        rw [i5r, i3r, x2, x4, x6]
      have hK6 := S6.1.1
      refine wp_aload0 84 rfl dX3_law_83 ?_
      refine wp_bipush (nI 11) 86 rfl dX3_law_84 (by decide) ?_
      refine wp_Vx1 89 rfl dX3_law_86 kX3_word lX3_207 (o4 hK6) (nl rfl) (nl rfl) (s_pword hK6 S6.1.2.2.1 S6.1.2.2.2 S6.2.1 11 (by decide)) (fun v J7 ρ7 z => ?_) (fun b J7 ρ7 z => z.outO rfl hK6 S6.2.2.2.1 (fun _ _ z => z) S6.2.2.2.2.2.2.1 (by have := S6.2.1.1.1; omega) (fun x e => by rw [i7.trans e, g_ifs_l]))
      obtain ⟨e0, j7, t7, w7, e7, p7, rfl⟩ := z.ok
      have e0 := e0.symm
      subst e0
      obtain ⟨t9, e9, k9, q9, n97⟩ := g_must_inv e7
      cases e9
      subst q9
      have S7 := S6.tok j7 p7 (by omega)
      rw [i7.trans e7, git]
      obtain ⟨hR7, hp7, ho7, hF7, ⟨ha7, -, ha37⟩, hP7, hb7, hq7⟩ := S7
      have h37 := hP7.2.1
      show sm_V G xX3_law (D + 27) 89 [.ref 73, .ref a] [] J7 ρ6 _
      refine wp_aload1 90 rfl dX3_law_89 ?_
      refine wp_dup 91 rfl dX3_law_90 rfl ?_
      refine wp_geti 94 rfl dX3_law_91 fX3_193_11 (hP7.1.1) ?_
      rw [h37]
      refine wp_iconst (nI 1) 95 rfl dX3_law_94 (by decide) ?_
      refine wp_iadd 96 rfl dX3_law_95 ?_
      rw [nI_add]
      refine wp_puti 99 rfl dX3_law_96 pX3_193_11 (hP7.1.1) (⟨rfl, rfl⟩) ?_
      refine wp_goto 14 rfl dX3_law_99 ?_
      have fu : gF (fun x => x = a) pNo J7 ρ6 (sm_u J7 a 3 (nI (ts.length + 1))) ρ6 := gF.u
      have hA : ∀ x, a + 4 ≤ x → ¬ x = a := fun x hx z => by omega
      have e73 : sm_u J7 a 3 (nI (ts.length + 1)) 73 = J7 73 := sm_u_ne _ _ _ (by omega)
      have res := ih (sm_u J7 a 3 (nI (ts.length + 1))) ρ6 (t6 + 1) w (ts ++ [(u1, u2, u3)]) ⟨hR7.g fu (fun x hx z => absurd z (by omega)) (fun _ _ z => z), hp7.I e73, by rw [e73]; exact ho7, hF7.tr fu (fun x hx z => absurd z (by omega)) (fun _ _ z => z), ⟨ha, hn0, ha37⟩, ⟨hP7.1, ?_, fun i x hi => ?_⟩, hb7, fun x hx => by cases hx⟩ (by rw [List.length_append, List.length_singleton]; omega)
      · rw [List.append_assoc] at res
        exact res
      · rw [sm_u_eq, pk_us, List.length_append, List.length_singleton]
      · have keep : ∀ l k e, a + 1 ≤ l ∧ l ≤ a + 3 → lQ J7 ρ6 (a + 4) (ρ6.2.2.2.1 + 64) l k e → lQ (sm_u J7 a 3 (nI (ts.length + 1))) ρ6 (a + 4) (ρ6.2.2.2.1 + 64) l k e := fun l k e hl q => q.g fu (by omega) rfl (Nat.le_refl _) (Nat.le_refl _) hA (fun _ _ z => z)
        by_cases hil : i < ts.length
        · rw [List.getElem?_append_left hil] at hi
          obtain ⟨c1, c2, c3⟩ := hP7.2.2 i x hi
          exact ⟨keep _ _ _ (by omega) c1, keep _ _ _ (by omega) c2, keep _ _ _ (by omega) c3⟩
        · rw [List.getElem?_append_right (by omega)] at hi
          have hz : i - ts.length < 1 := (List.getElem?_eq_some_iff.mp hi).1
          obtain rfl : i = ts.length := by omega
          rw [Nat.sub_self] at hi
          cases hi
          exact ⟨keep _ _ _ (by omega) (hq7 (a + 1, u1) (List.mem_cons_of_mem _ (List.mem_cons_of_mem _ List.mem_cons_self))).2, keep _ _ _ (by omega) (hq7 (a + 2, u2) (List.mem_cons_of_mem _ List.mem_cons_self)).2, keep _ _ _ (by omega) (hq7 (a + 3, u3) List.mem_cons_self).2⟩
    · rw [z_bf (show ¬ (kt P t).1 = 20 + 9 from h29), g_ifs_n h29]
      refine wp_if_eq 23 102 rfl rfl dX3_law_20 (fun c20 => ?_) (fun c20 => absurd (rfl) c20)
      have := lw_else (G := G) (D := D) h (by omega)
      rw [List.append_nil]
      exact this
theorem s_plaw {I : sm_I} {ρ : sm_R} (hR : rC I ρ P) (hp : pst I (kt P) t w) (ho : I 73 4 = nI 0) : sm_M G xX3_law (D + 27) [.ref 73] I ρ (xO pA pNo I ρ (kt P) t 1 (g_law (kt P) (.inr (t, w))).1 (lE (ρ.2.2.2.1 + 64) (g_law (kt P) (.inr (t, w))).2 ρ)) := by
  have hK := hR.1
  have h8 := hR.2.1
  show sm_V G xX3_law (D + 27) 0 [.ref 73, .retAddr 0] [] I ρ _
  refine wp_new 3 rfl dX3_law_0 nX3_190 (ρ.2.2.2.1 + 64) (rfl) ?_
  have fN : gF pNo pNo I ρ (sm_zI I (ρ.2.2.2.1 + 64)) (sm_nR ρ 11 0 4) := gF.nw _ _ _
  have sN : (sm_nR ρ 11 0 4).2.2.1 (ρ.2.2.2.1 + 64) = (11, 0) := sm_nR_at
  have zN : (sm_nR ρ 11 0 4).2.2.2.1 = ρ.2.2.2.1 + 1 ∧ (sm_nR ρ 11 0 4).2.2.2.2 = ρ.2.2.2.2 + 4 := ⟨rfl, rfl⟩
  have iN : sm_zI I (ρ.2.2.2.1 + 64) (ρ.2.2.2.1 + 64) = fun _ => 0 := sm_zI_eq _ _
  generalize sm_zI I (ρ.2.2.2.1 + 64) = Jn at *
  generalize sm_nR ρ 11 0 4 = ρn at *
  obtain ⟨zN1, zN2⟩ := zN
  have hRn : rC Jn ρn P := hR.g fN (fun _ _ z => z.elim) (fun _ _ z => z)
  refine wp_dup 4 rfl dX3_law_3 rfl ?_
  refine wp_INv0 7 rfl dX3_law_4 kX11_init lX3_192 rfl (nl rfl) (nl rfl) (s_linit sN (by omega)) (fun J1 ρ1 hx => ?_)
  obtain ⟨⟨x1, x2⟩, f1, l1⟩ := hx
  have x5 : J1 (ρ.2.2.2.1 + 64) = Jn (ρ.2.2.2.1 + 64) := f1.eI (by omega) (fun z => z)
  have fI : gF pA pNo I ρ J1 ρ1 := (fN.wk (A := pA) (B := pNo) (fun _ _ z => z.elim) (fun _ _ z => z)).tr f1 (fun _ _ z => z.elim) (fun x hx z => absurd z (by omega))
  have hR1 : rC J1 ρ1 P := hRn.g f1 (fun _ _ z => z.elim) (fun x hx z => by omega)
  have e73 : J1 73 = I 73 := (f1.eI (by omega) (fun z => z)).trans (fN.eI (by omega) (fun z => z))
  have hK1 := hR1.1
  have S1 : lS I ρ P t (ρ.2.2.2.1 + 64) [] w J1 ρ1 t [] := ⟨hR1, hp.I e73, by rw [e73]; exact ho, fI, ⟨rfl, h8, by omega⟩, ⟨l1, by rw [x5, iN]; rfl, fun i x hi => by cases hi⟩, ⟨by omega, by omega⟩, fun x hx => by cases hx⟩
  have gl : ∀ x, g_must (kt P) 5 (.inr (t, w)) = .inl x → (g_law (kt P) (.inr (t, w))).1 = .inl x := fun x e => by
    unfold g_law
    rw [e, g_ifs_l]
  refine wp_astore1 8 rfl dX3_law_7 (by decide) rfl ?_
  refine wp_aload0 9 rfl dX3_law_8 ?_
  refine wp_bipush (nI 61) 11 rfl dX3_law_9 (by decide) ?_
  refine wp_Vx1 14 rfl dX3_law_11 kX3_sign lX3_105 (o4 hK1) (nl rfl) (nl rfl) (s_psign hK1 hR1.2.2.2 S1.2.1 5 61 (by decide) rfl (by decide)) (fun v J2 ρ2 z => ?_) (fun b J2 ρ2 z => z.outO rfl hK1 fI (fun _ _ z => z) S1.2.2.2.2.2.2.1 (by have := hp.1.1; omega) gl)
  obtain ⟨e0, j2, t2, w2, e2, p2, rfl⟩ := z.ok
  have e0 := e0.symm
  subst e0
  obtain ⟨t9, e9, k9, q9, n9⟩ := g_must_inv e2
  cases e9
  subst q9
  have S2 := S1.tok j2 p2 (by omega)
  have res := lw_loop (G := G) (D := D) 4 J2 ρ1 (t + 1) w [] S2 rfl
  have el : g_law (kt P) (.inr (t, w)) = g_ifs (kt P) 4 (.inr (t + 1, w)) := by
    unfold g_law
    rw [e2]
  rw [el]
  exact res
end G4
