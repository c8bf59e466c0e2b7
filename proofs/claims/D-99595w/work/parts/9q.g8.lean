/-! ===== the component's parser: has, name, known, face; add ===== -/
set_option maxRecDepth 100000
/-- a number that stands for -1 -/
def kF (x lo : Nat) (N : List (Nat × Nat)) : Nat := (g_find x lo N).getD 4294967295
theorem nI_m1 : nI 4294967295 = -1 := by decide
theorem g_face_l {tk : tkf} {r : pR} {x : Nat × Nat} {p : Nat} (h : g_face tk p r = .inl x) : ∀ k, g_face tk (p + k) r = .inl x
  | 0 => h
  | k + 1 => by
    show g_num tk 0 99 (g_face tk (p + k) r) = _
    rw [g_face_l h k]
    rfl
section G8
variable {G : sm_G} {d : Nat} {I : sm_I} {ρ : sm_R} {P : Nat × (Nat → Int32)} {lo : Nat} {q : bQ} {nd nc : Nat → Nat} {T : tx} {t : Nat} {w : Nat × Nat}
theorem s_xhas (hT : bT I ρ lo q nd nc T) {lo' hi' s x : Nat} (hs : cNm I ρ lo' hi' s x) (hl : 64 ≤ lo') : sm_M G xX4_has (d + 4) [.ref lo, .ref s] I ρ (sm_Qi (fun v I1 ρ1 => ρ1 = ρ ∧ I1 = I ∧ (v = nI 0 ∨ v = nI 1) ∧ (v = nI 1 ↔ (∃ i, i < tx_D T ∧ nd i = x) ∨ ∃ i, i < tx_C T ∧ nc i = x))) := by
  obtain ⟨⟨b1, b2, b3, ⟨b4, b5, -, -⟩, b6, b7, -, -⟩, ⟨h2, h3, h4, h5⟩, h6, h7, -⟩ := hT
  have hD := s_xat (G := G) (d := d) (h2.cLs b6 (by omega)) caX4_42_15 fX4_44_15 (fun i hi => ⟨(h6 i hi).1.2.1, (h6 i hi).1.2.2.1, (h6 i hi).2.2⟩) hs (by omega) hl
  have hC := s_xat (G := G) (d := d) (h3.cLs b7 (by omega)) caX4_42_16 fX4_44_16 (fun i hi => ⟨(h7 i hi).1.2.1, (h7 i hi).1.2.2.1, (h7 i hi).2.2⟩) hs (by omega) hl
  have n2 := h2.2.2.2.1
  have n3 := h3.2.2.2.1
  show sm_V G xX4_has (d + 4) 0 [.ref lo, .ref s] [] I ρ _
  refine wp_aload0 1 rfl dX4_has_0 ?_
  refine wp_getr 4 rfl dX4_has_1 fX4_12_5 (b3) (b4) ?_
  refine wp_aload1 5 rfl dX4_has_4 ?_
  refine wp_Si2 8 rfl dX4_has_5 kX4_at lX4_54 (nl rfl) (nl rfl) (hD) (fun v J1 ρ1 hv => ?_)
  obtain ⟨rfl, rfl, hv⟩ := hv
  rcases hv with ⟨i, i1, i2, i3, rfl⟩ | ⟨rfl, hno⟩
  · refine wp_if_ge 11 22 rfl rfl dX4_has_8 (fun c8 => ?_) (fun c8 => absurd (nI_pos' (by omega)) c8)
    refine wp_iconst (nI 1) 23 rfl dX4_has_22 (by decide) ?_
    refine wp_goto 27 rfl dX4_has_23 ?_
    refine wp_zret dX4_has_27 rfl (rfl) ?_
    exact ⟨_, rfl, rfl, rfl, Or.inr rfl, fun _ => Or.inl ⟨i, i1, i2⟩, fun _ => rfl⟩
  · refine wp_if_ge 11 22 rfl rfl dX4_has_8 (fun c8 => absurd c8 (by decide)) (fun c8 => ?_)
    refine wp_aload0 12 rfl dX4_has_11 ?_
    refine wp_getr 15 rfl dX4_has_12 fX4_18_5 (b3) (b5) ?_
    refine wp_aload1 16 rfl dX4_has_15 ?_
    refine wp_Si2 19 rfl dX4_has_16 kX4_at lX4_54 (nl rfl) (nl rfl) (hC) (fun v J1 ρ1 hv => ?_)
    obtain ⟨rfl, rfl, hv⟩ := hv
    rcases hv with ⟨i, i1, i2, i3, rfl⟩ | ⟨rfl, hno2⟩
    · refine wp_if_lt 22 26 rfl rfl dX4_has_19 (fun c19 => absurd c19 (nI_pos (by omega))) (fun c19 => ?_)
      refine wp_iconst (nI 1) 23 rfl dX4_has_22 (by decide) ?_
      refine wp_goto 27 rfl dX4_has_23 ?_
      refine wp_zret dX4_has_27 rfl (rfl) ?_
      exact ⟨_, rfl, rfl, rfl, Or.inr rfl, fun _ => Or.inr ⟨i, i1, i2⟩, fun _ => rfl⟩
    · refine wp_if_lt 22 26 rfl rfl dX4_has_19 (fun c19 => ?_) (fun c19 => absurd (by decide) c19)
      refine wp_iconst (nI 0) 27 rfl dX4_has_26 (by decide) ?_
      refine wp_zret dX4_has_27 rfl (rfl) ?_
      exact ⟨_, rfl, rfl, rfl, Or.inl rfl, fun z => absurd z (by decide), fun z => by
        rcases z with ⟨i, i1, i2⟩ | ⟨i, i1, i2⟩
        · exact absurd i2 (hno i i1)
        · exact absurd i2 (hno2 i i1)⟩
theorem s_pname (hR : rC I ρ P) (hp : pst I (kt P) t w) (ho : I 73 4 = nI 0) (hl : ρ.2.1 73 2 = some lo) (hT : bT I ρ lo q nd nc T) {N : List (Nat × Nat)} (hN : nmB N (tx_D T) (tx_C T) nd nc) : sm_M G xX3_name (d + 7) [.ref 73] I ρ (xO pA pNo I ρ (kt P) t 0 (g_named (kt P) N (.inr (t, w))) (fun v I1 ρ1 => ∃ s, v = some (.ref s) ∧ cNm I1 ρ1 (ρ.2.2.2.1 + 64) (ρ1.2.2.2.1 + 64) s (kt P t).2.2.2)) := by
  have hK := hR.1
  have h8 := hR.2.1
  have p4 := hp.1.1
  have hlo := hT.1.1
  have hg : g_named (kt P) N (.inr (t, w)) = g_must (kt P) 1 (.inr (t, if N.any (fun x => x.1 == (kt P t).2.2.2) = true then g_tell w 3 t else w)) := rfl
  rw [hg]
  show sm_V G xX3_name (d + 7) 0 [.ref 73, .retAddr 0, .retAddr 0] [] I ρ _
  refine wp_aload0 1 rfl dX3_name_0 ?_
  refine wp_iconst (nI 0) 2 rfl dX3_name_1 (by decide) ?_
  refine wp_Vx1 5 rfl dX3_name_2 kX3_take lX3_68 (o4 hK) (nl rfl) (nl rfl) (s_ptake hK hR.2.2.2 hp 0 1 (fun c => ctS_0) (by decide) (by decide)) (fun v J1 ρ1 z => ?_) (fun b J1 ρ1 z => z.outO rfl hK gF.rf (fun _ _ z => z) (bud.rf (Nat.le_refl t)) (by omega) (fun x e => g_must_w e))
  obtain ⟨e0, j1, t', w', e1, p1, rfl⟩ := z.ok
  have e0 := e0.symm
  subst e0
  rw [g_must_r e1]
  obtain ⟨t9, e9, k9, q9, n9⟩ := g_must_inv e1
  cases e9
  subst q9
  have hR1 := hR.P j1
  have f1 : gF pA pNo I ρ J1 ρ := j1.g (fun _ z => z)
  show sm_V G xX3_name (d + 7) 5 [.ref 73, .retAddr 0, .retAddr 0] [.int (nI t)] J1 ρ _
  refine wp_istore1 6 rfl dX3_name_5 (by decide) rfl ?_
  refine wp_aload0 7 rfl dX3_name_6 ?_
  refine wp_getr 10 rfl dX3_name_7 fX3_9_4 (o4 hK) (p4_0 hK) ?_
  refine wp_iload1 11 rfl dX3_name_10 ?_
  refine wp_Vr1 14 rfl dX3_name_11 kX2_text lX3_79 (o3 hK) (nl rfl) (nl rfl) (s_ttext hR1 p4 hp.1.2.1 k9) (fun s J2 ρ2 h2 => ?_)
  obtain ⟨f2, ⟨x1, x2⟩, hs⟩ := h2
  have hR2 : rC J2 ρ2 P := hR1.g f2 (fun _ _ z => z.elim) (fun _ _ z => z)
  have hK2 := hR2.1
  have f12 : gF pA pNo I ρ J2 ρ2 := f1.tr f2 (fun _ _ z => z.elim) (fun _ _ z => z)
  have hT2 : bT J2 ρ2 lo q nd nc T := hT.g f12 (fun x hx z => by unfold pA at z; omega) (fun _ _ z => z)
  have e73 : J2 73 = J1 73 := f2.eI (by omega) (fun z => z)
  have p2 := p1.I e73
  have o2' : J2 73 4 = nI 0 := by rw [e73, j1.2]; exact ho
  have hl2 : ρ2.2.1 73 2 = some lo := by rw [f2.eP (by omega) (fun z => z)]; exact hl
  have hbd : bud ρ t ρ2 (t + 1 + 0) := ⟨by omega, by omega⟩
  refine wp_astore2 15 rfl dX3_name_14 (by decide) rfl ?_
  refine wp_aload0 16 rfl dX3_name_15 ?_
  refine wp_getr 19 rfl dX3_name_16 fX3_83_4 (o4 hK2) (hl2) ?_
  refine wp_aload2 20 rfl dX3_name_19 ?_
  refine wp_Vi1 23 rfl dX3_name_20 kX4_has lX3_86 (hT2.1.2.2.1) (nl rfl) (nl rfl) (s_xhas hT2 hs (by omega)) (fun v J3 ρ3 hv => ?_)
  obtain ⟨rfl, rfl, hv1, hv2⟩ := hv
  rw [← hN.1] at hv2
  rcases hv1 with e | e
  · rw [e] at hv2 ⊢
    have hn : ¬ N.any (fun x => x.1 == (kt P t).2.2.2) = true := fun z => absurd (hv2.mpr z) (by decide)
    rw [if_neg hn]
    refine wp_if_eq 26 32 rfl rfl dX3_name_23 (fun c23 => ?_) (fun c23 => absurd (rfl) c23)
    refine wp_aload2 33 rfl dX3_name_32 ?_
    refine wp_aret dX3_name_33 rfl (Or.inl ⟨_, rfl⟩) ?_
    exact ⟨f12, _, rfl, p2, o2', hbd, s, rfl, hs⟩
  · rw [e] at hv2 ⊢
    have hn : N.any (fun x => x.1 == (kt P t).2.2.2) = true := hv2.mp rfl
    rw [if_pos hn]
    refine wp_if_eq 26 32 rfl rfl dX3_name_23 (fun c23 => absurd c23 (by decide)) (fun c23 => ?_)
    refine wp_aload0 27 rfl dX3_name_26 ?_
    refine wp_iconst (nI 3) 28 rfl dX3_name_27 (by decide) ?_
    refine wp_iload1 29 rfl dX3_name_28 ?_
    refine wp_Vv2 32 rfl dX3_name_29 kX3_tell lX3_75 (o4 hK2) (nl rfl) (nl rfl) (s_ptell hK2 p2 3 t (by decide) p4) (fun J4 ρ4 h4 => ?_)
    obtain ⟨e0, j4, p4'⟩ := h4
    have e0 := e0.symm
    subst e0
    have f4 : gF pA pNo J3 ρ3 J4 ρ3 := j4.g (fun _ z => z)
    refine wp_aload2 33 rfl dX3_name_32 ?_
    refine wp_aret dX3_name_33 rfl (Or.inl ⟨_, rfl⟩) ?_
    exact ⟨f12.tr f4 (fun _ _ z => z) (fun _ _ z => z), _, rfl, p4', j4.2.trans o2', hbd, s, rfl, hs.g f4 (Nat.le_refl _) (Nat.le_refl _) (fun x hx _ z => by unfold pA at z; omega) (fun _ _ _ z => z)⟩
theorem s_pknown {l n kx lo0 : Nat} {f st nm : Nat → Nat} (hR : rC I ρ P) (hp : pst I (kt P) t w) (ho : I 73 4 = nI 0) (hlo : 943 ≤ lo) (hL : ∀ {J σ}, gF pA pNo I ρ J σ → cLs J σ l n f ∧ ∀ i, i < n → σ.2.2.1 (f i) = (kx, 0) ∧ σ.2.1 (f i) 0 = some (st i) ∧ cNm J σ lo (σ.2.2.2.1 + 64) (st i) (nm i)) (hca : sm_CA RX4 42 kx) (hfl : sm_FL RX4 44 kx 0 2) {N : List (Nat × Nat)} (hN : ∀ x k, g_find x lo0 N = some k ↔ k < n ∧ nm k = x ∧ ∀ j, j < k → ¬ nm j = x) : sm_M G xX3_known (d + 7) [.ref 73, .ref l] I ρ (xO pA pNo I ρ (kt P) t 0 (g_known (kt P) N lo0 (.inr (t, w))) (fun v I1 ρ1 => v = some (.int (nI (kF (kt P t).2.2.2 lo0 N))))) := by
  have hK := hR.1
  have h8 := hR.2.1
  have p4 := hp.1.1
  have hg : g_known (kt P) N lo0 (.inr (t, w)) = g_must (kt P) 1 (.inr (t, if (g_find (kt P t).2.2.2 lo0 N).isSome = true then w else g_tell w 4 t)) := rfl
  rw [hg]
  show sm_V G xX3_known (d + 7) 0 [.ref 73, .ref l, .retAddr 0, .retAddr 0] [] I ρ _
  refine wp_aload0 1 rfl dX3_known_0 ?_
  refine wp_iconst (nI 0) 2 rfl dX3_known_1 (by decide) ?_
  refine wp_Vx1 5 rfl dX3_known_2 kX3_take lX3_68 (o4 hK) (nl rfl) (nl rfl) (s_ptake hK hR.2.2.2 hp 0 1 (fun c => ctS_0) (by decide) (by decide)) (fun v J1 ρ1 z => ?_) (fun b J1 ρ1 z => z.outO rfl hK gF.rf (fun _ _ z => z) (bud.rf (Nat.le_refl t)) (by omega) (fun x e => g_must_w e))
  obtain ⟨e0, j1, t', w', e1, p1, rfl⟩ := z.ok
  have e0 := e0.symm
  subst e0
  rw [g_must_r e1]
  obtain ⟨t9, e9, k9, q9, n9⟩ := g_must_inv e1
  cases e9
  subst q9
  have hR1 := hR.P j1
  have f1 : gF pA pNo I ρ J1 ρ := j1.g (fun _ z => z)
  show sm_V G xX3_known (d + 7) 5 [.ref 73, .ref l, .retAddr 0, .retAddr 0] [.int (nI t)] J1 ρ _
  refine wp_istore2 6 rfl dX3_known_5 (by decide) rfl ?_
  refine wp_aload1 7 rfl dX3_known_6 ?_
  refine wp_aload0 8 rfl dX3_known_7 ?_
  refine wp_getr 11 rfl dX3_known_8 fX3_9_4 (o4 hK) (p4_0 hK) ?_
  refine wp_iload2 12 rfl dX3_known_11 ?_
  refine wp_Vr1 15 rfl dX3_known_12 kX2_text lX3_79 (o3 hK) (nl rfl) (nl rfl) (s_ttext hR1 p4 hp.1.2.1 k9) (fun s J2 ρ2 h2 => ?_)
  obtain ⟨f2, ⟨x1, x2⟩, hs⟩ := h2
  have hR2 : rC J2 ρ2 P := hR1.g f2 (fun _ _ z => z.elim) (fun _ _ z => z)
  have hK2 := hR2.1
  have f12 : gF pA pNo I ρ J2 ρ2 := f1.tr f2 (fun _ _ z => z.elim) (fun _ _ z => z)
  have e73 : J2 73 = J1 73 := f2.eI (by omega) (fun z => z)
  have p2 := p1.I e73
  have o2' : J2 73 4 = nI 0 := by rw [e73, j1.2]; exact ho
  have hbd : bud ρ t ρ2 (t + 1 + 0) := ⟨by omega, by omega⟩
  obtain ⟨hL1, hL2⟩ := hL f12
  have n10 : n ≤ 10 := by
    obtain ⟨-, -, e, m, -, -, h, -⟩ := hL1
    exact h
  refine wp_Si2 18 rfl dX3_known_15 kX4_at lX3_92 (nl rfl) (nl rfl) (s_xat hL1 hca hfl hL2 hs (by omega) (by omega)) (fun v J3 ρ3 hv => ?_)
  obtain ⟨rfl, rfl, hv⟩ := hv
  rcases hv with ⟨i, i1, i2, i3, rfl⟩ | ⟨rfl, hno⟩
  · have hf : g_find (kt P t).2.2.2 lo0 N = some i := (hN _ _).mpr ⟨i1, i2, i3⟩
    rw [hf, if_pos (show (some i).isSome = true from rfl)]
    refine wp_istore3 19 rfl dX3_known_18 (by decide) rfl ?_
    refine wp_iload3 20 rfl dX3_known_19 ?_
    refine wp_if_ge 23 29 rfl rfl dX3_known_20 (fun c20 => ?_) (fun c20 => absurd (nI_pos' (by omega)) c20)
    refine wp_iload3 30 rfl dX3_known_29 ?_
    refine wp_iret dX3_known_30 rfl ?_
    refine ⟨f12, _, rfl, p2, o2', hbd, ?_⟩
    unfold kF
    rw [hf]
    rfl
  · have hf : g_find (kt P t).2.2.2 lo0 N = none := by
      cases ho : g_find (kt P t).2.2.2 lo0 N with
      | none => rfl
      | some k =>
        obtain ⟨k1, k2, -⟩ := (hN _ _).mp ho
        exact absurd k2 (hno k k1)
    rw [hf, if_neg (by decide)]
    refine wp_istore3 19 rfl dX3_known_18 (by decide) rfl ?_
    refine wp_iload3 20 rfl dX3_known_19 ?_
    refine wp_if_ge 23 29 rfl rfl dX3_known_20 (fun c20 => absurd c20 (by decide)) (fun c20 => ?_)
    refine wp_aload0 24 rfl dX3_known_23 ?_
    refine wp_iconst (nI 4) 25 rfl dX3_known_24 (by decide) ?_
    refine wp_iload2 26 rfl dX3_known_25 ?_
    refine wp_Vv2 29 rfl dX3_known_26 kX3_tell lX3_75 (o4 hK2) (nl rfl) (nl rfl) (s_ptell hK2 p2 4 t (by decide) p4) (fun J4 ρ4 h4 => ?_)
    obtain ⟨e0, j4, p4'⟩ := h4
    have e0 := e0.symm
    subst e0
    have f4 : gF pA pNo J3 ρ3 J4 ρ3 := j4.g (fun _ z => z)
    refine wp_iload3 30 rfl dX3_known_29 ?_
    refine wp_iret dX3_known_30 rfl ?_
    refine ⟨f12.tr f4 (fun _ _ z => z) (fun _ _ z => z), _, rfl, p4', j4.2.trans o2', hbd, ?_⟩
    unfold kF
    rw [hf]
    show _ = some (Value.int (nI 4294967295))
    rw [nI_m1]
theorem s_pface {kx o fa : Nat} (hR : rC I ρ P) (hp : pst I (kt P) t w) (ho : I 73 4 = nI 0) (hs : ρ.2.2.1 o = (kx, 0)) (hfl : sm_FL RX3 185 kx 1 2) (hpt : ρ.2.1 o 1 = some fa) (hfa : ρ.2.2.1 fa = (100, 4)) (hfl2 : 943 ≤ fa) : sm_M G xX3_face (d + 6) [.ref 73, .ref o] I ρ (xO (fun x => pA x ∨ x = fa) pNo I ρ (kt P) t 0 (g_face (kt P) 4 (.inr (t, w))) (fun v I1 ρ1 => v = none ∧ ρ1 = ρ ∧ ∀ p, p < 4 → I1 fa p = nI (kt P (t + p)).2.2.1)) := by
  have hK := hR.1
  show sm_V G xX3_face (d + 6) 0 [.ref 73, .ref o, .retAddr 0] [] I ρ _
  refine wp_iconst (nI 0) 1 rfl dX3_face_0 (by decide) ?_
  refine wp_istore2 2 rfl dX3_face_1 (by decide) rfl ?_
  refine sm_for (P := fun p => ∀ (J : sm_I) (wp : Nat × Nat), gF (fun x => pA x ∨ x = fa) pNo I ρ J ρ → g_face (kt P) p (.inr (t, w)) = .inr (t + p, wp) → pst J (kt P) (t + p) wp → J 73 4 = nI 0 → (∀ q, q < p → J fa q = nI (kt P (t + q)).2.2.1) → sm_V G xX3_face (d + 6) 2 [.ref 73, .ref o, .int (nI p)] [] J ρ (xO (fun x => pA x ∨ x = fa) pNo I ρ (kt P) t 0 (g_face (kt P) 4 (.inr (t, w))) (fun v I1 ρ1 => v = none ∧ ρ1 = ρ ∧ ∀ p, p < 4 → I1 fa p = nI (kt P (t + p)).2.2.1))) 0 4 (by decide) (fun J wp fJ eg pJ' oJ hv => ?_) (fun p _ hp4 ih J wp fJ eg pJ' oJ hv => ?_) I w gF.rf rfl hp ho (fun q hq => absurd hq (Nat.not_lt_zero _))
  · rw [eg]
    refine wp_iload2 3 rfl dX3_face_2 ?_
    refine wp_iconst (nI 4) 4 rfl dX3_face_3 (by decide) ?_
    refine wp_icmp_ge 7 26 rfl rfl dX3_face_4 (fun c4 => ?_) (fun c4 => absurd (by decide) c4)
    refine wp_vret dX3_face_26 rfl ?_
    exact ⟨fJ, none, rfl, pJ', oJ, bud.rf (by omega), rfl, rfl, hv⟩
  · have hRJ : rC J ρ P := hR.g fJ (fun x hx z => z.resolve_right (by omega)) (fun _ _ z => z)
    have h402 := pJ'.1.1
    refine wp_iload2 3 rfl dX3_face_2 ?_
    refine wp_iconst (nI 4) 4 rfl dX3_face_3 (by decide) ?_
    refine wp_icmp_ge 7 26 rfl rfl dX3_face_4 (fun c4 => absurd c4 (nI_ge hp4 (by decide))) (fun c4 => ?_)
    refine wp_aload1 8 rfl dX3_face_7 ?_
    refine wp_getr 11 rfl dX3_face_8 hfl hs hpt ?_
    refine wp_iload2 12 rfl dX3_face_11 ?_
    refine wp_aload0 13 rfl dX3_face_12 ?_
    refine wp_iconst (nI 0) 14 rfl dX3_face_13 (by decide) ?_
    refine wp_bipush (nI 99) 16 rfl dX3_face_14 (by decide) ?_
    refine wp_Vx2 19 rfl dX3_face_16 kX3_number lX3_168 (o4 hK) (nl rfl) (nl rfl) (s_pnumber hK hRJ.2.2.1 hRJ.2.2.2 pJ' 0 99 (by decide) (by decide)) (fun v J1 ρ1 z => ?_) (fun b J1 ρ1 z => z.outO rfl hK fJ (fun _ _ z => Or.inl z) (bud.rf (show t ≤ t + p by omega)) (by omega) (fun x e => by have := g_face_l (show g_face (kt P) (p + 1) (.inr (t, w)) = .inl x by show g_num (kt P) 0 99 (g_face (kt P) p (.inr (t, w))) = _; rw [eg]; exact e) (3 - p); rw [show p + 1 + (3 - p) = 4 by omega] at this; exact this))
    obtain ⟨e0, j1, t', w', e1, p1, rfl⟩ := z.ok
    have e0 := e0.symm
    subst e0
    obtain ⟨t9, w9, e9, k9, q9, n9, -, -⟩ := g_num_inv e1
    cases e9
    subst q9
    show sm_V G xX3_face (d + 6) 19 [.ref 73, .ref o, .int (nI p)] [.int (nI (kt P (t + p)).2.2.1), .int (nI p), .ref fa] J1 ρ _
    refine wp_iast 20 rfl dX3_face_19 (hfa) (p) (rfl) (⟨hp4, by decide⟩) ?_
    refine wp_iincN2 23 rfl dX3_face_20 (by decide) rfl ?_
    refine wp_goto 2 rfl dX3_face_23 ?_
    have fu : gF (fun x => x = fa) pNo J1 ρ (sm_u J1 fa p (nI (kt P (t + p)).2.2.1)) ρ := gF.u
    have e73 : sm_u J1 fa p (nI (kt P (t + p)).2.2.1) 73 = J1 73 := sm_u_ne _ _ _ (by omega)
    refine ih _ w' ((fJ.tr (j1.g (A := pA) (B := pNo) (fun _ z => z)) (fun _ _ z => Or.inl z) (fun _ _ z => z)).tr fu (fun _ _ z => Or.inr z) (fun _ _ z => z)) ?_ (p1.I e73) (by rw [e73, j1.2]; exact oJ) (fun q hq => ?_)
    · show g_num (kt P) 0 99 (g_face (kt P) p (.inr (t, w))) = _
      rw [eg]
      exact e1
    · rw [sm_u_eq]
      by_cases e : q = p
      · rw [e, pk_us]
      · rw [pk_un e, j1.1 fa (by omega)]
        exact hv q (by omega)
end G8
