/-! ===== the component's parser: a door, a caller is told ===== -/
set_option maxRecDepth 100000
abbrev oA (lo : Nat) : Nat → Prop := fun x => pA x ∨ lo ≤ x
abbrev oB (lo : Nat) : Nat → Prop := fun x => lo ≤ x
/-- what is given when one thing is told -/
def tS (I : sm_I) (ρ : sm_R) (P : Nat × (Nat → Int32)) (lo : Nat) (q : bQ) (nd nc : Nat → Nat) (T : tx) (N : List (Nat × Nat)) (t : Nat) (w : Nat × Nat) : Prop := rC I ρ P ∧ pst I (kt P) t w ∧ I 73 4 = nI 0 ∧ ρ.2.1 73 2 = some lo ∧ bT I ρ lo q nd nc T ∧ nmB N (tx_D T) (tx_C T) nd nc ∧ tx_D T ≤ 6 ∧ tx_C T ≤ 5 ∧ tx_R T ≤ 10
/-- what stands behind it -/
def tE (lo : Nat) (T : tx) (N : List (Nat × Nat)) : Option Value → sm_I → sm_R → Prop := fun v I1 ρ1 => v = none ∧ ρ1.2.1 73 2 = some lo ∧ ∃ q nd nc, bT I1 ρ1 lo q nd nc T ∧ nmB N (tx_D T) (tx_C T) nd nc
theorem bn.g {A B : Nat → Prop} {I I1 : sm_I} {ρ ρ1 : sm_R} {lo kx a fa s nm : Nat} {v : Nat → Int32} (h : bn I ρ lo kx a fa s nm v) (g : gF A B I ρ I1 ρ1) (hA : ∀ x, lo ≤ x → ((ρ.2.2.1 x).1 = 100 ∨ (ρ.2.2.1 x).1 = 19 ∨ (ρ.2.2.1 x).1 = 101) → ¬ A x) (hB : ∀ x, lo ≤ x → ((ρ.2.2.1 x).1 = kx ∨ (ρ.2.2.1 x).1 = 19) → ¬ B x) : bn I1 ρ1 lo kx a fa s nm v := by
  have h1 : bd I ρ lo kx 1 (fun _ => a) (fun _ => fa) (fun _ => s) (fun _ => nm) v := fun i hi => by
    obtain rfl : i = 0 := by omega
    obtain ⟨h1, ⟨h2, h3, h4⟩, h5⟩ := h
    exact ⟨h1, ⟨h2, h3, fun p hp => by rw [Nat.mul_zero, Nat.zero_add]; exact h4 p hp⟩, h5⟩
  obtain ⟨g1, ⟨g2, g3, g4⟩, g5⟩ := h1.g g hA hB 0 (by decide)
  exact ⟨g1, ⟨g2, g3, fun p hp => by have := g4 p hp; rw [Nat.mul_zero, Nat.zero_add] at this; exact this⟩, g5⟩
section G4
variable {G : sm_G} {D : Nat} {I : sm_I} {ρ : sm_R} {P : Nat × (Nat → Int32)} {lo : Nat} {q : bQ} {nd nc : Nat → Nat} {T : tx} {N : List (Nat × Nat)} {t : Nat} {w : Nat × Nat}
theorem g_named_l {tk : tkf} {x : Nat × Nat} : g_named tk N (.inl x) = .inl x := rfl
theorem td_door (hS : tS I ρ P lo q nd nc T N t w) (hk : (kt P t).1 = 20) (x2 : Value) : sm_V G xX3_told (D + 9) 108 [.ref 73, .int (nI 0), x2] [] I ρ (xO (oA lo) (oB lo) I ρ (kt P) t 0 (g_face (kt P) 4 (g_named (kt P) N (g_room (tx_D T) 6 (.inr (t, w))))) (tE lo (x_door T (fun p => nI (kt P (t + 2 + p)).2.2.1)) (N ++ [((kt P (t + 1)).2.2.2, tx_D T)]))) := by
  obtain ⟨hR, hp, ho, hl, hT, hN, m6, m5, m10⟩ := hS
  have hK := hR.1
  have h8 := hR.2.1
  have p4 := hp.1.1
  have hT' := hT
  obtain ⟨⟨b1, b2, b3, ⟨b4, b5, b4r, b4l⟩, b6, b7, b7r, b8⟩, ⟨h2, h3, h4, h5⟩, -⟩ := hT'
  have hL := h2.cLs b6 (by omega)
  refine wp_aload0 109 rfl dX3_told_108 ?_
  refine wp_aload0 110 rfl dX3_told_109 ?_
  refine wp_getr 113 rfl dX3_told_110 fX3_83_4 (o4 hK) (hl) ?_
  refine wp_getr 116 rfl dX3_told_113 fX3_117_5 (b3) (b4) ?_
  refine wp_Ve0 119 rfl dX3_told_116 kJ5_size lX3_121 (b6) (nl rfl) (nl rfl) (s_size hL) ?_
  refine wp_bipush (nI 6) 121 rfl dX3_told_119 (by decide) ?_
  refine wp_Vx2 124 rfl dX3_told_121 kX3_begins lX3_126 (o4 hK) (nl rfl) (nl rfl) (s_pbegins hK hR.2.2.2 hp (by rw [hk]; decide) (tx_D T) 6 (by omega) (by decide)) (fun v J1 ρ1 z => ?_) (fun b J1 ρ1 z => z.outO rfl hK gF.rf (fun _ _ z => Or.inl z) (bud.rf (Nat.le_refl t)) (by omega) (fun x e => by rw [e, g_named_l]; exact g_face_l (p := 0) rfl 4))
  obtain ⟨e0, j1, t', w', e1, p1, rfl⟩ := z.ok
  have e0 := e0.symm
  subst e0
  rw [e1]
  obtain ⟨t9, e9, nD, q9, n9⟩ := g_room_inv e1
  cases e9
  subst q9
  have hR1 := hR.P j1
  have f1 : gF pA pNo I ρ J1 ρ := j1.g (fun _ z => z)
  have o1 : J1 73 4 = nI 0 := j1.2.trans ho
  show sm_V G xX3_told (D + 9) 124 [.ref 73, .int (nI 0), x2] [] J1 ρ _
  refine wp_new 127 rfl dX3_told_124 nX3_129 (ρ.2.2.2.1 + 64) (rfl) ?_
  have fN : gF pNo pNo J1 ρ (sm_zI J1 (ρ.2.2.2.1 + 64)) (sm_nR ρ 15 0 2) := gF.nw _ _ _
  have sN : (sm_nR ρ 15 0 2).2.2.1 (ρ.2.2.2.1 + 64) = (15, 0) := sm_nR_at
  have zN : (sm_nR ρ 15 0 2).2.2.2.1 = ρ.2.2.2.1 + 1 ∧ (sm_nR ρ 15 0 2).2.2.2.2 = ρ.2.2.2.2 + 2 := ⟨rfl, rfl⟩
  generalize sm_zI J1 (ρ.2.2.2.1 + 64) = Jn at *
  generalize sm_nR ρ 15 0 2 = ρn at *
  obtain ⟨zN1, zN2⟩ := zN
  have hRn : rC Jn ρn P := hR1.g fN (fun _ _ z => z.elim) (fun _ _ z => z)
  have hKn := hRn.1
  have fIn : gF pA pNo I ρ Jn ρn := f1.tr fN (fun _ _ z => z.elim) (fun _ _ z => z)
  have hTn : bT Jn ρn lo q nd nc T := hT.g fIn (fun x hx z => by unfold pA at z; omega) (fun _ _ z => z)
  have en : Jn 73 = J1 73 := fN.eI (by omega) (fun z => z)
  have hln : ρn.2.1 73 2 = some lo := by rw [fN.eP (by omega) (fun z => z)]; exact hl
  have fIn' : gF (oA lo) (oB lo) I ρ Jn ρn := fIn.wk (fun _ _ z => Or.inl z) (fun _ _ z => z.elim)
  refine wp_dup 128 rfl dX3_told_127 rfl ?_
  refine wp_aload0 129 rfl dX3_told_128 ?_
  refine wp_Vx0 132 rfl dX3_told_129 kX3_name lX3_131 (o4 hKn) (nl rfl) (nl rfl) (s_pname hRn (p1.I en) (by rw [en]; exact o1) hln hTn hN) (fun v J2 ρ2 z => ?_) (fun b J2 ρ2 z => z.outO (t2 := t + 1) rfl hKn hRn.2.1 (fun _ _ z => z) fIn' (fun _ _ z => Or.inl z) (fun _ _ z => z.elim) ⟨by omega, by omega⟩ (Nat.le_refl _) (fun x e => by rw [e]; exact g_face_l (p := 0) rfl 4))
  obtain ⟨f2, t2, w2, e2, p2, o2', b2', s, rfl, hs⟩ := z.ok
  rw [e2]
  obtain ⟨t9, w9, e9, k9, q9, n9', -⟩ := g_named_inv e2
  cases e9
  subst q9
  have hR2 : rC J2 ρ2 P := hRn.g f2 (fun _ _ z => z) (fun _ _ z => z)
  have h2l := f2.1
  have sa2 : ρ2.2.2.1 (ρ.2.2.2.1 + 64) = (15, 0) := (f2.eS (by omega)).trans sN
  show sm_V G xX3_told (D + 9) 132 [.ref 73, .int (nI 0), x2] [.ref s, .ref (ρ.2.2.2.1 + 64), .ref (ρ.2.2.2.1 + 64)] J2 ρ2 _
  refine wp_Ie1 135 rfl dX3_told_132 kX17_init lX3_135 rfl (nl rfl) (nl rfl) (s_dinit sa2 (by omega)) ?_
  have f3 : gF pNo (fun x => x = ρ.2.2.2.1 + 64) J2 ρ2 (sm_zI J2 (ρ2.2.2.2.1 + 64)) ((sm_nR ρ2 100 4 4).1, sm_up (sm_up (sm_nR ρ2 100 4 4).2.1 (ρ.2.2.2.1 + 64) 1 (some (ρ2.2.2.2.1 + 64))) (ρ.2.2.2.1 + 64) 0 (some s), (sm_nR ρ2 100 4 4).2.2) := ((gF.nw (A := pNo) (B := fun x => x = ρ.2.2.2.1 + 64) 100 4 4).tr (gF.p (A := pNo)) (fun _ _ z => z) (fun _ _ z => z)).tr (gF.p (A := pNo)) (fun _ _ z => z) (fun _ _ z => z)
  have z3 : ((sm_nR ρ2 100 4 4).1, sm_up (sm_up (sm_nR ρ2 100 4 4).2.1 (ρ.2.2.2.1 + 64) 1 (some (ρ2.2.2.2.1 + 64))) (ρ.2.2.2.1 + 64) 0 (some s), (sm_nR ρ2 100 4 4).2.2).2.2.2.1 = ρ2.2.2.2.1 + 1 ∧ ((sm_nR ρ2 100 4 4).1, sm_up (sm_up (sm_nR ρ2 100 4 4).2.1 (ρ.2.2.2.1 + 64) 1 (some (ρ2.2.2.2.1 + 64))) (ρ.2.2.2.1 + 64) 0 (some s), (sm_nR ρ2 100 4 4).2.2).2.2.2.2 = ρ2.2.2.2.2 + 4 := ⟨rfl, rfl⟩
  have pa3 : ((sm_nR ρ2 100 4 4).1, sm_up (sm_up (sm_nR ρ2 100 4 4).2.1 (ρ.2.2.2.1 + 64) 1 (some (ρ2.2.2.2.1 + 64))) (ρ.2.2.2.1 + 64) 0 (some s), (sm_nR ρ2 100 4 4).2.2).2.1 (ρ.2.2.2.1 + 64) 0 = some s ∧ ((sm_nR ρ2 100 4 4).1, sm_up (sm_up (sm_nR ρ2 100 4 4).2.1 (ρ.2.2.2.1 + 64) 1 (some (ρ2.2.2.2.1 + 64))) (ρ.2.2.2.1 + 64) 0 (some s), (sm_nR ρ2 100 4 4).2.2).2.1 (ρ.2.2.2.1 + 64) 1 = some (ρ2.2.2.2.1 + 64) := by
    show sm_up (sm_up (sm_nR ρ2 100 4 4).2.1 (ρ.2.2.2.1 + 64) 1 (some (ρ2.2.2.2.1 + 64))) (ρ.2.2.2.1 + 64) 0 (some s) (ρ.2.2.2.1 + 64) 0 = some s ∧ sm_up (sm_up (sm_nR ρ2 100 4 4).2.1 (ρ.2.2.2.1 + 64) 1 (some (ρ2.2.2.2.1 + 64))) (ρ.2.2.2.1 + 64) 0 (some s) (ρ.2.2.2.1 + 64) 1 = _
    rw [sm_up_eq, sm_up_eq]
    exact ⟨rfl, rfl⟩
  have sf3 : ((sm_nR ρ2 100 4 4).1, sm_up (sm_up (sm_nR ρ2 100 4 4).2.1 (ρ.2.2.2.1 + 64) 1 (some (ρ2.2.2.2.1 + 64))) (ρ.2.2.2.1 + 64) 0 (some s), (sm_nR ρ2 100 4 4).2.2).2.2.1 (ρ2.2.2.2.1 + 64) = (100, 4) := sm_nR_at (ρ := ρ2)
  generalize ((sm_nR ρ2 100 4 4).1, sm_up (sm_up (sm_nR ρ2 100 4 4).2.1 (ρ.2.2.2.1 + 64) 1 (some (ρ2.2.2.2.1 + 64))) (ρ.2.2.2.1 + 64) 0 (some s), (sm_nR ρ2 100 4 4).2.2) = ρ3 at *
  generalize sm_zI J2 (ρ2.2.2.2.1 + 64) = J3 at *
  obtain ⟨z31, z32⟩ := z3
  have hR3 : rC J3 ρ3 P := hR2.g f3 (fun _ _ z => z.elim) (fun x hx z => by omega)
  have hK3 := hR3.1
  have e73 : J3 73 = J2 73 := f3.eI (by omega) (fun z => z)
  have sa3 : ρ3.2.2.1 (ρ.2.2.2.1 + 64) = (15, 0) := (f3.eS (by omega)).trans sa2
  have fI3 : gF pA pNo I ρ J3 ρ3 := (fIn.tr f2 (fun _ _ z => z) (fun _ _ z => z)).tr f3 (fun _ _ z => z.elim) (fun x hx z => absurd z (by omega))
  have fI3' : gF (oA lo) (oB lo) I ρ J3 ρ3 := fI3.wk (fun _ _ z => Or.inl z) (fun _ _ z => z.elim)
  have h3l := f3.1
  have bd3 : bud ρ t ρ3 (t + 2) := by
    obtain ⟨y1, y2⟩ := b2'
    exact ⟨by omega, by omega⟩
  have hs3 : cNm J3 ρ3 lo (ρ3.2.2.2.1 + 64) s (kt P (t + 1)).2.2.2 := (hs.g f3 (Nat.le_refl _) (by omega) (fun _ _ _ z => z) (fun x hx hk z => by rw [z, sa2] at hk; exact absurd hk (by decide))).wk (by omega)
  refine wp_astore2 136 rfl dX3_told_135 (by decide) rfl ?_
  refine wp_aload0 137 rfl dX3_told_136 ?_
  refine wp_aload2 138 rfl dX3_told_137 ?_
  refine wp_Vx1 141 rfl dX3_told_138 kX3_face lX3_138 (o4 hK3) (nl rfl) (nl rfl) (s_pface hR3 (p2.I e73) (by rw [e73]; exact o2') sa3 fX3_185_15 pa3.2 sf3 (by omega)) (fun v J4 ρ4 z => ?_) (fun b J4 ρ4 z => z.outO (t2 := t + 2) rfl hK3 hR3.2.1 (fun _ _ z => z) fI3' (fun x hx z => by rcases z with z | z; exact Or.inl z; exact Or.inr (by omega)) (fun _ _ z => z.elim) bd3 (Nat.le_refl _) (fun x e => e))
  obtain ⟨f4, t4, w4, e4, p4', o4', b4', rfl, e0, hv4⟩ := z.ok
  have e0 := e0.symm
  subst e0
  rw [e4]
  obtain ⟨t9, w9, e9, q9, -⟩ := g_face_inv e4
  cases e9
  subst q9
  have hR4 : rC J4 ρ3 P := hR3.g f4 (fun x hx z => z.resolve_right (by omega)) (fun _ _ z => z)
  have hK4 := hR4.1
  have fI4 : gF pA pNo I ρ J4 ρ3 := fI3.tr f4 (fun x hx z => z.resolve_right (by omega)) (fun _ _ z => z)
  have hT4 : bT J4 ρ3 lo q nd nc T := hT.g fI4 (fun x hx z => by unfold pA at z; omega) (fun _ _ z => z)
  have hl4 : ρ3.2.1 73 2 = some lo := by rw [fI4.eP (by omega) (fun z => z)]; exact hl
  have hb4 := hT4.1
  have bn4 : bn J4 ρ3 lo 15 (ρ.2.2.2.1 + 64) (ρ2.2.2.2.1 + 64) s (kt P (t + 1)).2.2.2 (fun p => nI (kt P (t + 2 + p)).2.2.1) := ⟨⟨⟨by omega, by omega⟩, sa3, pa3.1, pa3.2⟩, ⟨⟨by omega, by omega⟩, sf3, hv4⟩, hs3.g f4 (Nat.le_refl _) (Nat.le_refl _) (fun x hx hk z => by
    rcases z with z | z
    · unfold pA at z; omega
    · rw [z, sf3] at hk; exact absurd hk (by decide)) (fun _ _ _ z => z)⟩
  have hbl := hT4.2.1.1
  have hou := hbl.out
  have hB5 : ρ3.2.2.1 (lo + 1) = (18, 0) := hb4.2.2.2.2.1
  show sm_V G xX3_told (D + 9) 141 [.ref 73, .int (nI 0), .ref (ρ.2.2.2.1 + 64)] [] J4 ρ3 _
  refine wp_aload0 142 rfl dX3_told_141 ?_
  refine wp_getr 145 rfl dX3_told_142 fX3_83_4 (o4 hK4) (hl4) ?_
  refine wp_getr 148 rfl dX3_told_145 fX3_117_5 (hb4.2.2.1) (hb4.2.2.2.1.1) ?_
  refine wp_aload2 149 rfl dX3_told_148 ?_
  refine wp_Vi1 152 rfl dX3_told_149 kJ5_add lX3_142 (hB5) (nl rfl) (nl rfl) (s_add hbl b1 hB5 (by omega) hb4.2.1 (by omega) sa3 (by omega) as15) (fun v J5 ρ5 h5 => ?_)
  refine wp_pop 153 rfl dX3_told_152 rfl ?_
  refine wp_goto 365 rfl dX3_told_153 ?_
  refine wp_vret dX3_told_365 rfl ?_
  obtain ⟨e', g1, g2, ⟨g3, g4⟩, g5⟩ := h5
  have bn5 : bn J5 ρ5 lo 15 (ρ.2.2.2.1 + 64) (ρ2.2.2.2.1 + 64) s (kt P (t + 1)).2.2.2 (fun p => nI (kt P (t + 2 + p)).2.2.1) := bn4.g g2 (fun x hx hk z => by
    have z : x = lo + 1 := z
    rw [z, hB5] at hk
    exact absurd hk (by decide)) (fun x hx hk z => by
    rcases z with z | ⟨z, z2⟩
    · rw [z, hB5] at hk
      exact absurd hk (by decide)
    · rcases hou with y | y
      · exact z2 y
      · rw [z, y.2.2] at hk
        exact absurd hk (by decide))
  have e75 : J5 73 = J4 73 := g2.eI (by omega) (fun z => by omega)
  have hT5 := hT4.door (g2.wk (fun x hx z => Or.inr z) (fun _ _ z => z)) (by omega) g5 bn5
  refine ⟨(fI4.wk (fun _ _ z => Or.inl z) (fun _ _ z => z.elim)).tr g2 (fun x hx z => Or.inr (by omega)) (fun x hx z => by show lo ≤ x; omega), none, rfl, p4'.I e75, by rw [e75]; exact o4', ?_, rfl, ?_, _, _, _, hT5, hN.door (by omega)⟩
  · obtain ⟨y1, y2⟩ := bd3
    exact ⟨by omega, by omega⟩
  · rw [g2.eP (by omega) (by omega)]
    exact hl4
theorem td_caller (hS : tS I ρ P lo q nd nc T N t w) (hk : (kt P t).1 = 21) (x2 : Value) : sm_V G xX3_told (D + 9) 156 [.ref 73, .int (nI 1), x2] [] I ρ (xO (oA lo) (oB lo) I ρ (kt P) t 0 (g_face (kt P) 4 (g_named (kt P) N (g_room (tx_C T) 5 (.inr (t, w))))) (tE lo (x_caller T (fun p => nI (kt P (t + 2 + p)).2.2.1)) (N ++ [((kt P (t + 1)).2.2.2, 10 + tx_C T)]))) := by
  obtain ⟨hR, hp, ho, hl, hT, hN, m6, m5, m10⟩ := hS
  have hK := hR.1
  have h8 := hR.2.1
  have p4 := hp.1.1
  have hT' := hT
  obtain ⟨⟨b1, b2, b3, ⟨b4, b5, b4r, b4l⟩, b6, b7, b7r, b8⟩, ⟨h2, h3, h4, h5⟩, -⟩ := hT'
  have hL := h3.cLs b7 (by omega)
  refine wp_aload0 157 rfl dX3_told_156 ?_
  refine wp_aload0 158 rfl dX3_told_157 ?_
  refine wp_getr 161 rfl dX3_told_158 fX3_83_4 (o4 hK) (hl) ?_
  refine wp_getr 164 rfl dX3_told_161 fX3_146_5 (b3) (b5) ?_
  refine wp_Ve0 167 rfl dX3_told_164 kJ5_size lX3_121 (b7) (nl rfl) (nl rfl) (s_size hL) ?_
  refine wp_iconst (nI 5) 168 rfl dX3_told_167 (by decide) ?_
  refine wp_Vx2 171 rfl dX3_told_168 kX3_begins lX3_126 (o4 hK) (nl rfl) (nl rfl) (s_pbegins hK hR.2.2.2 hp (by rw [hk]; decide) (tx_C T) 5 (by omega) (by decide)) (fun v J1 ρ1 z => ?_) (fun b J1 ρ1 z => z.outO rfl hK gF.rf (fun _ _ z => Or.inl z) (bud.rf (Nat.le_refl t)) (by omega) (fun x e => by rw [e, g_named_l]; exact g_face_l (p := 0) rfl 4))
  obtain ⟨e0, j1, t', w', e1, p1, rfl⟩ := z.ok
  have e0 := e0.symm
  subst e0
  rw [e1]
  obtain ⟨t9, e9, nD, q9, n9⟩ := g_room_inv e1
  cases e9
  subst q9
  have hR1 := hR.P j1
  have f1 : gF pA pNo I ρ J1 ρ := j1.g (fun _ z => z)
  have o1 : J1 73 4 = nI 0 := j1.2.trans ho
  show sm_V G xX3_told (D + 9) 171 [.ref 73, .int (nI 1), x2] [] J1 ρ _
  refine wp_new 174 rfl dX3_told_171 nX3_149 (ρ.2.2.2.1 + 64) (rfl) ?_
  have fN : gF pNo pNo J1 ρ (sm_zI J1 (ρ.2.2.2.1 + 64)) (sm_nR ρ 16 0 2) := gF.nw _ _ _
  have sN : (sm_nR ρ 16 0 2).2.2.1 (ρ.2.2.2.1 + 64) = (16, 0) := sm_nR_at
  have zN : (sm_nR ρ 16 0 2).2.2.2.1 = ρ.2.2.2.1 + 1 ∧ (sm_nR ρ 16 0 2).2.2.2.2 = ρ.2.2.2.2 + 2 := ⟨rfl, rfl⟩
  generalize sm_zI J1 (ρ.2.2.2.1 + 64) = Jn at *
  generalize sm_nR ρ 16 0 2 = ρn at *
  obtain ⟨zN1, zN2⟩ := zN
  have hRn : rC Jn ρn P := hR1.g fN (fun _ _ z => z.elim) (fun _ _ z => z)
  have hKn := hRn.1
  have fIn : gF pA pNo I ρ Jn ρn := f1.tr fN (fun _ _ z => z.elim) (fun _ _ z => z)
  have hTn : bT Jn ρn lo q nd nc T := hT.g fIn (fun x hx z => by unfold pA at z; omega) (fun _ _ z => z)
  have en : Jn 73 = J1 73 := fN.eI (by omega) (fun z => z)
  have hln : ρn.2.1 73 2 = some lo := by rw [fN.eP (by omega) (fun z => z)]; exact hl
  have fIn' : gF (oA lo) (oB lo) I ρ Jn ρn := fIn.wk (fun _ _ z => Or.inl z) (fun _ _ z => z.elim)
  refine wp_dup 175 rfl dX3_told_174 rfl ?_
  refine wp_aload0 176 rfl dX3_told_175 ?_
  refine wp_Vx0 179 rfl dX3_told_176 kX3_name lX3_131 (o4 hKn) (nl rfl) (nl rfl) (s_pname hRn (p1.I en) (by rw [en]; exact o1) hln hTn hN) (fun v J2 ρ2 z => ?_) (fun b J2 ρ2 z => z.outO (t2 := t + 1) rfl hKn hRn.2.1 (fun _ _ z => z) fIn' (fun _ _ z => Or.inl z) (fun _ _ z => z.elim) ⟨by omega, by omega⟩ (Nat.le_refl _) (fun x e => by rw [e]; exact g_face_l (p := 0) rfl 4))
  obtain ⟨f2, t2, w2, e2, p2, o2', b2', s, rfl, hs⟩ := z.ok
  rw [e2]
  obtain ⟨t9, w9, e9, k9, q9, n9', -⟩ := g_named_inv e2
  cases e9
  subst q9
  have hR2 : rC J2 ρ2 P := hRn.g f2 (fun _ _ z => z) (fun _ _ z => z)
  have h2l := f2.1
  have sa2 : ρ2.2.2.1 (ρ.2.2.2.1 + 64) = (16, 0) := (f2.eS (by omega)).trans sN
  show sm_V G xX3_told (D + 9) 179 [.ref 73, .int (nI 1), x2] [.ref s, .ref (ρ.2.2.2.1 + 64), .ref (ρ.2.2.2.1 + 64)] J2 ρ2 _
  refine wp_Ie1 182 rfl dX3_told_179 kX18_init lX3_151 rfl (nl rfl) (nl rfl) (s_cinit sa2 (by omega)) ?_
  have f3 : gF pNo (fun x => x = ρ.2.2.2.1 + 64) J2 ρ2 (sm_zI J2 (ρ2.2.2.2.1 + 64)) ((sm_nR ρ2 100 4 4).1, sm_up (sm_up (sm_nR ρ2 100 4 4).2.1 (ρ.2.2.2.1 + 64) 1 (some (ρ2.2.2.2.1 + 64))) (ρ.2.2.2.1 + 64) 0 (some s), (sm_nR ρ2 100 4 4).2.2) := ((gF.nw (A := pNo) (B := fun x => x = ρ.2.2.2.1 + 64) 100 4 4).tr (gF.p (A := pNo)) (fun _ _ z => z) (fun _ _ z => z)).tr (gF.p (A := pNo)) (fun _ _ z => z) (fun _ _ z => z)
  have z3 : ((sm_nR ρ2 100 4 4).1, sm_up (sm_up (sm_nR ρ2 100 4 4).2.1 (ρ.2.2.2.1 + 64) 1 (some (ρ2.2.2.2.1 + 64))) (ρ.2.2.2.1 + 64) 0 (some s), (sm_nR ρ2 100 4 4).2.2).2.2.2.1 = ρ2.2.2.2.1 + 1 ∧ ((sm_nR ρ2 100 4 4).1, sm_up (sm_up (sm_nR ρ2 100 4 4).2.1 (ρ.2.2.2.1 + 64) 1 (some (ρ2.2.2.2.1 + 64))) (ρ.2.2.2.1 + 64) 0 (some s), (sm_nR ρ2 100 4 4).2.2).2.2.2.2 = ρ2.2.2.2.2 + 4 := ⟨rfl, rfl⟩
  have pa3 : ((sm_nR ρ2 100 4 4).1, sm_up (sm_up (sm_nR ρ2 100 4 4).2.1 (ρ.2.2.2.1 + 64) 1 (some (ρ2.2.2.2.1 + 64))) (ρ.2.2.2.1 + 64) 0 (some s), (sm_nR ρ2 100 4 4).2.2).2.1 (ρ.2.2.2.1 + 64) 0 = some s ∧ ((sm_nR ρ2 100 4 4).1, sm_up (sm_up (sm_nR ρ2 100 4 4).2.1 (ρ.2.2.2.1 + 64) 1 (some (ρ2.2.2.2.1 + 64))) (ρ.2.2.2.1 + 64) 0 (some s), (sm_nR ρ2 100 4 4).2.2).2.1 (ρ.2.2.2.1 + 64) 1 = some (ρ2.2.2.2.1 + 64) := by
    show sm_up (sm_up (sm_nR ρ2 100 4 4).2.1 (ρ.2.2.2.1 + 64) 1 (some (ρ2.2.2.2.1 + 64))) (ρ.2.2.2.1 + 64) 0 (some s) (ρ.2.2.2.1 + 64) 0 = some s ∧ sm_up (sm_up (sm_nR ρ2 100 4 4).2.1 (ρ.2.2.2.1 + 64) 1 (some (ρ2.2.2.2.1 + 64))) (ρ.2.2.2.1 + 64) 0 (some s) (ρ.2.2.2.1 + 64) 1 = _
    rw [sm_up_eq, sm_up_eq]
    exact ⟨rfl, rfl⟩
  have sf3 : ((sm_nR ρ2 100 4 4).1, sm_up (sm_up (sm_nR ρ2 100 4 4).2.1 (ρ.2.2.2.1 + 64) 1 (some (ρ2.2.2.2.1 + 64))) (ρ.2.2.2.1 + 64) 0 (some s), (sm_nR ρ2 100 4 4).2.2).2.2.1 (ρ2.2.2.2.1 + 64) = (100, 4) := sm_nR_at (ρ := ρ2)
  generalize ((sm_nR ρ2 100 4 4).1, sm_up (sm_up (sm_nR ρ2 100 4 4).2.1 (ρ.2.2.2.1 + 64) 1 (some (ρ2.2.2.2.1 + 64))) (ρ.2.2.2.1 + 64) 0 (some s), (sm_nR ρ2 100 4 4).2.2) = ρ3 at *
  generalize sm_zI J2 (ρ2.2.2.2.1 + 64) = J3 at *
  obtain ⟨z31, z32⟩ := z3
  have hR3 : rC J3 ρ3 P := hR2.g f3 (fun _ _ z => z.elim) (fun x hx z => by omega)
  have hK3 := hR3.1
  have e73 : J3 73 = J2 73 := f3.eI (by omega) (fun z => z)
  have sa3 : ρ3.2.2.1 (ρ.2.2.2.1 + 64) = (16, 0) := (f3.eS (by omega)).trans sa2
  have fI3 : gF pA pNo I ρ J3 ρ3 := (fIn.tr f2 (fun _ _ z => z) (fun _ _ z => z)).tr f3 (fun _ _ z => z.elim) (fun x hx z => absurd z (by omega))
  have fI3' : gF (oA lo) (oB lo) I ρ J3 ρ3 := fI3.wk (fun _ _ z => Or.inl z) (fun _ _ z => z.elim)
  have h3l := f3.1
  have bd3 : bud ρ t ρ3 (t + 2) := by
    obtain ⟨y1, y2⟩ := b2'
    exact ⟨by omega, by omega⟩
  have hs3 : cNm J3 ρ3 lo (ρ3.2.2.2.1 + 64) s (kt P (t + 1)).2.2.2 := (hs.g f3 (Nat.le_refl _) (by omega) (fun _ _ _ z => z) (fun x hx hk z => by rw [z, sa2] at hk; exact absurd hk (by decide))).wk (by omega)
  refine wp_astore2 183 rfl dX3_told_182 (by decide) rfl ?_
  refine wp_aload0 184 rfl dX3_told_183 ?_
  refine wp_aload2 185 rfl dX3_told_184 ?_
  refine wp_Vx1 188 rfl dX3_told_185 kX3_face lX3_138 (o4 hK3) (nl rfl) (nl rfl) (s_pface hR3 (p2.I e73) (by rw [e73]; exact o2') sa3 fX3_185_16 pa3.2 sf3 (by omega)) (fun v J4 ρ4 z => ?_) (fun b J4 ρ4 z => z.outO (t2 := t + 2) rfl hK3 hR3.2.1 (fun _ _ z => z) fI3' (fun x hx z => by rcases z with z | z; exact Or.inl z; exact Or.inr (by omega)) (fun _ _ z => z.elim) bd3 (Nat.le_refl _) (fun x e => e))
  obtain ⟨f4, t4, w4, e4, p4', o4', b4', rfl, e0, hv4⟩ := z.ok
  have e0 := e0.symm
  subst e0
  rw [e4]
  obtain ⟨t9, w9, e9, q9, -⟩ := g_face_inv e4
  cases e9
  subst q9
  have hR4 : rC J4 ρ3 P := hR3.g f4 (fun x hx z => z.resolve_right (by omega)) (fun _ _ z => z)
  have hK4 := hR4.1
  have fI4 : gF pA pNo I ρ J4 ρ3 := fI3.tr f4 (fun x hx z => z.resolve_right (by omega)) (fun _ _ z => z)
  have hT4 : bT J4 ρ3 lo q nd nc T := hT.g fI4 (fun x hx z => by unfold pA at z; omega) (fun _ _ z => z)
  have hl4 : ρ3.2.1 73 2 = some lo := by rw [fI4.eP (by omega) (fun z => z)]; exact hl
  have hb4 := hT4.1
  have bn4 : bn J4 ρ3 lo 16 (ρ.2.2.2.1 + 64) (ρ2.2.2.2.1 + 64) s (kt P (t + 1)).2.2.2 (fun p => nI (kt P (t + 2 + p)).2.2.1) := ⟨⟨⟨by omega, by omega⟩, sa3, pa3.1, pa3.2⟩, ⟨⟨by omega, by omega⟩, sf3, hv4⟩, hs3.g f4 (Nat.le_refl _) (Nat.le_refl _) (fun x hx hk z => by
    rcases z with z | z
    · unfold pA at z; omega
    · rw [z, sf3] at hk; exact absurd hk (by decide)) (fun _ _ _ z => z)⟩
  have hbl := hT4.2.1.2.1
  have hou := hbl.out
  have hB5 : ρ3.2.2.1 (lo + 2) = (18, 0) := hb4.2.2.2.2.2.1
  show sm_V G xX3_told (D + 9) 188 [.ref 73, .int (nI 1), .ref (ρ.2.2.2.1 + 64)] [] J4 ρ3 _
  refine wp_aload0 189 rfl dX3_told_188 ?_
  refine wp_getr 192 rfl dX3_told_189 fX3_83_4 (o4 hK4) (hl4) ?_
  refine wp_getr 195 rfl dX3_told_192 fX3_146_5 (hb4.2.2.1) (hb4.2.2.2.1.2.1) ?_
  refine wp_aload2 196 rfl dX3_told_195 ?_
  refine wp_Vi1 199 rfl dX3_told_196 kJ5_add lX3_142 (hB5) (nl rfl) (nl rfl) (s_add hbl b1 hB5 (by omega) hb4.2.1 (by omega) sa3 (by omega) as16) (fun v J5 ρ5 h5 => ?_)
  refine wp_pop 200 rfl dX3_told_199 rfl ?_
  refine wp_goto 365 rfl dX3_told_200 ?_
  refine wp_vret dX3_told_365 rfl ?_
  obtain ⟨e', g1, g2, ⟨g3, g4⟩, g5⟩ := h5
  have bn5 : bn J5 ρ5 lo 16 (ρ.2.2.2.1 + 64) (ρ2.2.2.2.1 + 64) s (kt P (t + 1)).2.2.2 (fun p => nI (kt P (t + 2 + p)).2.2.1) := bn4.g g2 (fun x hx hk z => by
    have z : x = lo + 2 := z
    rw [z, hB5] at hk
    exact absurd hk (by decide)) (fun x hx hk z => by
    rcases z with z | ⟨z, z2⟩
    · rw [z, hB5] at hk
      exact absurd hk (by decide)
    · rcases hou with y | y
      · exact z2 y
      · rw [z, y.2.2] at hk
        exact absurd hk (by decide))
  have e75 : J5 73 = J4 73 := g2.eI (by omega) (fun z => by omega)
  have hT5 := hT4.caller (g2.wk (fun x hx z => Or.inr z) (fun _ _ z => z)) (by omega) g5 bn5
  refine ⟨(fI4.wk (fun _ _ z => Or.inl z) (fun _ _ z => z.elim)).tr g2 (fun x hx z => Or.inr (by omega)) (fun x hx z => by show lo ≤ x; omega), none, rfl, p4'.I e75, by rw [e75]; exact o4', ?_, rfl, ?_, _, _, _, hT5, hN.caller (by omega)⟩
  · obtain ⟨y1, y2⟩ := bd3
    exact ⟨by omega, by omega⟩
  · rw [g2.eP (by omega) (by omega)]
    exact hl4
end G4
