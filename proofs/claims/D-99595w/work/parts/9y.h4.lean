/-! ===== the component's parser: the whole of read ===== -/
set_option maxRecDepth 100000
abbrev rA : Nat → Prop := fun x => x = 65 ∨ x = 66 ∨ 69 ≤ x ∧ x ≤ 73
abbrev rB : Nat → Prop := fun x => x = 73
/-- how the parser's read ends -/
def rQ (I : sm_I) (ρ : sm_R) (P : Nat × (Nat → Int32)) : sm_O → sm_I → sm_R → Prop := fun o I1 ρ1 => (gF rA rB I ρ I1 ρ1 ∧ (∀ k, ¬ k = 7 → I1 66 k = I 66 k) ∧ (∀ k, ¬ k = 2 → ρ1.2.1 73 k = ρ.2.1 73 k) ∧ ρ1.2.2.2.1 ≤ ρ.2.2.2.1 + 4829 ∧ ρ1.2.2.2.2 ≤ ρ.2.2.2.2 + 24139) ∧ match g_read P with
  | (.inl (m, j), _) => o = .inr 65 ∧ pft I1 (kt P) m j
  | (.inr (_, w), B) => if w.1 = 0 then o = .inl (some (.ref (ρ.2.2.2.1 + 64))) ∧ (∃ q nd nc, bT I1 ρ1 (ρ.2.2.2.1 + 64) q nd nc B.1) ∧ tok B.1 else o = .inr 65 ∧ pft I1 (kt P) w.1 w.2
section H4
variable {G : sm_G} {d : Nat} {I : sm_I} {ρ : sm_R} {P : Nat × (Nat → Int32)}
theorem s_pread (hK : kd ρ) (hn : 879 ≤ ρ.2.2.2.1) (hP : cP I P) : sm_M G xX3_read (d + 29) [.ref 73] I ρ (rQ I ρ P) := by
  show sm_V G xX3_read (d + 29) 0 [.ref 73] [] I ρ _
  refine wp_aload0 1 rfl dX3_read_0 ?_
  refine wp_getr 4 rfl dX3_read_1 fX3_9_4 (o4 hK) (p4_0 hK) ?_
  refine wp_Vv0 7 rfl dX3_read_4 kX2_read lX3_95 (o3 hK) (nl rfl) (nl rfl) (s_tread hK hP) (fun J1 ρx ⟨e0, j1, k1⟩ => ?_)
  refine wp_aload0 8 rfl dX3_read_7 ?_
  have e0 := e0.symm
  subst e0
  have f0 : gF rA rB I ρ J1 ρ := gF.i (fun a ha => j1.1 a (by omega))
  obtain ⟨lo, hlo⟩ : ∃ lo, ρ.2.2.2.1 + 64 = lo := ⟨_, rfl⟩
  have fN : gF pNo pNo J1 ρ (sm_zI J1 (ρ.2.2.2.1 + 64)) (sm_nR ρ 5 0 7) := gF.nw _ _ _
  have sN : (sm_nR ρ 5 0 7).2.2.1 (ρ.2.2.2.1 + 64) = (5, 0) := sm_nR_at
  rw [hlo] at fN sN
  have zN : (sm_nR ρ 5 0 7).2.2.2.1 = ρ.2.2.2.1 + 1 ∧ (sm_nR ρ 5 0 7).2.2.2.2 = ρ.2.2.2.2 + 7 := ⟨rfl, rfl⟩
  refine wp_new 11 rfl dX3_read_8 nX3_87 (lo) (hlo) ?_
  generalize hρn : sm_nR ρ 5 0 7 = ρn at *
  obtain ⟨z1, z2⟩ := zN
  refine wp_dup 12 rfl dX3_read_11 rfl ?_
  refine wp_INv0 15 rfl dX3_read_12 kX4_init lX3_98 rfl (nl rfl) (nl rfl) (s_xinit sN (by omega) (sm_zI_eq _ _)) (fun J2 ρ2 ⟨⟨y1, y2⟩, f2, hx⟩ => ?_)
  have F2 : gF rA rB I ρ J2 ρ2 := (f0.tr fN (fun _ _ z => z.elim) (fun _ _ z => z.elim)).tr f2 (fun x hx z => by omega) (fun x hx z => by omega)
  have R1 : rC J1 ρ P := ⟨hK, hn, j1.cP hP, k1⟩
  have R2 : rC J2 ρ2 P := (R1.g fN (fun _ _ z => z.elim) (fun _ _ z => z)).g f2 (fun x hx z => by omega) (fun x hx z => by omega)
  have hK2 := R2.1
  have n2 := R2.2.1
  show sm_V G xX3_read (d + 29) 15 [.ref 73] [.ref lo, .ref 73] J2 ρ2 _
  refine wp_putr 18 rfl dX3_read_15 pX3_83_4 (o4 hK2) (fun q => ⟨rfl, rfl⟩) ?_
  refine wp_aload0 19 rfl dX3_read_18 ?_
  refine wp_iconst (nI 0) 20 rfl dX3_read_19 (by decide) ?_
  refine wp_puti 23 rfl dX3_read_20 pX3_31_4 ((o4 hK2 :)) (⟨rfl, rfl⟩) ?_
  refine wp_aload0 24 rfl dX3_read_23 ?_
  refine wp_iconst (nI 0) 25 rfl dX3_read_24 (by decide) ?_
  refine wp_puti 28 rfl dX3_read_25 pX3_99_4 ((o4 hK2 :)) (⟨rfl, rfl⟩) ?_
  refine wp_aload0 29 rfl dX3_read_28 ?_
  refine wp_iconst (nI 0) 30 rfl dX3_read_29 (by decide) ?_
  refine wp_puti 33 rfl dX3_read_30 pX3_38_4 ((o4 hK2 :)) (⟨rfl, rfl⟩) ?_
  obtain ⟨J3, hJ3⟩ : ∃ J3, J3 = sm_u (sm_u (sm_u J2 73 3 (nI 0)) 73 4 (nI 0)) 73 5 (nI 0) := ⟨_, rfl⟩
  obtain ⟨ρ3, hρ3⟩ : ∃ ρ3 : sm_R, ρ3 = (ρ2.1, sm_up ρ2.2.1 73 2 (some lo), ρ2.2.2) := ⟨_, rfl⟩
  show sm_V G xX3_read (d + 29) 33 [.ref 73] [] (sm_u (sm_u (sm_u J2 73 3 (nI 0)) 73 4 (nI 0)) 73 5 (nI 0)) (ρ2.1, sm_up ρ2.2.1 73 2 (some lo), ρ2.2.2) _
  rw [← hJ3, ← hρ3]
  have jk : ∀ a, ¬ a = 73 → J3 a = J2 a := fun a ha => by rw [hJ3, sm_u_ne _ _ _ ha, sm_u_ne _ _ _ ha, sm_u_ne _ _ _ ha]
  have pk : ∀ a, ¬ a = 73 → ρ3.2.1 a = ρ2.2.1 a := fun a ha => by rw [hρ3]; exact sm_up_ne _ _ _ ha
  have p73 : ρ3.2.1 73 = va_up (ρ2.2.1 73) 2 (some lo) := by rw [hρ3]; exact (sm_up_eq ρ2.2.1 73 2 (some lo) :)
  have sk : ρ3.2.2 = ρ2.2.2 := by rw [hρ3]
  have lk1 : ρ3.1 = ρ2.1 := by rw [hρ3]
  have f3 : gF rB rB J2 ρ2 J3 ρ3 := ⟨⟨by rw [sk]; exact Nat.le_refl _, by rw [sk]; exact Nat.le_refl _, fun a _ => by rw [sk]⟩, fun a _ => ⟨by rw [sk], by rw [lk1]⟩, fun a _ h => jk a h, fun a _ h => pk a h⟩
  have F3 : gF rA rB I ρ J3 ρ3 := F2.tr f3 (fun x _ z => by omega) (fun _ _ z => z)
  have hK3 : kd ρ3 := hK2.g (fun a _ => by rw [sk]) (fun a _ _ h => pk a h) (fun k hk => by rw [p73]; exact if_neg hk) (fun k _ => by rw [pk 64 (by decide)])
  have R3 : rC J3 ρ3 P := ⟨hK3, by rw [sk]; exact n2, ⟨by rw [jk 66 (by decide)]; exact R2.2.2.1.1, R2.2.2.1.2.1, by rw [jk 68 (by decide)]; exact R2.2.2.1.2.2⟩, fun k hk h => by
    have := R2.2.2.2 k hk h
    unfold cTok at *
    rw [jk 69 (by decide), jk 70 (by decide), jk 71 (by decide), jk 72 (by decide)]
    exact this⟩
  have v3 : J3 73 3 = nI 0 := by rw [hJ3]; rfl
  have v4 : J3 73 4 = nI 0 := by rw [hJ3]; rfl
  have v5 : J3 73 5 = nI 0 := by rw [hJ3]; rfl
  have T2 := hx.bT (by omega) (by omega)
  have T3 := T2.g f3 (fun x hx z => by omega) (fun x hx z => by omega)
  have hp3 : pst J3 (kt P) 0 (0, 0) := ⟨⟨by decide, fun j hj => absurd hj (Nat.not_lt_zero _), by decide, by decide⟩, v3, v5, fun h => absurd rfl h⟩
  have hl3 : ρ3.2.1 73 2 = some lo := by rw [p73]; exact if_pos rfl
  have hc := rd_cloop (G := G) (D := d) (I0 := J3) (ρ0 := ρ3) (P := P) (lo := lo) (by omega) 402 J3 ρ3 _ _ _ x_0 0 (0, 0) (x_0, []) ⟨R3, hp3, v4, hl3, T3, nmB_0, by decide, by decide, by decide⟩ rfl (fun _ => rfl) (fun _ => tok_0) (Or.inl rfl) (by decide) gF.rf (bud.rf (Nat.le_refl _))
  refine hc.mono (fun o I1 ρ1 h => ?_)
  obtain ⟨g1, ⟨b1, b2⟩, h⟩ := h
  have F4 : gF rA rB I ρ I1 ρ1 := F3.tr g1 (fun x hx z => by unfold oA pA at z; omega) (fun x hx z => by have z : lo ≤ x := z; omega)
  have m1 : ρ3.2.2.2.1 = ρ.2.2.2.1 + 5 := by rw [sk]; omega
  have m2 : ρ3.2.2.2.2 = ρ.2.2.2.2 + 19 := by rw [sk]; omega
  refine ⟨⟨F4, fun k hk => ?_, fun k hk => ?_, by omega, by omega⟩, ?_⟩
  · rw [g1.eI (a := 66) (by omega) (fun z => by unfold oA pA at z; omega), jk 66 (by decide), f2.eI (a := 66) (by omega) (by omega), fN.eI (a := 66) (by omega) (fun z => z)]
    exact j1.2 k hk
  · rw [g1.eP (a := 73) (by omega) (fun z => by have z : lo ≤ 73 := z; omega), p73]
    refine (if_neg hk).trans ?_
    rw [f2.eP (a := 73) (by omega) (by omega), fN.eP (a := 73) (by omega) (fun z => z)]
  · rw [hlo]
    exact h
end H4
