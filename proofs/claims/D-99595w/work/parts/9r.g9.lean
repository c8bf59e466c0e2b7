/-! ===== the JDK: a list that grows; what is told is made ===== -/
set_option maxRecDepth 100000
section G9
variable {G : sm_G} {d : Nat} {I : sm_I} {ρ : sm_R}
theorem s_grow2 {l : Nat} (hs : ρ.2.2.1 l = (18, 0)) (hl : l < ρ.2.2.2.1 + 64) (hp : ρ.2.1 l 1 = some 44) : sm_M G xJ5_grow_2 (d + 1) [.ref l, .int (nI 1)] I ρ (sm_Qe (some (.ref (ρ.2.2.2.1 + 64))) (sm_zI I (ρ.2.2.2.1 + 64)) ((sm_nR ρ 105 10 10).1, sm_up (sm_nR ρ 105 10 10).2.1 l 1 (some (ρ.2.2.2.1 + 64)), (sm_nR ρ 105 10 10).2.2)) := by
  have hs1 : (sm_nR ρ 105 10 10).2.2.1 l = (18, 0) := by
    have : (sm_nR ρ 105 10 10).2.2.1 l = ρ.2.2.1 l := if_neg (by omega)
    rw [this]
    exact hs
  show sm_V G xJ5_grow_2 (d + 1) 0 [.ref l, .int (nI 1), .retAddr 0, .retAddr 0] [] I ρ _
  refine wp_aload0 1 rfl dJ5_grow_2_0 ?_
  refine wp_getr 4 rfl dJ5_grow_2_1 fJ5_9_18 (hs) (hp) ?_
  refine wp_elen 5 rfl dJ5_grow_2_4 ?_
  refine wp_istore2 6 rfl dJ5_grow_2_5 (by decide) rfl ?_
  refine wp_iload2 7 rfl dJ5_grow_2_6 ?_
  refine wp_if_gt 10 20 rfl rfl dJ5_grow_2_7 (fun c7 => absurd c7 (by decide)) (fun c7 => ?_)
  refine wp_aload0 11 rfl dJ5_grow_2_10 ?_
  refine wp_getr 14 rfl dJ5_grow_2_11 fJ5_9_18 (hs) (hp) ?_
  refine wp_gets (v := .ref 44) 17 rfl dJ5_grow_2_14 q341 (fun s h => h.2.2.2.1.1) ?_
  refine wp_acmpS_eq 45 rfl dJ5_grow_2_17 ?_
  refine wp_aload0 46 rfl dJ5_grow_2_45 ?_
  refine wp_bipush (nI 10) 48 rfl dJ5_grow_2_46 (by decide) ?_
  refine wp_iload1 49 rfl dJ5_grow_2_48 ?_
  refine wp_mmax 52 rfl dJ5_grow_2_49 q1083 (nl rfl) ?_
  rw [show (if nI 10 < nI 1 then nI 1 else nI 10) = nI 10 by decide]
  refine wp_newq (t := 5) (N := 10) 55 rfl dJ5_grow_2_52 q1084 q1081 rfl (by decide) (by first | rfl | simp only [pk_mul, nI_add]) (by omega) (ρ.2.2.2.1 + 64) (rfl) ?_
  refine wp_dup_x1 56 rfl dJ5_grow_2_55 rfl rfl ?_
  refine wp_putr 59 rfl dJ5_grow_2_56 pJ5_9_18 (hs1) (fun q => ⟨rfl, rfl⟩) ?_
  refine wp_aret dJ5_grow_2_59 rfl (Or.inr ⟨_, rfl⟩) ?_
  exact ⟨rfl, rfl, rfl⟩
theorem s_grow {l : Nat} (hs : ρ.2.2.1 l = (18, 0)) (hl : l < ρ.2.2.2.1 + 64) (hp : ρ.2.1 l 1 = some 44) (h0 : I l 2 = nI 0) : sm_M G xJ5_grow (d + 2) [.ref l] I ρ (sm_Qe (some (.ref (ρ.2.2.2.1 + 64))) (sm_zI I (ρ.2.2.2.1 + 64)) ((sm_nR ρ 105 10 10).1, sm_up (sm_nR ρ 105 10 10).2.1 l 1 (some (ρ.2.2.2.1 + 64)), (sm_nR ρ 105 10 10).2.2)) := by
  show sm_V G xJ5_grow (d + 2) 0 [.ref l] [] I ρ _
  refine wp_aload0 1 rfl dJ5_grow_0 ?_
  refine wp_aload0 2 rfl dJ5_grow_1 ?_
  refine wp_geti 5 rfl dJ5_grow_2 fJ5_48_18 (hs) ?_
  rw [h0]
  refine wp_iconst (nI 1) 6 rfl dJ5_grow_5 (by decide) ?_
  refine wp_iadd 7 rfl dJ5_grow_6 ?_
  rw [nI_add]
  refine wp_Ve1 10 rfl dJ5_grow_7 kJ5_grow_2 lJ5_69 (hs) (nl rfl) (nl rfl) (s_grow2 hs hl hp) ?_
  refine wp_aret dJ5_grow_10 rfl (Or.inr ⟨_, rfl⟩) ?_
  exact ⟨rfl, rfl, rfl⟩
/-- what adding comes to -/
def aP (I : sm_I) (ρ : sm_R) (lo l e n : Nat) (f : Nat → Nat) (o : Nat) (I1 : sm_I) (ρ1 : sm_R) : Prop := ∃ e', (e' = e ∧ ¬ e = 44 ∨ e = 44 ∧ e' = ρ.2.2.2.1 + 64) ∧ gF (fun x => x = l) (fun x => x = l ∨ (x = e ∧ ¬ e = 44)) I ρ I1 ρ1 ∧ (ρ1.2.2.2.1 ≤ ρ.2.2.2.1 + 1 ∧ ρ1.2.2.2.2 ≤ ρ.2.2.2.2 + 10) ∧ bl I1 ρ1 lo l e' (n + 1) (fun i => if i = n then o else f i)
theorem s_add2 {lo l e n o tv : Nat} {f : Nat → Nat} (hb : bl I ρ lo l e n f) (hlo : 943 ≤ lo) (hs : ρ.2.2.1 l = (18, 0)) (hl : lo ≤ l ∧ l ≤ lo + 3) (hl2 : lo + 4 < ρ.2.2.2.1 + 64) (hn : n < 10) (ho : ρ.2.2.1 o = (tv, 0)) (hol : o < ρ.2.2.2.1 + 64) (has : sm_AS tv "java/lang/Object") : sm_M G xJ5_add_2 (d + 3) [.ref l, .ref o, .ref e, .int (nI n)] I ρ (sm_Qv (fun I1 ρ1 => aP I ρ lo l e n f o I1 ρ1)) := by
  obtain ⟨h1, h2, h3, h4, h5⟩ := hb
  show sm_V G xJ5_add_2 (d + 3) 0 [.ref l, .ref o, .ref e, .int (nI n)] [] I ρ _
  rcases h3 with ⟨h3, h6⟩ | ⟨h3, h6, h7⟩
  · subst h3
    subst h6
    have fN : gF pNo pNo I ρ (sm_zI I (ρ.2.2.2.1 + 64)) (sm_nR ρ 105 10 10) := gF.nw _ _ _
    have s5 : (sm_nR ρ 105 10 10).2.2.1 (ρ.2.2.2.1 + 64) = (105, 10) := sm_nR_at
    have hs1 : (sm_nR ρ 105 10 10).2.2.1 l = (18, 0) := (fN.eS (by omega)).trans hs
    have ho1 : (sm_nR ρ 105 10 10).2.2.1 o = (tv, 0) := (fN.eS hol).trans ho
    refine wp_iload3 1 rfl dJ5_add_2_0 ?_
    refine wp_aload2 2 rfl dJ5_add_2_1 ?_
    refine wp_elen 3 rfl dJ5_add_2_2 ?_
    refine wp_icmp_ne 6 11 rfl rfl dJ5_add_2_3 (fun c3 => absurd (rfl) c3) (fun c3 => ?_)
    refine wp_aload0 7 rfl dJ5_add_2_6 ?_
    refine wp_Ve0 10 rfl dJ5_add_2_7 kJ5_grow lJ5_129 (hs) (nl rfl) (nl rfl) (s_grow hs (by omega) h2 h1) ?_
    refine wp_astore2 11 rfl dJ5_add_2_10 (by decide) rfl ?_
    refine wp_aload2 12 rfl dJ5_add_2_11 ?_
    refine wp_iload3 13 rfl dJ5_add_2_12 ?_
    refine wp_aload1 14 rfl dJ5_add_2_13 ?_
    refine wp_aast (t := 5) 15 rfl dJ5_add_2_14 (by decide) rfl s5 0 rfl ⟨by decide, by decide⟩ ho1 has ?_
    refine wp_aload0 16 rfl dJ5_add_2_15 ?_
    refine wp_iload3 17 rfl dJ5_add_2_16 ?_
    refine wp_iconst (nI 1) 18 rfl dJ5_add_2_17 (by decide) ?_
    refine wp_iadd 19 rfl dJ5_add_2_18 ?_
    rw [nI_add]
    refine wp_puti 22 rfl dJ5_add_2_19 pJ5_48_18 (hs1) (⟨rfl, rfl⟩) ?_
    refine wp_vret dJ5_add_2_22 rfl ?_
    refine ⟨rfl, ρ.2.2.2.1 + 64, Or.inr ⟨rfl, rfl⟩, ?_, ⟨Nat.le_refl _, Nat.le_refl _⟩, ?_, ?_, Or.inr ⟨s5, by omega, ?_⟩, by decide, fun i hi => ?_⟩
    · exact (((fN.wk (A := fun x => x = l) (B := fun x => x = l ∨ (x = 44 ∧ ¬ 44 = 44)) (fun _ _ z => z.elim) (fun _ _ z => z.elim)).tr (gF.p (A := pNo)) (fun _ _ z => z.elim) (fun _ _ z => Or.inl z)).tr (gF.p (A := pNo)) (fun _ _ z => z.elim) (fun x hx z => absurd z (by omega))).tr (gF.u (B := pNo)) (fun _ _ z => z) (fun _ _ z => z.elim)
    · rw [sm_u_eq, pk_us]
    · show sm_up (sm_up (sm_nR ρ 105 10 10).2.1 l 1 (some (ρ.2.2.2.1 + 64))) (ρ.2.2.2.1 + 64) 0 (some o) l 1 = _
      rw [sm_up_ne _ _ _ (by omega), sm_up_eq]
      unfold va_up
      rw [if_pos rfl]
    · show _ < ρ.2.2.2.1 + 1 + 64
      omega
    · obtain rfl : i = 0 := by omega
      show sm_up (sm_up (sm_nR ρ 105 10 10).2.1 l 1 (some (ρ.2.2.2.1 + 64))) (ρ.2.2.2.1 + 64) 0 (some o) (ρ.2.2.2.1 + 64) 0 = some (if 0 = 0 then o else f 0)
      rw [sm_up_eq, if_pos rfl]
      unfold va_up
      rw [if_pos rfl]
  · have e44 : ¬ e = 44 := by omega
    have el : ¬ l = e := by omega
    refine wp_iload3 1 rfl dJ5_add_2_0 ?_
    refine wp_aload2 2 rfl dJ5_add_2_1 ?_
    refine wp_alen (t := 5) 3 rfl dJ5_add_2_2 rfl (h3) ?_
    refine wp_icmp_ne 6 11 rfl rfl dJ5_add_2_3 (fun c3 => ?_) (fun c3 => absurd c3 (fun z => by have := (nI_eq (by omega) (by decide)).mp z; omega))
    refine wp_aload2 12 rfl dJ5_add_2_11 ?_
    refine wp_iload3 13 rfl dJ5_add_2_12 ?_
    refine wp_aload1 14 rfl dJ5_add_2_13 ?_
    refine wp_aast (t := 5) 15 rfl dJ5_add_2_14 (by decide) rfl h3 n rfl ⟨hn, by decide⟩ ho has ?_
    refine wp_aload0 16 rfl dJ5_add_2_15 ?_
    refine wp_iload3 17 rfl dJ5_add_2_16 ?_
    refine wp_iconst (nI 1) 18 rfl dJ5_add_2_17 (by decide) ?_
    refine wp_iadd 19 rfl dJ5_add_2_18 ?_
    rw [nI_add]
    refine wp_puti 22 rfl dJ5_add_2_19 pJ5_48_18 (hs) (⟨rfl, rfl⟩) ?_
    refine wp_vret dJ5_add_2_22 rfl ?_
    refine ⟨rfl, e, Or.inl ⟨rfl, e44⟩, ?_, ⟨by show ρ.2.2.2.1 ≤ _; omega, by show ρ.2.2.2.2 ≤ _; omega⟩, ?_, ?_, Or.inr ⟨h3, h6, h7⟩, by omega, fun i hi => ?_⟩
    · exact ((gF.p (A := pNo)).wk (A := fun x => x = l) (B := fun x => x = l ∨ (x = e ∧ ¬ e = 44)) (fun _ _ z => z.elim) (fun _ _ z => Or.inr ⟨z, e44⟩)).tr (gF.u (B := pNo)) (fun _ _ z => z) (fun _ _ z => z.elim)
    · rw [sm_u_eq, pk_us]
    · show sm_up ρ.2.1 e n (some o) l 1 = _
      rw [sm_up_ne _ _ _ el]
      exact h2
    · show sm_up ρ.2.1 e n (some o) e i = some (if i = n then o else f i)
      rw [sm_up_eq]
      unfold va_up
      by_cases z : i = n
      · rw [if_pos z, if_pos z]
      · rw [if_neg z, if_neg z]
        exact h5 i (by omega)
theorem s_add {lo l e n o tv : Nat} {f : Nat → Nat} (hb : bl I ρ lo l e n f) (hlo : 943 ≤ lo) (hs : ρ.2.2.1 l = (18, 0)) (hl : lo ≤ l ∧ l ≤ lo + 3) (hl2 : lo + 4 < ρ.2.2.2.1 + 64) (hn : n < 10) (ho : ρ.2.2.1 o = (tv, 0)) (hol : o < ρ.2.2.2.1 + 64) (has : sm_AS tv "java/lang/Object") : sm_M G xJ5_add (d + 4) [.ref l, .ref o] I ρ (sm_Qi (fun v I1 ρ1 => aP I ρ lo l e n f o I1 ρ1)) := by
  have hb1 : bl (sm_u I l 0 (I l 0 + nI 1)) ρ lo l e n f := ⟨by rw [sm_u_eq, pk_un (by decide)]; exact hb.1, hb.2⟩
  have h2 : sm_u I l 0 (I l 0 + nI 1) l 2 = nI n := hb1.1
  show sm_V G xJ5_add (d + 4) 0 [.ref l, .ref o] [] I ρ _
  refine wp_aload0 1 rfl dJ5_add_0 ?_
  refine wp_dup 2 rfl dJ5_add_1 rfl ?_
  refine wp_geti 5 rfl dJ5_add_2 fJ5_63_18 (hs) ?_
  refine wp_iconst (nI 1) 6 rfl dJ5_add_5 (by decide) ?_
  refine wp_iadd 7 rfl dJ5_add_6 ?_
  refine wp_puti 10 rfl dJ5_add_7 pJ5_63_18 (hs) (⟨rfl, rfl⟩) ?_
  refine wp_aload0 11 rfl dJ5_add_10 ?_
  refine wp_aload1 12 rfl dJ5_add_11 ?_
  refine wp_aload0 13 rfl dJ5_add_12 ?_
  refine wp_getr 16 rfl dJ5_add_13 fJ5_9_18 (hs) (hb.2.1) ?_
  refine wp_aload0 17 rfl dJ5_add_16 ?_
  refine wp_geti 20 rfl dJ5_add_17 fJ5_48_18 (hs) ?_
  rw [h2]
  refine wp_Vv3 23 rfl dJ5_add_20 kJ5_add_2 lJ5_131 (hs) (nl rfl) (nl rfl) (s_add2 hb1 hlo hs hl hl2 hn ho hol has) (fun J1 ρ1 h1 => ?_)
  refine wp_iconst (nI 1) 24 rfl dJ5_add_23 (by decide) ?_
  refine wp_zret dJ5_add_24 rfl (rfl) ?_
  obtain ⟨e', g1, g2, g3, g4⟩ := h1
  exact ⟨_, rfl, e', g1, ((gF.u (B := pNo)).wk (A := fun x => x = l) (B := fun x => x = l ∨ (x = e ∧ ¬ e = 44)) (fun _ _ z => z) (fun _ _ z => z.elim)).tr g2 (fun _ _ z => z) (fun _ _ z => z), g3, g4⟩
theorem as15 : sm_AS 15 "java/lang/Object" := ⟨_, _, _, rfl, by decide, by decide, Or.inr q2185⟩
theorem as16 : sm_AS 16 "java/lang/Object" := ⟨_, _, _, rfl, by decide, by decide, Or.inr q2187⟩
theorem as17 : sm_AS 17 "java/lang/Object" := ⟨_, _, _, rfl, by decide, by decide, Or.inr q2188⟩
/-! doors, callers, rounds, the text -/
/-- a name's owner is made: its face behind all -/
theorem s_nminit {a s kx : Nat} (hs : ρ.2.2.1 a = (kx, 0)) (ha : a < ρ.2.2.2.1 + 64) (hf1 : ∃ ty, sm_FP RX16 9 kx 1 2 ty true ∧ ∀ q : Nat, narrow ty (.ref q) = .ref q ∧ fits ty (.ref q) = true) (hf0 : ∃ ty, sm_FP RX16 15 kx 0 2 ty true ∧ ∀ q : Nat, narrow ty (.ref q) = .ref q ∧ fits ty (.ref q) = true) : sm_M G xX16_init (d + 1) [.ref a, .ref s] I ρ (sm_Qe none (sm_zI I (ρ.2.2.2.1 + 64)) ((sm_nR ρ 100 4 4).1, sm_up (sm_up (sm_nR ρ 100 4 4).2.1 a 1 (some (ρ.2.2.2.1 + 64))) a 0 (some s), (sm_nR ρ 100 4 4).2.2)) := by
  obtain ⟨ty1, f1, g1⟩ := hf1
  obtain ⟨ty0, f0, g0⟩ := hf0
  have hs1 : (sm_nR ρ 100 4 4).2.2.1 a = (kx, 0) := by
    have : (sm_nR ρ 100 4 4).2.2.1 a = ρ.2.2.1 a := if_neg (by omega)
    rw [this]
    exact hs
  show sm_V G xX16_init (d + 1) 0 [.ref a, .ref s] [] I ρ _
  refine wp_aload0 1 rfl dX16_init_0 ?_
  refine wp_objInit 4 rfl dX16_init_1 q1009 (nl rfl) ?_
  refine wp_aload0 5 rfl dX16_init_4 ?_
  refine wp_iconst (nI 4) 6 rfl dX16_init_5 (by decide) ?_
  refine wp_newa (t := 0) (N := 4) 8 rfl dX16_init_6 rfl rfl (by decide) q420 (by first | rfl | simp only [pk_mul, nI_add]) (by omega) (ρ.2.2.2.1 + 64) (rfl) ?_
  refine wp_putrF 11 rfl dX16_init_8 rfl f1 hs1 g1 ?_
  refine wp_aload0 12 rfl dX16_init_11 ?_
  refine wp_aload1 13 rfl dX16_init_12 ?_
  refine wp_putrF 16 rfl dX16_init_13 rfl f0 hs1 g0 ?_
  refine wp_vret dX16_init_16 rfl ?_
  exact ⟨rfl, rfl, rfl⟩
theorem s_dinit {a s : Nat} (hs : ρ.2.2.1 a = (15, 0)) (ha : a < ρ.2.2.2.1 + 64) : sm_M G xX17_init (d + 2) [.ref a, .ref s] I ρ (sm_Qe none (sm_zI I (ρ.2.2.2.1 + 64)) ((sm_nR ρ 100 4 4).1, sm_up (sm_up (sm_nR ρ 100 4 4).2.1 a 1 (some (ρ.2.2.2.1 + 64))) a 0 (some s), (sm_nR ρ 100 4 4).2.2)) := by
  show sm_V G xX17_init (d + 2) 0 [.ref a, .ref s] [] I ρ _
  refine wp_aload0 1 rfl dX17_init_0 ?_
  refine wp_aload1 2 rfl dX17_init_1 ?_
  refine wp_Ie1 5 rfl dX17_init_2 kX16_init lX17_1 rfl (nl rfl) (nl rfl) (s_nminit hs ha ⟨_, pX16_9_15, fun q => ⟨rfl, rfl⟩⟩ ⟨_, pX16_15_15, fun q => ⟨rfl, rfl⟩⟩) ?_
  refine wp_vret dX17_init_5 rfl ?_
  exact ⟨rfl, rfl, rfl⟩
theorem s_cinit {a s : Nat} (hs : ρ.2.2.1 a = (16, 0)) (ha : a < ρ.2.2.2.1 + 64) : sm_M G xX18_init (d + 2) [.ref a, .ref s] I ρ (sm_Qe none (sm_zI I (ρ.2.2.2.1 + 64)) ((sm_nR ρ 100 4 4).1, sm_up (sm_up (sm_nR ρ 100 4 4).2.1 a 1 (some (ρ.2.2.2.1 + 64))) a 0 (some s), (sm_nR ρ 100 4 4).2.2)) := by
  show sm_V G xX18_init (d + 2) 0 [.ref a, .ref s] [] I ρ _
  refine wp_aload0 1 rfl dX18_init_0 ?_
  refine wp_aload1 2 rfl dX18_init_1 ?_
  refine wp_Ie1 5 rfl dX18_init_2 kX16_init lX18_1 rfl (nl rfl) (nl rfl) (s_nminit hs ha ⟨_, pX16_9_16, fun q => ⟨rfl, rfl⟩⟩ ⟨_, pX16_15_16, fun q => ⟨rfl, rfl⟩⟩) ?_
  refine wp_vret dX18_init_5 rfl ?_
  exact ⟨rfl, rfl, rfl⟩
theorem s_rinit {a : Nat} : sm_M G xX19_init (d + 1) [.ref a] I ρ (sm_Qe none I ρ) := by
  show sm_V G xX19_init (d + 1) 0 [.ref a] [] I ρ _
  refine wp_aload0 1 rfl dX19_init_0 ?_
  refine wp_objInit 4 rfl dX19_init_1 q1099 (nl rfl) ?_
  refine wp_vret dX19_init_4 rfl ?_
  exact ⟨rfl, rfl, rfl⟩
end G9
