/-! ===== the component: paired ===== -/
set_option maxRecDepth 100000
abbrev cp_by (u : Nat → Nat → Int32) (L : Nat → Int32) (d c t : Nat) : Int32 := u d c + L (t ||| 2 ^ c)
def cp_best (u : Nat → Nat → Int32) (L : Nat → Int32) (d t : Nat) : Nat → Int32
  | 0 => 1000000 + L t
  | c + 1 => if t / 2 ^ c % 2 = 0 then z_min (cp_best u L d t c) (cp_by u L d c t) else cp_best u L d t c
def cp_lf (u : Nat → Nat → Int32) (D C : Nat) : Nat → Nat → Int32
  | 0 => fun _ => nI 0
  | k + 1 => fun t => cp_best u (cp_lf u D C k) (D - (k + 1)) t C
def cp_fr (t : Nat) : Nat → Nat
  | 0 => 0
  | c + 1 => cp_fr t c + if t / 2 ^ c % 2 = 0 then 1 else 0
theorem cp_fr_d : ∀ C : Fin 6, ∀ t : Fin 32, ∀ c : Fin 5, c.val < C.val → (t.val / 2 ^ c.val % 2 = 0 → cp_fr (t.val ||| 2 ^ c.val) C.val + 1 = cp_fr t.val C.val) ∧ (t.val < 2 ^ C.val → t.val ||| 2 ^ c.val < 2 ^ C.val) := by decide +kernel
theorem cp_fr_0 : ∀ C : Fin 6, cp_fr 0 C.val = C.val := by decide +kernel
theorem cp_p5 : ∀ C : Fin 6, 2 ^ C.val ≤ 32 := by decide +kernel
theorem cp_sh : ∀ C : Fin 6, nI 1 <<< (nI C.val &&& 31) = nI (2 ^ C.val) := by decide +kernel
/-- p pairs of k doors, unlike by s: as the model counts it, as the component does -/
def cp_r (k p s : Nat) (vm vc : Int32) : Prop := p ≤ k ∧ s ≤ 396 * p ∧ vm = nI s - nI (10000 * p) ∧ vc = nI (1000000 * (k - p) + s)
theorem cp_r_lt {k p s p' s' : Nat} {vm vc vm' vc' : Int32} (hk : k ≤ 6) (h : cp_r k p s vm vc) (h' : cp_r k p' s' vm' vc') : (vm < vm' ↔ vc < vc') ∧ (vm = vm' ↔ vc = vc') ∧ (p < p' → vm' < vm) := by
  obtain ⟨h1, h2, h3, h4⟩ := h
  obtain ⟨g1, g2, g3, g4⟩ := h'
  have i1 : vm.toInt = (s : Int) - (10000 * p : Nat) := by rw [h3]; exact pk_sub_toInt (by omega) (by omega)
  have i2 : vm'.toInt = (s' : Int) - (10000 * p' : Nat) := by rw [g3]; exact pk_sub_toInt (by omega) (by omega)
  have i3 : vc.toInt = (1000000 * (k - p) + s : Nat) := by rw [h4]; exact nI_toInt (by omega)
  have i4 : vc'.toInt = (1000000 * (k - p') + s' : Nat) := by rw [g4]; exact nI_toInt (by omega)
  refine ⟨?_, ?_, ?_⟩
  · rw [Int32.lt_iff_toInt_lt, Int32.lt_iff_toInt_lt, i1, i2, i3, i4]
    omega
  · rw [← Int32.toInt_inj, ← Int32.toInt_inj, i1, i2, i3, i4]
    omega
  · rw [Int32.lt_iff_toInt_lt, i1, i2]
    omega
theorem cp_r_s {k p s m : Nat} {vm vc u : Int32} (hu : u = nI m) (hm : m ≤ 396) (h : cp_r k p s vm vc) : cp_r (k + 1) (p + 1) (s + m) (u - nI 10000 + vm) (u + vc) := by
  obtain ⟨h1, h2, h3, h4⟩ := h
  refine ⟨by omega, by omega, ?_, ?_⟩
  · rw [hu, h3, show 10000 * (p + 1) = 10000 + 10000 * p by omega, ← nI_add, ← nI_add]
    simp only [Int32.sub_eq_add_neg, Int32.neg_add]
    ac_rfl
  · rw [hu, h4, nI_add]
    exact nI_cg (by omega)
theorem cp_r_k {k p s : Nat} {vm vc : Int32} (h : cp_r k p s vm vc) : cp_r (k + 1) p s vm (1000000 + vc) := by
  obtain ⟨h1, h2, h3, h4⟩ := h
  refine ⟨by omega, h2, h3, ?_⟩
  rw [h4, show (1000000 : Int32) = nI 1000000 from rfl, nI_add]
  exact nI_cg (by omega)
abbrev cp_m (a b : Nat) : Nat := if a < b then a else b
theorem cp_best_r {u : Nat → Nat → Int32} {L L' : Nat → Int32} {C k d t : Nat} (hC : C ≤ 5) (hk : k + 1 ≤ 6) (ht : t < 2 ^ C) (hu : ∀ c, c < C → ∃ m, m ≤ 396 ∧ u d c = nI m) (h : ∀ t, t < 2 ^ C → ∃ p s, cp_r k p s (L t) (L' t) ∧ p = cp_m k (cp_fr t C)) :
    ∀ c, c ≤ C → ∃ p s, cp_r (k + 1) p s (pl_best u L d t c) (cp_best u L' d t c) ∧ p = if 0 < cp_fr t c then cp_m (k + 1) (cp_fr t C) else cp_m k (cp_fr t C)
  | 0, _ => by
    obtain ⟨p, s, h1, h2⟩ := h t ht
    exact ⟨p, s, cp_r_k h1, h2⟩
  | c + 1, hc => by
    obtain ⟨p, s, h1, h2⟩ := cp_best_r hC hk ht hu h c (by omega)
    have h32 : t < 32 := Nat.lt_of_lt_of_le ht (cp_p5 ⟨C, by omega⟩)
    have ef : cp_fr t (c + 1) = cp_fr t c + if t / 2 ^ c % 2 = 0 then 1 else 0 := rfl
    have em : pl_best u L d t (c + 1) = if t / 2 ^ c % 2 = 0 ∧ pl_with u L d c t < pl_best u L d t c then pl_with u L d c t else pl_best u L d t c := rfl
    have ec : cp_best u L' d t (c + 1) = if t / 2 ^ c % 2 = 0 then z_min (cp_best u L' d t c) (cp_by u L' d c t) else cp_best u L' d t c := rfl
    by_cases b : t / 2 ^ c % 2 = 0
    · obtain ⟨f1, f2⟩ := cp_fr_d ⟨C, by omega⟩ ⟨t, h32⟩ ⟨c, by omega⟩ (show c < C by omega)
      have f1 : cp_fr (t ||| 2 ^ c) C + 1 = cp_fr t C := f1 b
      obtain ⟨p1, s1, g1, g2⟩ := h (t ||| 2 ^ c) (f2 ht)
      obtain ⟨m, m1, m2⟩ := hu c (by omega)
      have g3 : cp_r (k + 1) (p1 + 1) (s1 + m) (pl_with u L d c t) (cp_by u L' d c t) := cp_r_s m2 m1 g1
      obtain ⟨q1, -, q3⟩ := cp_r_lt hk g3 h1
      have q4 := (cp_r_lt hk h1 g3).2.2
      have hp : p1 + 1 = cp_m (k + 1) (cp_fr t C) := by
        rw [g2]
        show (if k < cp_fr (t ||| 2 ^ c) C then k else cp_fr (t ||| 2 ^ c) C) + 1 = if k + 1 < cp_fr t C then k + 1 else cp_fr t C
        split <;> split <;> omega
      have hle : p ≤ p1 + 1 := by
        rw [h2, hp]
        show (if 0 < cp_fr t c then (if k + 1 < cp_fr t C then k + 1 else cp_fr t C) else (if k < cp_fr t C then k else cp_fr t C)) ≤ if k + 1 < cp_fr t C then k + 1 else cp_fr t C
        split <;> split <;> (try split) <;> omega
      rw [if_pos b] at ef ec
      rw [ef, em, ec, if_pos (show 0 < cp_fr t c + 1 by omega), ← hp]
      by_cases x : pl_with u L d c t < pl_best u L d t c
      · rw [if_pos ⟨b, x⟩]
        unfold z_min
        rw [if_pos (q1.mp x)]
        exact ⟨p1 + 1, s1 + m, g3, rfl⟩
      · rw [if_neg (fun z => x z.2)]
        unfold z_min
        rw [if_neg (fun z => x (q1.mpr z))]
        refine ⟨p, s, h1, ?_⟩
        rcases Nat.lt_or_ge p (p1 + 1) with y | y
        · exact absurd (q4 y) x
        · exact Nat.le_antisymm hle y
    · rw [if_neg b] at ef ec
      rw [ef, em, ec, if_neg (fun z => b z.1), Nat.add_zero]
      exact ⟨p, s, h1, h2⟩
theorem cp_all {u : Nat → Nat → Int32} {D C : Nat} (hD : D ≤ 6) (hC : C ≤ 5) (hu : ∀ d c, d < D → c < C → ∃ m, m ≤ 396 ∧ u d c = nI m) : ∀ k, k ≤ D → ∀ t, t < 2 ^ C → ∃ p s, cp_r k p s (pl_lf u D C k t) (cp_lf u D C k t) ∧ p = cp_m k (cp_fr t C)
  | 0, _, t, _ => ⟨0, 0, ⟨Nat.le_refl _, Nat.le_refl _, rfl, rfl⟩, by show 0 = if 0 < cp_fr t C then 0 else cp_fr t C; split <;> omega⟩
  | k + 1, hk, t, ht => by
    have ih := cp_all hD hC hu k (by omega)
    obtain ⟨p, s, h1, h2⟩ := cp_best_r (d := D - (k + 1)) hC (by omega) ht (fun c hc => hu _ c (by omega) hc) ih C (Nat.le_refl _)
    refine ⟨p, s, h1, ?_⟩
    rw [h2]
    by_cases z : 0 < cp_fr t C
    · rw [if_pos z]
    · rw [if_neg z]
      show (if k < cp_fr t C then k else cp_fr t C) = if k + 1 < cp_fr t C then k + 1 else cp_fr t C
      split <;> split <;> omega
theorem cp_or {C t c : Nat} (hC : C ≤ 5) (hc : c < C) (ht : t < 2 ^ C) : t ||| 2 ^ c < 2 ^ C := (cp_fr_d ⟨C, by omega⟩ ⟨t, Nat.lt_of_lt_of_le ht (cp_p5 ⟨C, by omega⟩)⟩ ⟨c, by omega⟩ hc).2 ht
/-- the pair found is the same -/
theorem cp_eq {u : Nat → Nat → Int32} {D C : Nat} (hD : D ≤ 6) (hC : C ≤ 5) (hu : ∀ d c, d < D → c < C → ∃ m, m ≤ 396 ∧ u d c = nI m) {d c t : Nat} (hd : d < D) (hc : c < C) (ht : t < 2 ^ C) : pl_with u (pl_lf u D C (D - (d + 1))) d c t = pl_lf u D C (D - d) t ↔ cp_by u (cp_lf u D C (D - (d + 1))) d c t = cp_lf u D C (D - d) t := by
  obtain ⟨p, s, h1, -⟩ := cp_all hD hC hu (D - (d + 1)) (by omega) (t ||| 2 ^ c) (cp_or hC hc ht)
  obtain ⟨p', s', g1, -⟩ := cp_all hD hC hu (D - d) (by omega) t ht
  obtain ⟨m, m1, m2⟩ := hu d c hd hc
  have h2 := cp_r_s m2 m1 h1
  rw [show D - (d + 1) + 1 = D - d by omega] at h2
  exact (cp_r_lt (by omega) h2 g1).2.1
theorem cp_end {u : Nat → Nat → Int32} {D C : Nat} (hD : D ≤ 6) (hC : C ≤ 5) (hu : ∀ d c, d < D → c < C → ∃ m, m ≤ 396 ∧ u d c = nI m) : cp_lf u D C D 0 - cp_lf u D C D 0 / nI 1000000 * nI 1000000 = pl_lf u D C D 0 + nI 10000 * nI (if D < C then D else C) := by
  obtain ⟨p, s, ⟨h1, h2, h3, h4⟩, hp⟩ := cp_all hD hC hu D (Nat.le_refl _) 0 (Nat.pow_pos (by decide))
  have e0 : cp_fr 0 C = C := cp_fr_0 ⟨C, by omega⟩
  have hp : p = if D < C then D else C := by rw [hp, e0]
  rw [h3, h4, ← hp, pk_mul, pk_rem (by omega) (by decide) (by decide), show (1000000 * (D - p) + s) % 1000000 = s by omega]
  exact (Int32.sub_add_cancel _ _).symm
section D8
variable {G : sm_G} {d : Nat} {I : sm_I} {ρ : sm_R} {tp : Nat} {q : tq4} {T : tx} {w : Nat → Int32}
theorem r_unl_n (hw : wok w) (hk : tok T) : ∀ dd c, dd < tx_D T → c < tx_C T → ∃ m, m ≤ 396 ∧ r_unl T w dd c = nI m := fun dd c hd hc => by
  have h6 := hk.1.1
  exact z_so (x := fun p => w (4 * dd + p)) (y := fun p => tx_cf T (4 * c + p)) (fun p hp => hw.1 _ (by omega)) (fun p hp => hk.2.1 _ (by omega)) 4 (Nat.le_refl _)
theorem s_pairedBy (hA : cA I ρ tp q T w) {dd c t : Nat} (hd : dd < tx_D T) (hc : c < tx_C T) (h32 : t < 32) : sm_M G xX0_pairedBy (d + 5) [.ref 64, .int (nI dd), .int (nI t), .int (nI c)] I ρ (sm_Qe (some (.int (cp_by (r_unl T w) (I (247 + (dd + 1))) dd c t))) I ρ) := by
  obtain ⟨hK, hP, hT, hk, ⟨hw, hz⟩, hR⟩ := hA
  show sm_V G xX0_pairedBy (d + 5) 0 [.ref 64, .int (nI dd), .int (nI t), .int (nI c)] [] I ρ _
  obtain ⟨h6, h5, h10⟩ := hk.1
  have ht := k_town hK
  have hb := z_bor h32 (show c < 5 by omega)
  refine wp_aload0 1 rfl dX0_pairedBy_0 ?_
  refine wp_getr 4 rfl dX0_pairedBy_1 fX0_62_1 (o1 hK) (p1_7 hK) ?_
  refine wp_aload0 5 rfl dX0_pairedBy_4 ?_
  refine wp_getr 8 rfl dX0_pairedBy_5 fX0_51_1 (o1 hK) (hP) ?_
  refine wp_iload1 9 rfl dX0_pairedBy_8 ?_
  refine wp_iload3 10 rfl dX0_pairedBy_9 ?_
  refine wp_Ve3 13 rfl dX0_pairedBy_10 kX5_unlike lX0_247 (o6 (k_town hK)) (nl rfl) (nl rfl) (s_tunlike ht hR hw hT hk (by omega) hc) ?_
  refine wp_aload0 14 rfl dX0_pairedBy_13 ?_
  refine wp_getr 17 rfl dX0_pairedBy_14 fX0_102_1 (o1 hK) (p1_16 hK) ?_
  refine wp_iload1 18 rfl dX0_pairedBy_17 ?_
  refine wp_iconst (nI 1) 19 rfl dX0_pairedBy_18 (by decide) ?_
  refine wp_iadd 20 rfl dX0_pairedBy_19 ?_
  refine wp_aald (t := 10) 21 rfl dX0_pairedBy_20 (by decide) rfl rfl (s1_16 hK) (dd + 1) (by first | rfl | simp only [pk_mul, nI_add]) (⟨by omega, by decide⟩) (e1_16 hK (by omega)) ?_
  refine wp_iload2 22 rfl dX0_pairedBy_21 ?_
  refine wp_iconst (nI 1) 23 rfl dX0_pairedBy_22 (by decide) ?_
  refine wp_iload3 24 rfl dX0_pairedBy_23 ?_
  refine wp_ishl 25 rfl dX0_pairedBy_24 ?_
  refine wp_ior 26 rfl dX0_pairedBy_25 ?_
  rw [hb.1]
  refine wp_iald 27 rfl dX0_pairedBy_26 (i1_16 hK (by omega)) (t ||| 2 ^ c) (rfl) (⟨hb.2, by decide⟩) ?_
  refine wp_iadd 28 rfl dX0_pairedBy_27 ?_
  refine wp_iret dX0_pairedBy_28 rfl ?_
  exact sm_ei rfl
def cPr : List Nat := [247, 248, 249, 250, 251, 252, 253]
theorem cPr_m {a : Nat} (h : a ∈ cPr) : 247 ≤ a ∧ a ≤ 253 := by
  have : a = 247 ∨ a = 248 ∨ a = 249 ∨ a = 250 ∨ a = 251 ∨ a = 252 ∨ a = 253 := by simpa [cPr] using h
  omega
theorem cPr_i {k : Nat} (h : k ≤ 6) : 247 + k ∈ cPr := by
  have : k = 0 ∨ k = 1 ∨ k = 2 ∨ k = 3 ∨ k = 4 ∨ k = 5 ∨ k = 6 := by omega
  rcases this with e | e | e | e | e | e | e <;> (subst e; decide)
theorem cPr_q {I I1 : sm_I} (h : cf cPr I I1) : cq I I1 := cq.of h (fun a ha => by
  have := cPr_m ha
  unfold cs
  omega)
theorem s_laysPaired (hA : cA I ρ tp q T w) : sm_M G xX0_laysPaired (d + 6) [.ref 64] I ρ (sm_Qv (fun I1 ρ1 => ρ1 = ρ ∧ cf cPr I I1 ∧ ∀ k, k ≤ tx_D T → ∀ t, t < 2 ^ tx_C T → I1 (247 + (tx_D T - k)) t = cp_lf (r_unl T w) (tx_D T) (tx_C T) k t)) := by
  have hA0 := hA
  obtain ⟨hK, hP, hT, hk, ⟨hw, hz⟩, hR⟩ := hA
  obtain ⟨h6, h5, h10⟩ := hk.1
  have h2c : 2 ^ tx_C T ≤ 32 := cp_p5 ⟨tx_C T, by omega⟩
  have hsh : nI 1 <<< (nI (tx_C T) &&& 31) = nI (2 ^ tx_C T) := cp_sh ⟨tx_C T, by omega⟩
  show sm_V G xX0_laysPaired (d + 6) 0 [.ref 64, .retAddr 0, .retAddr 0, .retAddr 0] [] I ρ _
  refine wp_iconst (nI 0) 1 rfl dX0_laysPaired_0 (by decide) ?_
  refine wp_istore1 2 rfl dX0_laysPaired_1 (by decide) rfl ?_
  refine sm_for (P := fun p => ∀ J : sm_I, cf cPr I J → (∀ t, t < p → J (247 + tx_D T) t = nI 0) → sm_V G xX0_laysPaired (d + 6) 2 [.ref 64, .int (nI p), .retAddr 0, .retAddr 0] [] J ρ _) 0 (2 ^ tx_C T) (Nat.zero_le _) ?_ (fun p _ hp ih => ?_) I cf.rf (fun t ht => absurd ht (Nat.not_lt_zero _))
  · intro J hf h0
    have hT := (hA0.q (cPr_q hf)).2.2.1
    refine wp_iload1 3 rfl dX0_laysPaired_2 ?_
    refine wp_iconst (nI 1) 4 rfl dX0_laysPaired_3 (by decide) ?_
    refine wp_aload0 5 rfl dX0_laysPaired_4 ?_
    refine wp_Ve0 8 rfl dX0_laysPaired_5 kX0_callers lX0_165 (o1 hK) (nl rfl) (nl rfl) (s_callers hK hP hT) ?_
    refine wp_ishl 9 rfl dX0_laysPaired_8 ?_
    rw [hsh]
    refine wp_icmp_ge 12 30 rfl rfl dX0_laysPaired_9 (fun c9 => ?_) (fun c9 => absurd (nI_le (Nat.le_refl _) (by omega)) c9)
    refine wp_aload0 31 rfl dX0_laysPaired_30 ?_
    refine wp_Ve0 34 rfl dX0_laysPaired_31 kX0_doors lX0_159 (o1 hK) (nl rfl) (nl rfl) (s_doors hK hP hT) ?_
    refine wp_iconst (nI 1) 35 rfl dX0_laysPaired_34 (by decide) ?_
    refine wp_isub 36 rfl dX0_laysPaired_35 ?_
    refine wp_istore1 37 rfl dX0_laysPaired_36 (by decide) rfl ?_
    refine sm_for (P := fun k => ∀ J : sm_I, cf cPr I J → (∀ k', k' ≤ k → ∀ t, t < 2 ^ tx_C T → J (247 + (tx_D T - k')) t = cp_lf (r_unl T w) (tx_D T) (tx_C T) k' t) → sm_V G xX0_laysPaired (d + 6) 37 [.ref 64, .int (nI (tx_D T - k) - nI 1), .retAddr 0, .retAddr 0] [] J ρ _) 0 (tx_D T) (Nat.zero_le _) ?_ (fun k _ hkD ih => ?_) J hf (fun k' hk' t ht => ?_)
    · intro J hf hL
      rw [Nat.sub_self]
      refine wp_iload1 38 rfl dX0_laysPaired_37 ?_
      refine wp_if_lt 41 137 rfl rfl dX0_laysPaired_38 (fun c38 => ?_) (fun c38 => absurd (by decide) c38)
      refine wp_vret dX0_laysPaired_137 rfl ?_
      exact ⟨rfl, rfl, hf, hL⟩
    · intro J hf hL
      obtain ⟨dd, hdd⟩ : ∃ dd, dd = tx_D T - (k + 1) := ⟨_, rfl⟩
      rw [pk_sub (show 1 ≤ tx_D T - k by omega), show tx_D T - k - 1 = dd by omega]
      refine wp_iload1 38 rfl dX0_laysPaired_37 ?_
      refine wp_if_lt 41 137 rfl rfl dX0_laysPaired_38 (fun c38 => absurd c38 (nI_pos (n := dd) (by omega))) (fun c38 => ?_)
      refine wp_iconst (nI 0) 42 rfl dX0_laysPaired_41 (by decide) ?_
      refine wp_istore2 43 rfl dX0_laysPaired_42 (by decide) rfl ?_
      have hL0 : ∀ J2 : sm_I, cf [247 + dd] J J2 → ∀ k', k' ≤ k → ∀ t, t < 2 ^ tx_C T → J2 (247 + (tx_D T - k')) t = cp_lf (r_unl T w) (tx_D T) (tx_C T) k' t := fun J2 h2 k' hk' t ht => by
        rw [h2 _ (fun z => by
          have z := List.mem_singleton.mp z
          omega)]
        exact hL k' hk' t ht
      refine sm_for (P := fun p => ∀ J2 : sm_I, cf [247 + dd] J J2 → (∀ t, t < p → J2 (247 + dd) t = cp_lf (r_unl T w) (tx_D T) (tx_C T) (k + 1) t) → sm_V G xX0_laysPaired (d + 6) 43 [.ref 64, .int (nI dd), .int (nI p), .retAddr 0] [] J2 ρ _) 0 (2 ^ tx_C T) (Nat.zero_le _) ?_ (fun p _ hp ih2 => ?_) J cf.rf (fun t ht => absurd ht (Nat.not_lt_zero _))
      · intro J2 hf2 hn
        have hf3 : cf cPr I J2 := hf.tr (hf2.wk (fun a ha => by rw [List.mem_singleton.mp ha]; exact cPr_i (by omega)))
        have hT := (hA0.q (cPr_q hf3)).2.2.1
        refine wp_iload2 44 rfl dX0_laysPaired_43 ?_
        refine wp_iconst (nI 1) 45 rfl dX0_laysPaired_44 (by decide) ?_
        refine wp_aload0 46 rfl dX0_laysPaired_45 ?_
        refine wp_Ve0 49 rfl dX0_laysPaired_46 kX0_callers lX0_165 (o1 hK) (nl rfl) (nl rfl) (s_callers hK hP hT) ?_
        refine wp_ishl 50 rfl dX0_laysPaired_49 ?_
        rw [hsh]
        refine wp_icmp_ge 53 131 rfl rfl dX0_laysPaired_50 (fun c50 => ?_) (fun c50 => absurd (nI_le (Nat.le_refl _) (by omega)) c50)
        refine wp_iinc1 134 rfl (-1) (by decide) dX0_laysPaired_131 (by decide) rfl ?_
        rw [i_m1]
        refine wp_goto 37 rfl dX0_laysPaired_134 ?_
        have := ih J2 hf3 (fun k' hk' t ht => by
          by_cases e : k' = k + 1
          · rw [e, ← hdd]
            exact hn t ht
          · exact hL0 J2 hf2 k' (by omega) t ht)
        rw [← hdd] at this
        exact wp_weakK this ⟨Or.inr rfl, Or.inr rfl, Or.inl rfl, Or.inl rfl, trivial⟩
      · intro J2 hf2 hn
        have hf3 : ∀ J3 : sm_I, cf [247 + dd] J J3 → cf cPr I J3 := fun J3 h3 => hf.tr (h3.wk (fun a ha => by rw [List.mem_singleton.mp ha]; exact cPr_i (by omega)))
        have hT := (hA0.q (cPr_q (hf3 J2 hf2))).2.2.1
        have eL : J2 (247 + (dd + 1)) p = cp_lf (r_unl T w) (tx_D T) (tx_C T) k p := by
          have := hL0 J2 hf2 k (Nat.le_refl _) p hp
          rw [show tx_D T - k = dd + 1 by omega] at this
          exact this
        refine wp_iload2 44 rfl dX0_laysPaired_43 ?_
        refine wp_iconst (nI 1) 45 rfl dX0_laysPaired_44 (by decide) ?_
        refine wp_aload0 46 rfl dX0_laysPaired_45 ?_
        refine wp_Ve0 49 rfl dX0_laysPaired_46 kX0_callers lX0_165 (o1 hK) (nl rfl) (nl rfl) (s_callers hK hP hT) ?_
        refine wp_ishl 50 rfl dX0_laysPaired_49 ?_
        rw [hsh]
        refine wp_icmp_ge 53 131 rfl rfl dX0_laysPaired_50 (fun c50 => absurd c50 (nI_ge hp (by omega))) (fun c50 => ?_)
        refine wp_aload0 54 rfl dX0_laysPaired_53 ?_
        refine wp_getr 57 rfl dX0_laysPaired_54 fX0_102_1 (o1 hK) (p1_16 hK) ?_
        refine wp_iload1 58 rfl dX0_laysPaired_57 ?_
        refine wp_aald (t := 10) 59 rfl dX0_laysPaired_58 (by decide) rfl rfl (s1_16 hK) (dd) (by first | rfl | simp only [pk_mul, nI_add]) (⟨by omega, by decide⟩) (e1_16 hK (by omega)) ?_
        refine wp_iload2 60 rfl dX0_laysPaired_59 ?_
        refine wp_ldcw 63 rfl dX0_laysPaired_60 q1359 ?_
        refine wp_aload0 64 rfl dX0_laysPaired_63 ?_
        refine wp_getr 67 rfl dX0_laysPaired_64 fX0_102_1 (o1 hK) (p1_16 hK) ?_
        refine wp_iload1 68 rfl dX0_laysPaired_67 ?_
        refine wp_iconst (nI 1) 69 rfl dX0_laysPaired_68 (by decide) ?_
        refine wp_iadd 70 rfl dX0_laysPaired_69 ?_
        refine wp_aald (t := 10) 71 rfl dX0_laysPaired_70 (by decide) rfl rfl (s1_16 hK) (dd + 1) (by first | rfl | simp only [pk_mul, nI_add]) (⟨by omega, by decide⟩) (e1_16 hK (by omega)) ?_
        refine wp_iload2 72 rfl dX0_laysPaired_71 ?_
        refine wp_iald 73 rfl dX0_laysPaired_72 (i1_16 hK (by omega)) (p) (by first | rfl | simp only [pk_mul, nI_add]) (⟨by omega, by decide⟩) ?_
        rw [eL]
        refine wp_iadd 74 rfl dX0_laysPaired_73 ?_
        refine wp_iast 75 rfl dX0_laysPaired_74 (i1_16 hK (show dd < 7 by omega)) (p) (rfl) (⟨by omega, by decide⟩) ?_
        refine wp_iconst (nI 0) 76 rfl dX0_laysPaired_75 (by decide) ?_
        refine wp_istore3 77 rfl dX0_laysPaired_76 (by decide) rfl ?_
        have e1 : cp_lf (r_unl T w) (tx_D T) (tx_C T) (k + 1) p = cp_best (r_unl T w) (cp_lf (r_unl T w) (tx_D T) (tx_C T) k) dd p (tx_C T) := by
          rw [hdd]
          rfl
        have up : ∀ (J3 : sm_I) (v : Int32), cf [247 + dd] J J3 → (∀ t, t < p → J3 (247 + dd) t = cp_lf (r_unl T w) (tx_D T) (tx_C T) (k + 1) t) → cf [247 + dd] J (sm_u J3 (247 + dd) p v) ∧ (∀ t, t < p → sm_u J3 (247 + dd) p v (247 + dd) t = cp_lf (r_unl T w) (tx_D T) (tx_C T) (k + 1) t) ∧ sm_u J3 (247 + dd) p v (247 + dd) p = v := fun J3 v h3 h4 =>
          ⟨h3.tr (cf.u (List.mem_singleton.mpr rfl)), fun t ht => by rw [sm_u_eq, pk_un (by omega)]; exact h4 t ht, by rw [sm_u_eq, pk_us]⟩
        obtain ⟨u1, u2, u3⟩ := up J2 (1000000 + cp_lf (r_unl T w) (tx_D T) (tx_C T) k p) hf2 hn
        refine sm_for (P := fun c => ∀ J3 : sm_I, cf [247 + dd] J J3 → (∀ t, t < p → J3 (247 + dd) t = cp_lf (r_unl T w) (tx_D T) (tx_C T) (k + 1) t) → J3 (247 + dd) p = cp_best (r_unl T w) (cp_lf (r_unl T w) (tx_D T) (tx_C T) k) dd p c → sm_V G xX0_laysPaired (d + 6) 77 [.ref 64, .int (nI dd), .int (nI p), .int (nI c)] [] J3 ρ _) 0 (tx_C T) (Nat.zero_le _) ?_ (fun c _ hc ih3 => ?_) _ u1 u2 u3
        · intro J3 h3 h4 h5'
          have hT := (hA0.q (cPr_q (hf3 J3 h3))).2.2.1
          refine wp_iload3 78 rfl dX0_laysPaired_77 ?_
          refine wp_aload0 79 rfl dX0_laysPaired_78 ?_
          refine wp_Ve0 82 rfl dX0_laysPaired_79 kX0_callers lX0_165 (o1 hK) (nl rfl) (nl rfl) (s_callers hK hP hT) ?_
          refine wp_icmp_ge 85 125 rfl rfl dX0_laysPaired_82 (fun c82 => ?_) (fun c82 => absurd (nI_le (Nat.le_refl _) (by omega)) c82)
          refine wp_iincN2 128 rfl dX0_laysPaired_125 (by decide) rfl ?_
          refine wp_goto 43 rfl dX0_laysPaired_128 ?_
          exact wp_weakK (ih2 J3 h3 (fun t ht => by
            by_cases e : t = p
            · rw [e, e1]
              exact h5'
            · exact h4 t (by omega))) ⟨Or.inr rfl, Or.inr rfl, Or.inr rfl, Or.inl rfl, trivial⟩
        · intro J3 h3 h4 h5'
          have hA3 := hA0.q (cPr_q (hf3 J3 h3))
          have hT := hA3.2.2.1
          have ec : cp_best (r_unl T w) (cp_lf (r_unl T w) (tx_D T) (tx_C T) k) dd p (c + 1) = if p / 2 ^ c % 2 = 0 then z_min (cp_best (r_unl T w) (cp_lf (r_unl T w) (tx_D T) (tx_C T) k) dd p c) (cp_by (r_unl T w) (cp_lf (r_unl T w) (tx_D T) (tx_C T) k) dd c p) else cp_best (r_unl T w) (cp_lf (r_unl T w) (tx_D T) (tx_C T) k) dd p c := rfl
          rw [ec] at ih3
          refine wp_iload3 78 rfl dX0_laysPaired_77 ?_
          refine wp_aload0 79 rfl dX0_laysPaired_78 ?_
          refine wp_Ve0 82 rfl dX0_laysPaired_79 kX0_callers lX0_165 (o1 hK) (nl rfl) (nl rfl) (s_callers hK hP hT) ?_
          refine wp_icmp_ge 85 125 rfl rfl dX0_laysPaired_82 (fun c82 => absurd c82 (nI_ge hc (by omega))) (fun c82 => ?_)
          refine wp_iload2 86 rfl dX0_laysPaired_85 ?_
          refine wp_iload3 87 rfl dX0_laysPaired_86 ?_
          refine wp_ishr 88 rfl dX0_laysPaired_87 ?_
          refine wp_iconst (nI 1) 89 rfl dX0_laysPaired_88 (by decide) ?_
          refine wp_iand 90 rfl dX0_laysPaired_89 ?_
          rw [z_bis (show p < 32 by omega) (show c < 5 by omega)]
          by_cases b : p / 2 ^ c % 2 = 0
          · rw [if_pos b] at ih3
            rw [b]
            have eb : cp_by (r_unl T w) (J3 (247 + (dd + 1))) dd c p = cp_by (r_unl T w) (cp_lf (r_unl T w) (tx_D T) (tx_C T) k) dd c p := by
              have := hL0 J3 h3 k (Nat.le_refl _) (p ||| 2 ^ c) (cp_or h5 hc hp)
              rw [show tx_D T - k = dd + 1 by omega] at this
              show r_unl T w dd c + J3 (247 + (dd + 1)) (p ||| 2 ^ c) = r_unl T w dd c + _
              rw [this]
            refine wp_if_ne 93 119 rfl rfl dX0_laysPaired_90 (fun c90 => absurd (rfl) c90) (fun c90 => ?_)
            refine wp_aload0 94 rfl dX0_laysPaired_93 ?_
            refine wp_getr 97 rfl dX0_laysPaired_94 fX0_102_1 (o1 hK) (p1_16 hK) ?_
            refine wp_iload1 98 rfl dX0_laysPaired_97 ?_
            refine wp_aald (t := 10) 99 rfl dX0_laysPaired_98 (by decide) rfl rfl (s1_16 hK) (dd) (by first | rfl | simp only [pk_mul, nI_add]) (⟨by omega, by decide⟩) (e1_16 hK (by omega)) ?_
            refine wp_iload2 100 rfl dX0_laysPaired_99 ?_
            refine wp_aload0 101 rfl dX0_laysPaired_100 ?_
            refine wp_getr 104 rfl dX0_laysPaired_101 fX0_102_1 (o1 hK) (p1_16 hK) ?_
            refine wp_iload1 105 rfl dX0_laysPaired_104 ?_
            refine wp_aald (t := 10) 106 rfl dX0_laysPaired_105 (by decide) rfl rfl (s1_16 hK) (dd) (by first | rfl | simp only [pk_mul, nI_add]) (⟨by omega, by decide⟩) (e1_16 hK (by omega)) ?_
            refine wp_iload2 107 rfl dX0_laysPaired_106 ?_
            refine wp_iald 108 rfl dX0_laysPaired_107 (i1_16 hK (by omega)) (p) (by first | rfl | simp only [pk_mul, nI_add]) (⟨by omega, by decide⟩) ?_
            rw [h5']
            refine wp_aload0 109 rfl dX0_laysPaired_108 ?_
            refine wp_iload1 110 rfl dX0_laysPaired_109 ?_
            refine wp_iload2 111 rfl dX0_laysPaired_110 ?_
            refine wp_iload3 112 rfl dX0_laysPaired_111 ?_
            refine wp_Ve3 115 rfl dX0_laysPaired_112 kX0_pairedBy lX0_298 (o1 hK) (nl rfl) (nl rfl) (s_pairedBy hA3 (by omega) hc (by omega)) ?_
            rw [eb]
            refine wp_mmin 118 rfl dX0_laysPaired_115 q1263 (nl rfl) ?_
            refine wp_iast 119 rfl dX0_laysPaired_118 (i1_16 hK (show dd < 7 by omega)) (p) (rfl) (⟨by omega, by decide⟩) ?_
            obtain ⟨v1, v2, v3⟩ := up J3 (z_min (cp_best (r_unl T w) (cp_lf (r_unl T w) (tx_D T) (tx_C T) k) dd p c) (cp_by (r_unl T w) (cp_lf (r_unl T w) (tx_D T) (tx_C T) k) dd c p)) h3 h4
            refine wp_iincN3 122 rfl dX0_laysPaired_119 (by decide) rfl ?_
            refine wp_goto 77 rfl dX0_laysPaired_122 ?_
            exact ih3 _ v1 v2 v3
          · rw [if_neg b] at ih3
            refine wp_if_ne 93 119 rfl rfl dX0_laysPaired_90 (fun c90 => ?_) (fun c90 => absurd c90 (nI_ne0 (by omega) (by omega)))
            refine wp_iincN3 122 rfl dX0_laysPaired_119 (by decide) rfl ?_
            refine wp_goto 77 rfl dX0_laysPaired_122 ?_
            exact ih3 J3 h3 h4 h5'
    · have e : k' = 0 := by omega
      rw [e]
      exact h0 t ht
  · intro J hf h0
    have hT := (hA0.q (cPr_q hf)).2.2.1
    refine wp_iload1 3 rfl dX0_laysPaired_2 ?_
    refine wp_iconst (nI 1) 4 rfl dX0_laysPaired_3 (by decide) ?_
    refine wp_aload0 5 rfl dX0_laysPaired_4 ?_
    refine wp_Ve0 8 rfl dX0_laysPaired_5 kX0_callers lX0_165 (o1 hK) (nl rfl) (nl rfl) (s_callers hK hP hT) ?_
    refine wp_ishl 9 rfl dX0_laysPaired_8 ?_
    rw [hsh]
    refine wp_icmp_ge 12 30 rfl rfl dX0_laysPaired_9 (fun c9 => absurd c9 (nI_ge hp (by omega))) (fun c9 => ?_)
    refine wp_aload0 13 rfl dX0_laysPaired_12 ?_
    refine wp_getr 16 rfl dX0_laysPaired_13 fX0_102_1 (o1 hK) (p1_16 hK) ?_
    refine wp_aload0 17 rfl dX0_laysPaired_16 ?_
    refine wp_Ve0 20 rfl dX0_laysPaired_17 kX0_doors lX0_159 (o1 hK) (nl rfl) (nl rfl) (s_doors hK hP hT) ?_
    refine wp_aald (t := 10) 21 rfl dX0_laysPaired_20 (by decide) rfl rfl (s1_16 hK) (tx_D T) (by first | rfl | simp only [pk_mul, nI_add]) (⟨by omega, by decide⟩) (e1_16 hK (by omega)) ?_
    refine wp_iload1 22 rfl dX0_laysPaired_21 ?_
    refine wp_iconst (nI 0) 23 rfl dX0_laysPaired_22 (by decide) ?_
    refine wp_iast 24 rfl dX0_laysPaired_23 (i1_16 hK (by omega)) (p) (by first | rfl | simp only [pk_mul, nI_add]) (⟨by omega, by decide⟩) ?_
    refine wp_iincN1 27 rfl dX0_laysPaired_24 (by decide) rfl ?_
    refine wp_goto 2 rfl dX0_laysPaired_27 ?_
    refine ih _ (hf.tr (cf.u (cPr_i (by omega)))) (fun t ht => ?_)
    rw [sm_u_eq]
    by_cases e : t = p
    · rw [e, pk_us]
    · rw [pk_un e]
      exact h0 t (by omega)
end D8
