/-! ===== the component's tokens: word ===== -/
set_option maxRecDepth 100000
/-- a word's letters -/
def wc (i j : Nat) : Nat := (kch i j).toNatClampNeg
abbrev wl (i : Nat) : Nat := sm_len.getD i 0
theorem wc_d : ∀ i : Fin 21, ∀ j : Fin 8, j.val < wl i.val → kch i.val j.val = nI (wc i.val j.val) ∧ 97 ≤ wc i.val j.val ∧ wc i.val j.val ≤ 122 := by decide +kernel
theorem wl_d : ∀ i : Fin 21, 1 ≤ wl i.val ∧ wl i.val ≤ 8 ∧ ky_nm (wc i.val) 0 (wl i.val) = ky_key i.val := by decide +kernel
theorem wc_n {i j : Nat} (hi : i < 21) (hj : j < wl i) : kch i j = nI (wc i j) ∧ 97 ≤ wc i j ∧ wc i j ≤ 122 := by
  have : wl i ≤ 8 := (wl_d ⟨i, hi⟩).2.1
  exact wc_d ⟨i, hi⟩ ⟨j, by omega⟩ hj
/-- names tell their letters -/
theorem ky_nm_inj {f g : Nat → Nat} {i k : Nat} : ∀ {m n : Nat}, m ≤ 8 → n ≤ 8 → (∀ j, j < m → ky_L (f (i + j))) → (∀ j, j < n → ky_L (g (k + j))) → ky_nm f i m = ky_nm g k n → m = n ∧ ∀ j, j < m → f (i + j) = g (k + j)
  | 0, 0, _, _, _, _, _ => ⟨rfl, fun j hj => absurd hj (Nat.not_lt_zero _)⟩
  | 0, n + 1, _, hn, _, hg, e => by
    exfalso
    have e2 : ky_nm g k (n + 1) = if n < 8 then 27 * ky_nm g k n + (g (k + n) - 96) else ky_nm g k n := rfl
    rw [e2, if_pos (by omega)] at e
    have e1 : ky_nm f i 0 = 0 := rfl
    have := hg n (by omega)
    omega
  | m + 1, 0, hm, _, hf, _, e => by
    exfalso
    have e2 : ky_nm f i (m + 1) = if m < 8 then 27 * ky_nm f i m + (f (i + m) - 96) else ky_nm f i m := rfl
    rw [e2, if_pos (by omega)] at e
    have e1 : ky_nm g k 0 = 0 := rfl
    have := hf m (by omega)
    omega
  | m + 1, n + 1, hm, hn, hf, hg, e => by
    have e1 : ky_nm f i (m + 1) = if m < 8 then 27 * ky_nm f i m + (f (i + m) - 96) else ky_nm f i m := rfl
    have e2 : ky_nm g k (n + 1) = if n < 8 then 27 * ky_nm g k n + (g (k + n) - 96) else ky_nm g k n := rfl
    rw [e1, e2, if_pos (by omega), if_pos (by omega)] at e
    have hx := hf m (by omega)
    have hy := hg n (by omega)
    obtain ⟨h1, h2⟩ := ky_nm_inj (m := m) (n := n) (by omega) (by omega) (fun j hj => hf j (by omega)) (fun j hj => hg j (by omega)) (by omega)
    subst h1
    refine ⟨rfl, fun j hj => ?_⟩
    by_cases q : j = m
    · subst q
      omega
    · exact h2 j (by omega)
theorem ky_nm_congr {f g : Nat → Nat} {i k : Nat} : ∀ {m : Nat}, (∀ j, j < m → f (i + j) = g (k + j)) → ky_nm f i m = ky_nm g k m
  | 0, _ => rfl
  | m + 1, h => by
    show (if m < 8 then 27 * ky_nm f i m + (f (i + m) - 96) else ky_nm f i m) = if m < 8 then 27 * ky_nm g k m + (g (k + m) - 96) else ky_nm g k m
    rw [ky_nm_congr (fun j hj => h j (by omega)), h m (by omega)]
/-- the word stands there -/
def wIs (c : Nat → Nat) (a m i : Nat) : Prop := wl i = m ∧ ∀ j, j < m → wc i j = c (a + j)
theorem wIs_key {c : Nat → Nat} {a m i : Nat} (hi : i < 21) (hm : m ≤ 8) (hc : ∀ j, j < m → ky_L (c (a + j))) : wIs c a m i ↔ ky_key i = ky_nm c a m := by
  obtain ⟨w1, w2, w3⟩ := wl_d ⟨i, hi⟩
  have w3 : ky_nm (wc i) 0 (wl i) = ky_key i := w3
  rw [← w3]
  constructor
  · rintro ⟨h1, h2⟩
    rw [h1]
    exact ky_nm_congr (fun j hj => by rw [Nat.zero_add]; exact h2 j hj)
  · intro h
    obtain ⟨h1, h2⟩ := ky_nm_inj w2 hm (fun j hj => by rw [Nat.zero_add]; exact (wc_n hi hj).2) hc h
    exact ⟨h1, fun j hj => by have := h2 j (by omega); rw [Nat.zero_add] at this; exact this⟩
theorem ky_key_d : ∀ i j : Fin 21, ky_key i.val = ky_key j.val → i.val = j.val := by decide +kernel
theorem ky_find_some {nm i : Nat} (hi : i < 21) (h : ky_key i = nm) : ∀ n, i < n → n ≤ 21 → ky_find nm n = 20 + i
  | 0, h0, _ => absurd h0 (Nat.not_lt_zero _)
  | n + 1, h1, h2 => by
    show (if ky_key n = nm then 20 + n else ky_find nm n) = _
    by_cases e : ky_key n = nm
    · have q9 : n = i := ky_key_d ⟨n, by omega⟩ ⟨i, hi⟩ (e.trans h.symm)
      rw [if_pos e, q9]
    · rw [if_neg e]
      exact ky_find_some hi h n (by
        rcases Nat.lt_succ_iff_lt_or_eq.mp h1 with q | q
        · exact q
        · exact absurd (by rw [← q]; exact h) e) (by omega)
theorem ky_find_none {nm : Nat} : ∀ n, (∀ i, i < n → ¬ ky_key i = nm) → ky_find nm n = 1
  | 0, _ => rfl
  | n + 1, h => by
    show (if ky_key n = nm then 20 + n else ky_find nm n) = _
    rw [if_neg (h n (by omega))]
    exact ky_find_none n (fun i hi => h i (by omega))
section F5
variable {G : sm_G} {d : Nat} {I : sm_I} {ρ : sm_R} {P : Nat × (Nat → Int32)}
/-- what word answers: a word that stands there, or -1 where none does -/
def wAns (c : Nat → Nat) (a m : Nat) (v : Int32) : Prop := (∃ i, i < 21 ∧ wIs c a m i ∧ v = nI i) ∨ (v = -1 ∧ ∀ i, i < 21 → ¬ wIs c a m i)
theorem s_tword (hK : kd ρ) (hP : cP I P) {a b : Nat} (hab : a ≤ b) (hb : b ≤ P.1) (hc : ∀ j, a ≤ j → j < b → ky_L (ky_c P.1 P.2 j)) : sm_M G xX2_word (d + 4) [.ref 66, .int (nI a), .int (nI b)] I ρ (sm_Qi (fun r I1 ρ1 => ρ1 = ρ ∧ I1 = I ∧ wAns (ky_c P.1 P.2) a (b - a) r)) := by
  have p2 := hP.2.1
  show sm_V G xX2_word (d + 4) 0 [.ref 66, .int (nI a), .int (nI b), .retAddr 0, .retAddr 0, .retAddr 0] [] I ρ _
  refine wp_iconst (nI 0) 1 rfl dX2_word_0 (by decide) ?_
  refine wp_istore3 2 rfl dX2_word_1 (by decide) rfl ?_
  refine sm_for (P := fun i => (∀ k, k < i → ¬ wIs (ky_c P.1 P.2) a (b - a) k) → sm_V G xX2_word (d + 4) 2 [.ref 66, .int (nI a), .int (nI b), .int (nI i), .retAddr 0, .retAddr 0] [] I ρ _) 0 21 (nl rfl) ?_ (fun i _ hi ih => ?_) (fun k hk => absurd hk (Nat.not_lt_zero _))
  · intro hno
    refine wp_iload3 3 rfl dX2_word_2 ?_
    refine wp_aload0 4 rfl dX2_word_3 ?_
    refine wp_getr 7 rfl dX2_word_4 fX2_53_3 (o3 hK) (p3_0 hK) ?_
    refine wp_alen (t := 6) 8 rfl dX2_word_7 rfl (s3_0 hK) ?_
    refine wp_icmp_ge 11 96 rfl rfl dX2_word_8 (fun c8 => ?_) (fun c8 => absurd (nI_le (Nat.le_refl 21) (by decide)) c8)
    refine wp_iconst (-1) 97 rfl dX2_word_96 (by decide) ?_
    refine wp_iret dX2_word_97 rfl ?_
    exact ⟨_, rfl, rfl, rfl, Or.inr ⟨rfl, hno⟩⟩
  · intro hno
    have w2 : wl i ≤ 8 := (wl_d ⟨i, hi⟩).2.1
    -- behind the inner loop
    have fin0 : ∀ v : Value, ¬ wIs (ky_c P.1 P.2) a (b - a) i → sm_V G xX2_word (d + 4) 83 [.ref 66, .int (nI a), .int (nI b), .int (nI i), .int (nI 0), v] [] I ρ (sm_Qi (fun r I1 ρ1 => ρ1 = ρ ∧ I1 = I ∧ wAns (ky_c P.1 P.2) a (b - a) r)) := by
      intro v hn
      refine wp_iload4 85 rfl dX2_word_83 ?_
      refine wp_if_eq 88 90 rfl rfl dX2_word_85 (fun c85 => ?_) (fun c85 => absurd (rfl) c85)
      refine wp_iincN3 93 rfl dX2_word_90 (by decide) rfl ?_
      refine wp_goto 2 rfl dX2_word_93 ?_
      exact wp_weakK (ih (fun k hk => by
        by_cases e : k = i
        · rw [e]; exact hn
        · exact hno k (by omega))) ⟨Or.inr rfl, Or.inr rfl, Or.inr rfl, Or.inr rfl, Or.inl rfl, Or.inl rfl, trivial⟩
    refine wp_iload3 3 rfl dX2_word_2 ?_
    refine wp_aload0 4 rfl dX2_word_3 ?_
    refine wp_getr 7 rfl dX2_word_4 fX2_53_3 (o3 hK) (p3_0 hK) ?_
    refine wp_alen (t := 6) 8 rfl dX2_word_7 rfl (s3_0 hK) ?_
    refine wp_icmp_ge 11 96 rfl rfl dX2_word_8 (fun c8 => absurd c8 (nI_ge hi (by decide))) (fun c8 => ?_)
    refine wp_aload0 12 rfl dX2_word_11 ?_
    refine wp_getr 15 rfl dX2_word_12 fX2_53_3 (o3 hK) (p3_0 hK) ?_
    refine wp_iload3 16 rfl dX2_word_15 ?_
    refine wp_aald (t := 6) 17 rfl dX2_word_16 (by decide) rfl rfl (s3_0 hK) (i) (by first | rfl | simp only [pk_mul, nI_add]) (⟨by omega, by decide⟩) (e3_0 hK (by omega)) ?_
    refine wp_VCe0 20 rfl dX2_word_17 kJ8_length lX2_87 (show i < 22 by omega) (nl rfl) (nl rfl) (s_klen (show i < 22 by omega)) ?_
    refine wp_iload2 21 rfl dX2_word_20 ?_
    refine wp_iload1 22 rfl dX2_word_21 ?_
    refine wp_isub 23 rfl dX2_word_22 ?_
    rw [pk_sub hab]
    by_cases hl : wl i = b - a
    · refine wp_icmp_ne 26 30 rfl rfl dX2_word_23 (fun c23 => absurd (by show nI (wl i) = _; rw [hl]) c23) (fun c23 => ?_)
      refine wp_iconst (nI 1) 27 rfl dX2_word_26 (by decide) ?_
      refine wp_goto 31 rfl dX2_word_27 ?_
      refine wp_istore4 33 rfl dX2_word_31 (by decide) rfl ?_
      refine wp_iload1 34 rfl dX2_word_33 ?_
      refine wp_istore5 36 rfl dX2_word_34 (by decide) rfl ?_
      have key : ∀ n, ∀ j, j + n = b - a → (∀ k, k < j → wc i k = ky_c P.1 P.2 (a + k)) → sm_V G xX2_word (d + 4) 36 [.ref 66, .int (nI a), .int (nI b), .int (nI i), .int (nI 1), .int (nI (a + j))] [] I ρ (sm_Qi (fun r I1 ρ1 => ρ1 = ρ ∧ I1 = I ∧ wAns (ky_c P.1 P.2) a (b - a) r)) := by
        intro n
        induction n with
        | zero =>
          intro j hj hs
          refine wp_iload5 38 rfl dX2_word_36 ?_
          refine wp_iload2 39 rfl dX2_word_38 ?_
          refine wp_icmp_ge 42 83 rfl rfl dX2_word_39 (fun c39 => ?_) (fun c39 => absurd (nI_le (by omega) (by omega)) c39)
          refine wp_iload4 85 rfl dX2_word_83 ?_
          refine wp_if_eq 88 90 rfl rfl dX2_word_85 (fun c85 => absurd c85 (by decide)) (fun c85 => ?_)
          refine wp_iload3 89 rfl dX2_word_88 ?_
          refine wp_iret dX2_word_89 rfl ?_
          exact ⟨_, rfl, rfl, rfl, Or.inl ⟨i, hi, ⟨hl, fun k hk => hs k (by omega)⟩, rfl⟩⟩
        | succ n ihn =>
          intro j hj hs
          obtain ⟨c1, c2, c3⟩ := wc_n hi (show j < wl i by omega)
          have hcj := hc (a + j) (by omega) (by omega)
          have eb : I 68 (a + j) = nI (ky_c P.1 P.2 (a + j)) := (hP.at (by omega)).trans (sb_lt ⟨ky_c P.1 P.2 (a + j), by omega⟩)
          refine wp_iload5 38 rfl dX2_word_36 ?_
          refine wp_iload2 39 rfl dX2_word_38 ?_
          refine wp_icmp_ge 42 83 rfl rfl dX2_word_39 (fun c39 => absurd c39 (nI_ge (by omega) (by omega))) (fun c39 => ?_)
          refine wp_iload4 44 rfl dX2_word_42 ?_
          refine wp_if_eq 47 83 rfl rfl dX2_word_44 (fun c44 => absurd c44 (by decide)) (fun c44 => ?_)
          refine wp_aload0 48 rfl dX2_word_47 ?_
          refine wp_getr 51 rfl dX2_word_48 fX2_53_3 (o3 hK) (p3_0 hK) ?_
          refine wp_iload3 52 rfl dX2_word_51 ?_
          refine wp_aald (t := 6) 53 rfl dX2_word_52 (by decide) rfl rfl (s3_0 hK) (i) (by first | rfl | simp only [pk_mul, nI_add]) (⟨by omega, by decide⟩) (e3_0 hK (by omega)) ?_
          refine wp_iload5 55 rfl dX2_word_53 ?_
          refine wp_iload1 56 rfl dX2_word_55 ?_
          refine wp_isub 57 rfl dX2_word_56 ?_
          rw [pk_sub (by omega), Nat.add_sub_cancel_left]
          refine wp_VCe1 60 rfl dX2_word_57 kJ8_charAt lX2_91 (show i < 22 by omega) (nl rfl) (nl rfl) (s_kcharAt (show i < 22 by omega) (show j < sm_len.getD i 0 by have : wl i = sm_len.getD i 0 := rfl; omega)) ?_
          rw [c1]
          refine wp_aload0 61 rfl dX2_word_60 ?_
          refine wp_getr 64 rfl dX2_word_61 fX2_59_3 (o3 hK) (p3_1 hK) ?_
          refine wp_iload5 66 rfl dX2_word_64 ?_
          refine wp_bald 67 rfl dX2_word_66 (s3_1 hK) (a + j) (by first | rfl | simp only [pk_mul, nI_add]) (⟨by omega, by decide⟩) ?_
          rw [eb]
          by_cases q : wc i j = ky_c P.1 P.2 (a + j)
          · have := ihn (j + 1) (by omega) (fun k hk => by
              by_cases e : k = j
              · rw [e]; exact q
              · exact hs k (by omega))
            rw [q]
            refine wp_icmp_ne 70 74 rfl rfl dX2_word_67 (fun c67 => absurd (rfl) c67) (fun c67 => ?_)
            refine wp_iconst (nI 1) 71 rfl dX2_word_70 (by decide) ?_
            refine wp_goto 75 rfl dX2_word_71 ?_
            refine wp_istore4 77 rfl dX2_word_75 (by decide) rfl ?_
            refine wp_iincN5 80 rfl dX2_word_77 (by decide) rfl ?_
            refine wp_goto 36 rfl dX2_word_80 ?_
            exact this
          · refine wp_icmp_ne 70 74 rfl rfl dX2_word_67 (fun c67 => ?_) (fun c67 => absurd c67 (fun z => q ((nI_eq (by omega) (by omega)).mp z)))
            refine wp_iconst (nI 0) 75 rfl dX2_word_74 (by decide) ?_
            refine wp_istore4 77 rfl dX2_word_75 (by decide) rfl ?_
            refine wp_iincN5 80 rfl dX2_word_77 (by decide) rfl ?_
            refine wp_goto 36 rfl dX2_word_80 ?_
            have hn : ¬ wIs (ky_c P.1 P.2) a (b - a) i := fun z => q (z.2 j (by omega))
            by_cases e : a + j + 1 < b
            · refine wp_iload5 38 rfl dX2_word_36 ?_
              refine wp_iload2 39 rfl dX2_word_38 ?_
              refine wp_icmp_ge 42 83 rfl rfl dX2_word_39 (fun c39 => absurd c39 (nI_ge (by omega) (by omega))) (fun c39 => ?_)
              refine wp_iload4 44 rfl dX2_word_42 ?_
              refine wp_if_eq 47 83 rfl rfl dX2_word_44 (fun c44 => ?_) (fun c44 => absurd (rfl) c44)
              exact fin0 _ hn
            · refine wp_iload5 38 rfl dX2_word_36 ?_
              refine wp_iload2 39 rfl dX2_word_38 ?_
              refine wp_icmp_ge 42 83 rfl rfl dX2_word_39 (fun c39 => ?_) (fun c39 => absurd (nI_le (by omega) (by omega)) c39)
              exact fin0 _ hn
      exact key (b - a) 0 (by omega) (fun k hk => absurd hk (Nat.not_lt_zero _))
    · have hn : ¬ wIs (ky_c P.1 P.2) a (b - a) i := fun z => hl z.1
      refine wp_icmp_ne 26 30 rfl rfl dX2_word_23 (fun c23 => ?_) (fun c23 => absurd c23 (fun z => hl ((nI_eq (by omega) (by omega)).mp z)))
      refine wp_iconst (nI 0) 31 rfl dX2_word_30 (by decide) ?_
      refine wp_istore4 33 rfl dX2_word_31 (by decide) rfl ?_
      refine wp_iload1 34 rfl dX2_word_33 ?_
      refine wp_istore5 36 rfl dX2_word_34 (by decide) rfl ?_
      rcases Nat.eq_or_lt_of_le hab with e | e
      · refine wp_iload5 38 rfl dX2_word_36 ?_
        refine wp_iload2 39 rfl dX2_word_38 ?_
        refine wp_icmp_ge 42 83 rfl rfl dX2_word_39 (fun c39 => ?_) (fun c39 => absurd (nI_le (by omega) (by omega)) c39)
        exact fin0 _ hn
      · refine wp_iload5 38 rfl dX2_word_36 ?_
        refine wp_iload2 39 rfl dX2_word_38 ?_
        refine wp_icmp_ge 42 83 rfl rfl dX2_word_39 (fun c39 => absurd c39 (nI_ge e (by omega))) (fun c39 => ?_)
        refine wp_iload4 44 rfl dX2_word_42 ?_
        refine wp_if_eq 47 83 rfl rfl dX2_word_44 (fun c44 => ?_) (fun c44 => absurd (rfl) c44)
        exact fin0 _ hn
end F5
