/-! ===== the component's whole state; count ===== -/
set_option maxRecDepth 100000
/-- what stood ahead: a ring of forty towns -/
def cH (I : sm_I) (T : tx) (H : List (Nat → Int32)) : Prop := I 64 5 = nI H.length ∧ H.length ≤ 40 ∧ ∃ u, u < 40 ∧ I 64 6 = nI u ∧ ∀ i r, H[i]? = some r → (wok r ∧ wkT T r) ∧ tR I (258 + 16 * ((u + 39 - i) % 40)) r (tx_seed T)
def cK (I : sm_I) (T : tx) (K : Nat → Option (Nat → Int32)) : Prop := ∀ s, s < 3 → (K s = none → I 244 s = nI 0) ∧ ∀ r, K s = some r → I 244 s = nI 1 ∧ (wok r ∧ wkT T r) ∧ tR I (113 + 16 * s) r (tx_seed T)
def cP (I : sm_I) (P : Nat × (Nat → Int32)) : Prop := I 66 2 = nI P.1 ∧ P.1 ≤ 2000 ∧ ∀ j, j < P.1 → I 68 j = P.2 j ∧ vp_nar .byte (P.2 j) = P.2 j
def cZ (I : sm_I) (ρ : sm_R) (tp : Nat) (q : tq4) (S : yS) : Prop := cA I ρ tp q (y_T S) (y_w S) ∧ cH I (y_T S) (y_H S) ∧ cD I (y_T S) (y_D S) ∧ cK I (y_T S) (y_K S) ∧ cP I (y_P S) ∧ I 64 4 = y_p S
theorem tR.eq {I J : sm_I} {b : Nat} {w : Nat → Int32} {s : Int32} (h : tR I b w s) (e : ∀ k, k ≤ 12 → J (b + k) = I (b + k)) : tR J b w s := by
  obtain ⟨h1, h2, h3, h4⟩ := h
  refine ⟨fun d k hd hk => ?_, fun d hd => ?_, fun c hc => ?_, ?_⟩
  · rw [show b + 2 + d = b + (2 + d) by omega, e _ (by omega), show b + (2 + d) = b + 2 + d by omega]
    exact h1 d k hd hk
  · rw [e 8 (by omega), e 9 (by omega), e 10 (by omega), e 11 (by omega)]
    exact h2 d hd
  · rw [e 12 (by omega)]
    exact h3 c hc
  · have e0 : J b = I b := e 0 (by omega)
    rw [e0]
    exact h4
theorem cH.kept {I J : sm_I} {T : tx} {H : List (Nat → Int32)} (h : cH I T H) (h5 : J 64 5 = I 64 5) (h6 : J 64 6 = I 64 6) (e : ∀ a, 258 ≤ a → a < 898 → J a = I a) : cH J T H := by
  obtain ⟨h1, h2, u, u1, u2, u3⟩ := h
  exact ⟨h5.trans h1, h2, u, u1, h6.trans u2, fun i r hi => ⟨(u3 i r hi).1, (u3 i r hi).2.eq (fun k hk => e _ (by omega) (by
    have : (u + 39 - i) % 40 < 40 := Nat.mod_lt _ (by decide)
    omega))⟩⟩
theorem cK.kept {I J : sm_I} {T : tx} {K : Nat → Option (Nat → Int32)} (h : cK I T K) (e : ∀ a, (113 ≤ a ∧ a < 161) ∨ a = 244 → J a = I a) : cK J T K := fun s hs => by
  rw [e 244 (Or.inr rfl)]
  exact ⟨(h s hs).1, fun r hr => ⟨((h s hs).2 r hr).1, ((h s hs).2 r hr).2.1, ((h s hs).2 r hr).2.2.eq (fun k hk => e _ (Or.inl (by omega)))⟩⟩
theorem cZ.q {I J : sm_I} {ρ : sm_R} {tp : Nat} {q : tq4} {S : yS} (h : cZ I ρ tp q S) (hq : cq I J) : cZ J ρ tp q S := by
  obtain ⟨h1, h2, h3, h4, h5, h6⟩ := h
  have e : ∀ a, ¬ cs a → J a = I a := hq
  have e64 : J 64 = I 64 := e 64 (by unfold cs; omega)
  refine ⟨h1.q hq, h2.kept (by rw [e64]) (by rw [e64]) (fun a _ _ => e a (by unfold cs; omega)), h3.q hq, h4.kept (fun a ha => e a (by unfold cs; omega)), ?_, by rw [e64]; exact h6⟩
  unfold cP
  rw [e 66 (by unfold cs; omega), e 68 (by unfold cs; omega)]
  exact h5
theorem z_set_ext (P : Nat → Prop) [DecidablePred P] (n : Nat) : ∀ k, (∀ i, n ≤ i → i < n + k → ¬ P i) → z_set P (n + k) = z_set P n
  | 0, _ => rfl
  | k + 1, h => by
    show (if P (n + k) then z_set P (n + k) ||| nI 1 <<< (nI (n + k) &&& 31) else z_set P (n + k)) = _
    rw [if_neg (h (n + k) (by omega) (by omega))]
    exact z_set_ext P n k (fun i h1 h2 => h i h1 (by omega))
theorem z_sh0 : ∀ r : Fin 10, nI 0 <<< (nI r.val &&& 31) = nI 0 := by decide +kernel
theorem z_kept_set {w : Nat → Int32} (hw : wok w) : ∀ n, n ≤ 10 → z_kept w n = z_set (fun r => w (54 + r) = nI 1) n
  | 0, _ => rfl
  | n + 1, hn => by
    show z_kept w n ||| w (54 + n) <<< (nI n &&& 31) = if w (54 + n) = nI 1 then z_set (fun r => w (54 + r) = nI 1) n ||| nI 1 <<< (nI n &&& 31) else z_set (fun r => w (54 + r) = nI 1) n
    rw [z_kept_set hw n (by omega)]
    rcases hw.2.2.1 n (by omega) with e | e
    · rw [e, if_neg (by decide), show nI 0 <<< (nI n &&& 31) = nI 0 from z_sh0 ⟨n, by omega⟩, i_or0]
    · rw [e, if_pos rfl]
theorem z_kept_10 {w : Nat → Int32} {T : tx} (hw : wok w) (hz : wkT T w) (hk : tok T) : z_set (fun r => w (54 + r) = nI 1) 10 = z_kept w (tx_R T) := by
  have h10 := hk.1.2.2
  rw [z_kept_set hw _ h10]
  have := z_set_ext (fun r => w (54 + r) = nI 1) (tx_R T) (10 - tx_R T) (fun i h1 h2 => by
    rw [hz.2 i h1 (by omega)]
    decide)
  rw [show tx_R T + (10 - tx_R T) = 10 by omega] at this
  exact this
theorem r_known_n {T : tx} {w : Nat → Int32} (hk : tok T) (dd : Nat) : r_known T w dd < 0 ∨ ∃ c, c < 5 ∧ r_known T w dd = nI c := by
  have h5 := hk.1.2.1
  unfold r_known
  have : ∀ n, n ≤ 5 → (z_kn (fun c => r_unl T w dd c) (tx_near T) n).1 < 0 ∨ ∃ c, c < 5 ∧ (z_kn (fun c => r_unl T w dd c) (tx_near T) n).1 = nI c := by
    intro n
    induction n with
    | zero => exact fun _ => Or.inl (by show (-2 : Int32) < 0; decide)
    | succ n ih =>
      intro hn
      have e : z_kn (fun c => r_unl T w dd c) (tx_near T) (n + 1) = z_knS (fun c => r_unl T w dd c) (tx_near T) n (z_kn (fun c => r_unl T w dd c) (tx_near T) n) := rfl
      rw [e]
      unfold z_knS
      split
      · exact ih (by omega)
      · split
        · exact Or.inr ⟨n, by omega, rfl⟩
        · split
          · exact Or.inr ⟨n, by omega, rfl⟩
          · exact ih (by omega)
  exact this _ h5
theorem z_bor5 : ∀ t : Fin 32, ∀ c : Fin 5, nI t.val ||| nI 1 <<< (nI c.val &&& 31) = nI (t.val ||| 2 ^ c.val) ∧ t.val ||| 2 ^ c.val < 32 := by decide +kernel
theorem r_by_n {T : tx} {w : Nat → Int32} (hk : tok T) : ∀ n, ∃ m, m < 32 ∧ r_by T w n = nI m
  | 0 => ⟨0, by decide, rfl⟩
  | n + 1 => by
    obtain ⟨m, h1, h2⟩ := r_by_n (w := w) hk n
    show ∃ m, m < 32 ∧ (if r_known T w n < 0 then r_by T w n else r_by T w n ||| nI 1 <<< (r_known T w n &&& 31)) = nI m
    rcases r_known_n (w := w) hk n with h | ⟨c, c1, c2⟩
    · exact ⟨m, h1, by rw [if_pos h]; exact h2⟩
    · rw [if_neg (by rw [c2]; exact nI_pos (by omega)), h2, c2]
      obtain ⟨g1, g2⟩ := z_bor5 ⟨m, h1⟩ ⟨c, c1⟩
      exact ⟨m ||| 2 ^ c, g2, g1⟩
section E3
variable {G : sm_G} {d : Nat} {I : sm_I} {ρ : sm_R} {tp : Nat} {q : tq4} {S : yS}
theorem s_csum {a nn : Nat} (ha : ρ.2.2.1 a = (100, nn)) (hn : nn < 1000) : sm_M G xX0_sum d [.ref a] I ρ (sm_Qe (some (.int (z_sum (fun k => I a k) nn))) I ρ) := by
  show sm_V G xX0_sum d 0 [.ref a, .retAddr 0, .retAddr 0] [] I ρ _
  refine wp_iconst (nI 0) 1 rfl dX0_sum_0 (by decide) ?_
  refine wp_istore1 2 rfl dX0_sum_1 (by decide) rfl ?_
  refine wp_iconst (nI 0) 3 rfl dX0_sum_2 (by decide) ?_
  refine wp_istore2 4 rfl dX0_sum_3 (by decide) rfl ?_
  refine sm_for (P := fun p => sm_V G xX0_sum d 4 [.ref a, .int (z_sum (fun k => I a k) p), .int (nI p)] [] I ρ _) 0 nn (Nat.zero_le _) ?_ (fun p _ hp ih => ?_)
  · refine wp_iload2 5 rfl dX0_sum_4 ?_
    refine wp_aload0 6 rfl dX0_sum_5 ?_
    refine wp_alen (t := 0) 7 rfl dX0_sum_6 rfl (ha) ?_
    refine wp_icmp_ge 10 22 rfl rfl dX0_sum_7 (fun c7 => ?_) (fun c7 => absurd (nI_le (Nat.le_refl _) (by omega)) c7)
    refine wp_iload1 23 rfl dX0_sum_22 ?_
    refine wp_iret dX0_sum_23 rfl ?_
    exact sm_ei rfl
  · refine wp_iload2 5 rfl dX0_sum_4 ?_
    refine wp_aload0 6 rfl dX0_sum_5 ?_
    refine wp_alen (t := 0) 7 rfl dX0_sum_6 rfl (ha) ?_
    refine wp_icmp_ge 10 22 rfl rfl dX0_sum_7 (fun c7 => absurd c7 (nI_ge hp (by omega))) (fun c7 => ?_)
    refine wp_iload1 11 rfl dX0_sum_10 ?_
    refine wp_aload0 12 rfl dX0_sum_11 ?_
    refine wp_iload2 13 rfl dX0_sum_12 ?_
    refine wp_iald 14 rfl dX0_sum_13 (ha) (p) (by first | rfl | simp only [pk_mul, nI_add]) (⟨hp, by omega⟩) ?_
    refine wp_iadd 15 rfl dX0_sum_14 ?_
    refine wp_istore1 16 rfl dX0_sum_15 (by decide) rfl ?_
    refine wp_iincN2 19 rfl dX0_sum_16 (by decide) rfl ?_
    refine wp_goto 4 rfl dX0_sum_19 ?_
    exact ih
theorem c_count (hZ : cZ I ρ tp q S) (what : Int32) : sm_M G xX0_count (d + 408) [.ref 64, .int what] I ρ (cPost I ρ (o_count S what)) := by
  obtain ⟨hA, hH, hD, hC, hTp, hpl⟩ := hZ
  obtain ⟨hK, hP, hT, hk, ⟨hw, hz⟩, hR⟩ := hA
  obtain ⟨h6, h5, h10⟩ := hk.1
  have ht := k_town hK
  show sm_V G xX0_count (d + 408) 0 [.ref 64, .int what, .retAddr 0, .retAddr 0, .retAddr 0, .retAddr 0, .retAddr 0] [] I ρ _
  refine wp_iconst (nI 0) 1 rfl dX0_count_0 (by decide) ?_
  refine wp_istore2 2 rfl dX0_count_1 (by decide) rfl ?_
  refine wp_iconst (nI 0) 3 rfl dX0_count_2 (by decide) ?_
  refine wp_istore3 4 rfl dX0_count_3 (by decide) rfl ?_
  refine wp_iconst (nI 0) 5 rfl dX0_count_4 (by decide) ?_
  refine wp_istore4 7 rfl dX0_count_5 (by decide) rfl ?_
  refine wp_iconst (nI 0) 8 rfl dX0_count_7 (by decide) ?_
  refine wp_istore5 10 rfl dX0_count_8 (by decide) rfl ?_
  refine sm_for (P := fun p => sm_V G xX0_count (d + 408) 10 [.ref 64, .int what, .int (z_set (fun i => ¬ r_known (y_T S) (y_w S) i < 0) p), .int (r_by (y_T S) (y_w S) p), .int (nI 0), .int (nI p), .retAddr 0] [] I ρ _) 0 (tx_D (y_T S)) (Nat.zero_le _) ?_ (fun p _ hp ih => ?_)
  · refine wp_iload5 12 rfl dX0_count_10 ?_
    refine wp_aload0 13 rfl dX0_count_12 ?_
    refine wp_Ve0 16 rfl dX0_count_13 kX0_doors lX0_159 (o1 hK) (nl rfl) (nl rfl) (s_doors hK hP hT) ?_
    refine wp_icmp_ge 19 72 rfl rfl dX0_count_16 (fun c16 => ?_) (fun c16 => absurd (nI_le (Nat.le_refl _) (by omega)) c16)
    refine wp_iload1 73 rfl dX0_count_72 ?_
    unfold o_count
    by_cases hX : ∃ k, k < 17 ∧ what = nI k
    · obtain ⟨kk, hk17, e⟩ := hX
      subst e
      rw [z_ix_n hk17 (by decide)]
      have k17 : kk = 0 ∨ kk = 1 ∨ kk = 2 ∨ kk = 3 ∨ kk = 4 ∨ kk = 5 ∨ kk = 6 ∨ kk = 7 ∨ kk = 8 ∨ kk = 9 ∨ kk = 10 ∨ kk = 11 ∨ kk = 12 ∨ kk = 13 ∨ kk = 14 ∨ kk = 15 ∨ kk = 16 := by omega
      rcases k17 with e | e | e | e | e | e | e | e | e | e | e | e | e | e | e | e | e
      · subst e
        refine wp_tableIn (off := 83) 156 dX0_count_73 (by decide) (by decide) (by decide) rfl ?_
        refine wp_aload0 157 rfl dX0_count_156 ?_
        refine wp_Ve0 160 rfl dX0_count_157 kX0_doors lX0_159 (o1 hK) (nl rfl) (nl rfl) (s_doors hK hP hT) ?_
        refine wp_iret dX0_count_160 rfl ?_
        exact sm_ci cq.rf rfl
      · subst e
        refine wp_tableIn (off := 88) 161 dX0_count_73 (by decide) (by decide) (by decide) rfl ?_
        refine wp_aload0 162 rfl dX0_count_161 ?_
        refine wp_Ve0 165 rfl dX0_count_162 kX0_callers lX0_165 (o1 hK) (nl rfl) (nl rfl) (s_callers hK hP hT) ?_
        refine wp_iret dX0_count_165 rfl ?_
        exact sm_ci cq.rf rfl
      · subst e
        refine wp_tableIn (off := 93) 166 dX0_count_73 (by decide) (by decide) (by decide) rfl ?_
        refine wp_aload0 167 rfl dX0_count_166 ?_
        refine wp_getr 170 rfl dX0_count_167 fX0_51_1 (o1 hK) (hP) ?_
        refine wp_getr 173 rfl dX0_count_170 fX0_167_5 (o5 hT) (p5_2 hT) ?_
        refine wp_Ve0 176 rfl dX0_count_173 kJ5_size lX0_150 (o18 (cT_r hT)) (nl rfl) (nl rfl) (s_size (cT_r hT)) ?_
        refine wp_iret dX0_count_176 rfl ?_
        exact sm_ci cq.rf rfl
      · subst e
        refine wp_tableIn (off := 104) 177 dX0_count_73 (by decide) (by decide) (by decide) rfl ?_
        refine wp_aload0 178 rfl dX0_count_177 ?_
        refine wp_getr 181 rfl dX0_count_178 fX0_62_1 (o1 hK) (p1_7 hK) ?_
        refine wp_geti 184 rfl dX0_count_181 fX0_241_6 (o6 (k_town hK)) ?_
        refine wp_iret dX0_count_184 rfl ?_
        exact sm_ci cq.rf hR.2.2.2.2.2.1
      · subst e
        refine wp_tableIn (off := 112) 185 dX0_count_73 (by decide) (by decide) (by decide) rfl ?_
        refine wp_iload2 186 rfl dX0_count_185 ?_
        refine wp_iret dX0_count_186 rfl ?_
        exact sm_ci cq.rf rfl
      · subst e
        show sm_V G xX0_count (d + 408) 73 _ _ I ρ (cPost I ρ (z_sum (fun k => y_w S (24 + k)) 6))
        refine wp_tableIn (off := 114) 187 dX0_count_73 (by decide) (by decide) (by decide) rfl ?_
        refine wp_aload0 188 rfl dX0_count_187 ?_
        refine wp_getr 191 rfl dX0_count_188 fX0_62_1 (o1 hK) (p1_7 hK) ?_
        refine wp_getr 194 rfl dX0_count_191 fX0_192_6 (o6 (k_town hK)) (p6_1 (k_town hK)) ?_
        refine wp_Se1 197 rfl dX0_count_194 kX0_sum lX0_327 (nl rfl) (nl rfl) (s_csum (s6_1 ht) (by decide)) ?_
        refine wp_iret dX0_count_197 rfl ?_
        refine sm_ci cq.rf ?_
        exact z_sum_congr (f := fun k => I (79 + 1 + 7) k) (g := fun k => y_w S (24 + k)) (fun i hi => (hR.2.1 i hi).1)
      · subst e
        show sm_V G xX0_count (d + 408) 73 _ _ I ρ (cPost I ρ (z_sum (fun k => y_w S (42 + k)) 6))
        refine wp_tableIn (off := 125) 198 dX0_count_73 (by decide) (by decide) (by decide) rfl ?_
        refine wp_aload0 199 rfl dX0_count_198 ?_
        refine wp_getr 202 rfl dX0_count_199 fX0_62_1 (o1 hK) (p1_7 hK) ?_
        refine wp_getr 205 rfl dX0_count_202 fX0_201_6 (o6 (k_town hK)) (p6_4 (k_town hK)) ?_
        refine wp_Se1 208 rfl dX0_count_205 kX0_sum lX0_327 (nl rfl) (nl rfl) (s_csum (s6_4 ht) (by decide)) ?_
        refine wp_iret dX0_count_208 rfl ?_
        refine sm_ci cq.rf ?_
        exact z_sum_congr (f := fun k => I (79 + 4 + 7) k) (g := fun k => y_w S (42 + k)) (fun i hi => (hR.2.1 i hi).2.2.2)
      · subst e
        refine wp_tableIn (off := 136) 209 dX0_count_73 (by decide) (by decide) (by decide) rfl ?_
        refine wp_aload0 210 rfl dX0_count_209 ?_
        refine wp_getr 213 rfl dX0_count_210 fX0_62_1 (o1 hK) (p1_7 hK) ?_
        refine wp_geti 216 rfl dX0_count_213 fX0_279_6 (o6 (k_town hK)) ?_
        refine wp_iret dX0_count_216 rfl ?_
        refine sm_ci cq.rf ?_
        exact hR.2.2.2.1.trans (z_kept_10 hw hz hk)
      · subst e
        refine wp_tableIn (off := 144) 217 dX0_count_73 (by decide) (by decide) (by decide) rfl ?_
        refine wp_aload0 218 rfl dX0_count_217 ?_
        refine wp_getr 221 rfl dX0_count_218 fX0_35_1 (o1 hK) (p1_1 hK) ?_
        refine wp_geti 224 rfl dX0_count_221 fX0_121_3 (o3 hK) ?_
        refine wp_iret dX0_count_224 rfl ?_
        exact sm_ci cq.rf hTp.1
      · subst e
        refine wp_tableIn (off := 152) 225 dX0_count_73 (by decide) (by decide) (by decide) rfl ?_
        refine wp_aload0 226 rfl dX0_count_225 ?_
        refine wp_geti 229 rfl dX0_count_226 fX0_136_1 (o1 hK) ?_
        refine wp_iret dX0_count_229 rfl ?_
        exact sm_ci cq.rf hH.1
      · subst e
        refine wp_tableIn (off := 157) 230 dX0_count_73 (by decide) (by decide) (by decide) rfl ?_
        refine wp_aload0 231 rfl dX0_count_230 ?_
        refine wp_geti 234 rfl dX0_count_231 fX0_139_1 (o1 hK) ?_
        refine wp_iret dX0_count_234 rfl ?_
        exact sm_ci cq.rf hD.1
      · subst e
        have hv : ∀ s, s < 3 → I 244 s = z_some (y_K S s) ∧ (z_some (y_K S s) = nI 0 ∨ z_some (y_K S s) = nI 1) := fun s hs => by
          cases hc : y_K S s with
          | none => exact ⟨(hC s hs).1 hc, Or.inl rfl⟩
          | some r => exact ⟨((hC s hs).2 r hc).1, Or.inr rfl⟩
        obtain ⟨v0, n0⟩ := hv 0 (by decide)
        obtain ⟨v1, n1⟩ := hv 1 (by decide)
        obtain ⟨v2, n2⟩ := hv 2 (by decide)
        show sm_V G xX0_count (d + 408) 73 _ _ I ρ (cPost I ρ (z_some (y_K S 0) + z_some (y_K S 1) + z_some (y_K S 2)))
        refine wp_tableIn (off := 162) 235 dX0_count_73 (by decide) (by decide) (by decide) rfl ?_
        refine wp_aload0 236 rfl dX0_count_235 ?_
        refine wp_getr 239 rfl dX0_count_236 fX0_92_1 (o1 hK) (p1_14 hK) ?_
        refine wp_iconst (nI 0) 240 rfl dX0_count_239 (by decide) ?_
        refine wp_zald 241 rfl dX0_count_240 (s1_14 hK) (0) (by first | rfl | simp only [pk_mul, nI_add]) (⟨by omega, by decide⟩) ?_
        rw [v0]
        have k1 : ∀ x : Int32, sm_V G xX0_count (d + 408) 249 [.ref 64, .int (nI 11), .int (z_set (fun i => ¬ r_known (y_T S) (y_w S) i < 0) (tx_D (y_T S))), .int (r_by (y_T S) (y_w S) (tx_D (y_T S))), .int (nI 0), .int (nI (tx_D (y_T S))), .retAddr 0] [.int x] I ρ (cPost I ρ (x + z_some (y_K S 1) + z_some (y_K S 2))) := by
          intro x
          have k2 : ∀ x : Int32, sm_V G xX0_count (d + 408) 264 [.ref 64, .int (nI 11), .int (z_set (fun i => ¬ r_known (y_T S) (y_w S) i < 0) (tx_D (y_T S))), .int (r_by (y_T S) (y_w S) (tx_D (y_T S))), .int (nI 0), .int (nI (tx_D (y_T S))), .retAddr 0] [.int x] I ρ (cPost I ρ (x + z_some (y_K S 2))) := by
            intro x
            refine wp_aload0 265 rfl dX0_count_264 ?_
            refine wp_getr 268 rfl dX0_count_265 fX0_92_1 (o1 hK) (p1_14 hK) ?_
            refine wp_iconst (nI 2) 269 rfl dX0_count_268 (by decide) ?_
            refine wp_zald 270 rfl dX0_count_269 (s1_14 hK) (2) (by first | rfl | simp only [pk_mul, nI_add]) (⟨by omega, by decide⟩) ?_
            rw [v2]
            rcases n2 with e | e
            · rw [e]
              refine wp_if_eq 273 277 rfl rfl dX0_count_270 (fun c270 => ?_) (fun c270 => absurd (rfl) c270)
              refine wp_iconst (nI 0) 278 rfl dX0_count_277 (by decide) ?_
              refine wp_iadd 279 rfl dX0_count_278 ?_
              refine wp_iret dX0_count_279 rfl ?_
              exact sm_ci cq.rf rfl
            · rw [e]
              refine wp_if_eq 273 277 rfl rfl dX0_count_270 (fun c270 => absurd c270 (by decide)) (fun c270 => ?_)
              refine wp_iconst (nI 1) 274 rfl dX0_count_273 (by decide) ?_
              refine wp_goto 278 rfl dX0_count_274 ?_
              refine wp_iadd 279 rfl dX0_count_278 ?_
              refine wp_iret dX0_count_279 rfl ?_
              exact sm_ci cq.rf rfl
          refine wp_aload0 250 rfl dX0_count_249 ?_
          refine wp_getr 253 rfl dX0_count_250 fX0_92_1 (o1 hK) (p1_14 hK) ?_
          refine wp_iconst (nI 1) 254 rfl dX0_count_253 (by decide) ?_
          refine wp_zald 255 rfl dX0_count_254 (s1_14 hK) (1) (by first | rfl | simp only [pk_mul, nI_add]) (⟨by omega, by decide⟩) ?_
          rw [v1]
          rcases n1 with e | e
          · rw [e]
            refine wp_if_eq 258 262 rfl rfl dX0_count_255 (fun c255 => ?_) (fun c255 => absurd (rfl) c255)
            refine wp_iconst (nI 0) 263 rfl dX0_count_262 (by decide) ?_
            refine wp_iadd 264 rfl dX0_count_263 ?_
            exact k2 _
          · rw [e]
            refine wp_if_eq 258 262 rfl rfl dX0_count_255 (fun c255 => absurd c255 (by decide)) (fun c255 => ?_)
            refine wp_iconst (nI 1) 259 rfl dX0_count_258 (by decide) ?_
            refine wp_goto 263 rfl dX0_count_259 ?_
            refine wp_iadd 264 rfl dX0_count_263 ?_
            exact k2 _
        rcases n0 with e | e
        · rw [e]
          refine wp_if_eq 244 248 rfl rfl dX0_count_241 (fun c241 => ?_) (fun c241 => absurd (rfl) c241)
          refine wp_iconst (nI 0) 249 rfl dX0_count_248 (by decide) ?_
          exact k1 _
        · rw [e]
          refine wp_if_eq 244 248 rfl rfl dX0_count_241 (fun c241 => absurd c241 (by decide)) (fun c241 => ?_)
          refine wp_iconst (nI 1) 245 rfl dX0_count_244 (by decide) ?_
          refine wp_goto 249 rfl dX0_count_245 ?_
          exact k1 _
      · subst e
        refine wp_tableIn (off := 207) 280 dX0_count_73 (by decide) (by decide) (by decide) rfl ?_
        refine wp_aload0 281 rfl dX0_count_280 ?_
        refine wp_getr 284 rfl dX0_count_281 fX0_62_1 (o1 hK) (p1_7 hK) ?_
        refine wp_aload0 285 rfl dX0_count_284 ?_
        refine wp_getr 288 rfl dX0_count_285 fX0_51_1 (o1 hK) (hP) ?_
        refine wp_Ve1 291 rfl dX0_count_288 kX5_isWind lX0_331 (o6 (k_town hK)) (nl rfl) (nl rfl) (s_cisWind ht hR hT) ?_
        refine wp_if_eq 294 298 rfl rfl dX0_count_291 (fun c291 => ?_) (fun c291 => ?_)
        · refine wp_iconst (nI 0) 299 rfl dX0_count_298 (by decide) ?_
          refine wp_iret dX0_count_299 rfl ?_
          exact sm_ci cq.rf (z_bf (z_b_eq.mp c291)).symm
        · refine wp_iconst (nI 1) 295 rfl dX0_count_294 (by decide) ?_
          refine wp_goto 299 rfl dX0_count_295 ?_
          refine wp_iret dX0_count_299 rfl ?_
          exact sm_ci cq.rf (z_bt (z_b_ne.mp c291)).symm
      · subst e
        refine wp_tableIn (off := 227) 300 dX0_count_73 (by decide) (by decide) (by decide) rfl ?_
        refine wp_iload3 301 rfl dX0_count_300 ?_
        refine wp_Se1 304 rfl dX0_count_301 kJ16_bitCount lX0_318 (nl rfl) (nl rfl) (s_bitCount _) ?_
        refine wp_iret dX0_count_304 rfl ?_
        refine sm_ci cq.rf ?_
        obtain ⟨m, m1, m2⟩ := r_by_n (w := y_w S) hk (tx_D (y_T S))
        show z_bct (r_by (y_T S) (y_w S) (tx_D (y_T S))) = z_bits (r_by (y_T S) (y_w S) (tx_D (y_T S)))
        rw [m2]
        exact z_bct_d ⟨m, by omega⟩
      · subst e
        show sm_V G xX0_count (d + 408) 73 _ _ I ρ (cPost I ρ (z_set (fun i => r_unf (y_T S) (y_w S) i = 0) (tx_D (y_T S))))
        refine wp_tableIn (off := 232) 305 dX0_count_73 (by decide) (by decide) (by decide) rfl ?_
        refine wp_iconst (nI 0) 306 rfl dX0_count_305 (by decide) ?_
        refine wp_istore5 308 rfl dX0_count_306 (by decide) rfl ?_
        refine sm_for (P := fun p => sm_V G xX0_count (d + 408) 308 [.ref 64, .int (nI 14), .int (z_set (fun i => ¬ r_known (y_T S) (y_w S) i < 0) (tx_D (y_T S))), .int (r_by (y_T S) (y_w S) (tx_D (y_T S))), .int (z_set (fun i => r_unf (y_T S) (y_w S) i = 0) p), .int (nI p), .retAddr 0] [] I ρ _) 0 (tx_D (y_T S)) (Nat.zero_le _) ?_ (fun p _ hp ih => ?_)
        · refine wp_iload5 310 rfl dX0_count_308 ?_
          refine wp_aload0 311 rfl dX0_count_310 ?_
          refine wp_Ve0 314 rfl dX0_count_311 kX0_doors lX0_159 (o1 hK) (nl rfl) (nl rfl) (s_doors hK hP hT) ?_
          refine wp_icmp_ge 317 349 rfl rfl dX0_count_314 (fun c314 => ?_) (fun c314 => absurd (nI_le (Nat.le_refl _) (by omega)) c314)
          refine wp_iload4 351 rfl dX0_count_349 ?_
          refine wp_iret dX0_count_351 rfl ?_
          exact sm_ci cq.rf rfl
        · have e1 : z_set (fun i => r_unf (y_T S) (y_w S) i = 0) (p + 1) = if r_unf (y_T S) (y_w S) p = 0 then z_set (fun i => r_unf (y_T S) (y_w S) i = 0) p ||| nI 1 <<< (nI p &&& 31) else z_set (fun i => r_unf (y_T S) (y_w S) i = 0) p := rfl
          rw [e1] at ih
          refine wp_iload5 310 rfl dX0_count_308 ?_
          refine wp_aload0 311 rfl dX0_count_310 ?_
          refine wp_Ve0 314 rfl dX0_count_311 kX0_doors lX0_159 (o1 hK) (nl rfl) (nl rfl) (s_doors hK hP hT) ?_
          refine wp_icmp_ge 317 349 rfl rfl dX0_count_314 (fun c314 => absurd c314 (nI_ge hp (by omega))) (fun c314 => ?_)
          refine wp_iload4 319 rfl dX0_count_317 ?_
          refine wp_aload0 320 rfl dX0_count_319 ?_
          refine wp_aload0 321 rfl dX0_count_320 ?_
          refine wp_getr 324 rfl dX0_count_321 fX0_62_1 (o1 hK) (p1_7 hK) ?_
          refine wp_iload5 326 rfl dX0_count_324 ?_
          refine wp_Ve2 329 rfl dX0_count_326 kX0_worn lX0_208 (o1 hK) (nl rfl) (nl rfl) (s_worn hK hP hT hk ht hR hw hp) ?_
          refine wp_if_ne 332 339 rfl rfl dX0_count_329 (fun c329 => ?_) (fun c329 => ?_)
          · rw [if_neg c329] at ih
            refine wp_iconst (nI 0) 340 rfl dX0_count_339 (by decide) ?_
            refine wp_ior 341 rfl dX0_count_340 ?_
            rw [i_or0]
            refine wp_istore4 343 rfl dX0_count_341 (by decide) rfl ?_
            refine wp_iincN5 346 rfl dX0_count_343 (by decide) rfl ?_
            refine wp_goto 308 rfl dX0_count_346 ?_
            exact ih
          · rw [if_pos c329] at ih
            refine wp_iconst (nI 1) 333 rfl dX0_count_332 (by decide) ?_
            refine wp_iload5 335 rfl dX0_count_333 ?_
            refine wp_ishl 336 rfl dX0_count_335 ?_
            refine wp_goto 340 rfl dX0_count_336 ?_
            refine wp_ior 341 rfl dX0_count_340 ?_
            refine wp_istore4 343 rfl dX0_count_341 (by decide) rfl ?_
            refine wp_iincN5 346 rfl dX0_count_343 (by decide) rfl ?_
            refine wp_goto 308 rfl dX0_count_346 ?_
            exact ih
      · subst e
        show sm_V G xX0_count (d + 408) 73 _ _ I ρ (cPost I ρ (z_set (fun i => ¬ y_w S (30 + i) ≤ 0) (tx_D (y_T S))))
        refine wp_tableIn (off := 279) 352 dX0_count_73 (by decide) (by decide) (by decide) rfl ?_
        refine wp_iconst (nI 0) 353 rfl dX0_count_352 (by decide) ?_
        refine wp_istore5 355 rfl dX0_count_353 (by decide) rfl ?_
        refine sm_for (P := fun p => sm_V G xX0_count (d + 408) 355 [.ref 64, .int (nI 15), .int (z_set (fun i => ¬ r_known (y_T S) (y_w S) i < 0) (tx_D (y_T S))), .int (r_by (y_T S) (y_w S) (tx_D (y_T S))), .int (z_set (fun i => ¬ y_w S (30 + i) ≤ 0) p), .int (nI p), .retAddr 0] [] I ρ _) 0 (tx_D (y_T S)) (Nat.zero_le _) ?_ (fun p _ hp ih => ?_)
        · refine wp_iload5 357 rfl dX0_count_355 ?_
          refine wp_aload0 358 rfl dX0_count_357 ?_
          refine wp_Ve0 361 rfl dX0_count_358 kX0_doors lX0_159 (o1 hK) (nl rfl) (nl rfl) (s_doors hK hP hT) ?_
          refine wp_icmp_ge 364 396 rfl rfl dX0_count_361 (fun c361 => ?_) (fun c361 => absurd (nI_le (Nat.le_refl _) (by omega)) c361)
          refine wp_iload4 398 rfl dX0_count_396 ?_
          refine wp_iret dX0_count_398 rfl ?_
          exact sm_ci cq.rf rfl
        · have e1 : z_set (fun i => ¬ y_w S (30 + i) ≤ 0) (p + 1) = if ¬ y_w S (30 + p) ≤ 0 then z_set (fun i => ¬ y_w S (30 + i) ≤ 0) p ||| nI 1 <<< (nI p &&& 31) else z_set (fun i => ¬ y_w S (30 + i) ≤ 0) p := rfl
          rw [e1] at ih
          have r1 := (hR.2.1 p (by omega)).2.1
          refine wp_iload5 357 rfl dX0_count_355 ?_
          refine wp_aload0 358 rfl dX0_count_357 ?_
          refine wp_Ve0 361 rfl dX0_count_358 kX0_doors lX0_159 (o1 hK) (nl rfl) (nl rfl) (s_doors hK hP hT) ?_
          refine wp_icmp_ge 364 396 rfl rfl dX0_count_361 (fun c361 => absurd c361 (nI_ge hp (by omega))) (fun c361 => ?_)
          refine wp_iload4 366 rfl dX0_count_364 ?_
          refine wp_aload0 367 rfl dX0_count_366 ?_
          refine wp_getr 370 rfl dX0_count_367 fX0_62_1 (o1 hK) (p1_7 hK) ?_
          refine wp_getr 373 rfl dX0_count_370 fX0_195_6 (o6 (k_town hK)) (p6_2 (k_town hK)) ?_
          refine wp_iload5 375 rfl dX0_count_373 ?_
          refine wp_iald 376 rfl dX0_count_375 (s6_2 (k_town hK)) (p) (by first | rfl | simp only [pk_mul, nI_add]) (⟨by omega, by decide⟩) ?_
          rw [r1]
          refine wp_if_le 379 386 rfl rfl dX0_count_376 (fun c376 => ?_) (fun c376 => ?_)
          · rw [if_neg (fun z => z c376)] at ih
            refine wp_iconst (nI 0) 387 rfl dX0_count_386 (by decide) ?_
            refine wp_ior 388 rfl dX0_count_387 ?_
            rw [i_or0]
            refine wp_istore4 390 rfl dX0_count_388 (by decide) rfl ?_
            refine wp_iincN5 393 rfl dX0_count_390 (by decide) rfl ?_
            refine wp_goto 355 rfl dX0_count_393 ?_
            exact ih
          · rw [if_pos c376] at ih
            refine wp_iconst (nI 1) 380 rfl dX0_count_379 (by decide) ?_
            refine wp_iload5 382 rfl dX0_count_380 ?_
            refine wp_ishl 383 rfl dX0_count_382 ?_
            refine wp_goto 387 rfl dX0_count_383 ?_
            refine wp_ior 388 rfl dX0_count_387 ?_
            refine wp_istore4 390 rfl dX0_count_388 (by decide) rfl ?_
            refine wp_iincN5 393 rfl dX0_count_390 (by decide) rfl ?_
            refine wp_goto 355 rfl dX0_count_393 ?_
            exact ih
      · subst e
        show sm_V G xX0_count (d + 408) 73 _ _ I ρ (cPost I ρ (z_sum (fun k => y_w S (36 + k)) 6))
        refine wp_tableIn (off := 326) 399 dX0_count_73 (by decide) (by decide) (by decide) rfl ?_
        refine wp_aload0 400 rfl dX0_count_399 ?_
        refine wp_getr 403 rfl dX0_count_400 fX0_62_1 (o1 hK) (p1_7 hK) ?_
        refine wp_getr 406 rfl dX0_count_403 fX0_198_6 (o6 (k_town hK)) (p6_3 (k_town hK)) ?_
        refine wp_Se1 409 rfl dX0_count_406 kX0_sum lX0_327 (nl rfl) (nl rfl) (s_csum (s6_3 ht) (by decide)) ?_
        refine wp_iret dX0_count_409 rfl ?_
        refine sm_ci cq.rf ?_
        exact z_sum_congr (f := fun k => I (79 + 3 + 7) k) (g := fun k => y_w S (36 + k)) (fun i hi => (hR.2.1 i hi).2.2.1)
    · rw [z_ix_no (by decide) hX]
      have ho := z_nix (by decide) hX
      refine wp_tableOut 410 dX0_count_73 (by omega) rfl ?_
      refine wp_iconst (-1) 411 rfl dX0_count_410 (by decide) ?_
      refine wp_iret dX0_count_411 rfl ?_
      exact sm_ci cq.rf rfl
  · have e1 : z_set (fun i => ¬ r_known (y_T S) (y_w S) i < 0) (p + 1) = if ¬ r_known (y_T S) (y_w S) p < 0 then z_set (fun i => ¬ r_known (y_T S) (y_w S) i < 0) p ||| nI 1 <<< (nI p &&& 31) else z_set (fun i => ¬ r_known (y_T S) (y_w S) i < 0) p := rfl
    have e2 : r_by (y_T S) (y_w S) (p + 1) = if r_known (y_T S) (y_w S) p < 0 then r_by (y_T S) (y_w S) p else r_by (y_T S) (y_w S) p ||| nI 1 <<< (r_known (y_T S) (y_w S) p &&& 31) := rfl
    rw [e1, e2] at ih
    refine wp_iload5 12 rfl dX0_count_10 ?_
    refine wp_aload0 13 rfl dX0_count_12 ?_
    refine wp_Ve0 16 rfl dX0_count_13 kX0_doors lX0_159 (o1 hK) (nl rfl) (nl rfl) (s_doors hK hP hT) ?_
    refine wp_icmp_ge 19 72 rfl rfl dX0_count_16 (fun c16 => absurd c16 (nI_ge hp (by omega))) (fun c16 => ?_)
    refine wp_aload0 20 rfl dX0_count_19 ?_
    refine wp_getr 23 rfl dX0_count_20 fX0_62_1 (o1 hK) (p1_7 hK) ?_
    refine wp_aload0 24 rfl dX0_count_23 ?_
    refine wp_getr 27 rfl dX0_count_24 fX0_51_1 (o1 hK) (hP) ?_
    refine wp_iload5 29 rfl dX0_count_27 ?_
    refine wp_Ve2 32 rfl dX0_count_29 kX5_known lX0_204 (o6 (k_town hK)) (nl rfl) (nl rfl) (s_known' ht hR hw hT hk (by omega)) ?_
    refine wp_istore6 34 rfl dX0_count_32 (by decide) rfl ?_
    refine wp_iload2 35 rfl dX0_count_34 ?_
    refine wp_iload6 37 rfl dX0_count_35 ?_
    by_cases hn : r_known (y_T S) (y_w S) p < 0
    · rw [if_neg (fun z => z hn), if_pos hn] at ih
      refine wp_if_ge 40 44 rfl rfl dX0_count_37 (fun c37 => absurd c37 (fun z => i_lt_le z hn)) (fun c37 => ?_)
      refine wp_iconst (nI 0) 41 rfl dX0_count_40 (by decide) ?_
      refine wp_goto 48 rfl dX0_count_41 ?_
      refine wp_ior 49 rfl dX0_count_48 ?_
      rw [i_or0]
      refine wp_istore2 50 rfl dX0_count_49 (by decide) rfl ?_
      refine wp_iload3 51 rfl dX0_count_50 ?_
      refine wp_iload6 53 rfl dX0_count_51 ?_
      refine wp_if_ge 56 60 rfl rfl dX0_count_53 (fun c53 => absurd c53 (fun z => i_lt_le z hn)) (fun c53 => ?_)
      refine wp_iconst (nI 0) 57 rfl dX0_count_56 (by decide) ?_
      refine wp_goto 64 rfl dX0_count_57 ?_
      refine wp_ior 65 rfl dX0_count_64 ?_
      rw [i_or0]
      refine wp_istore3 66 rfl dX0_count_65 (by decide) rfl ?_
      refine wp_iincN5 69 rfl dX0_count_66 (by decide) rfl ?_
      refine wp_goto 10 rfl dX0_count_69 ?_
      exact wp_weakK ih ⟨Or.inr rfl, Or.inr rfl, Or.inr rfl, Or.inr rfl, Or.inr rfl, Or.inr rfl, Or.inl rfl, trivial⟩
    · rw [if_pos hn, if_neg hn] at ih
      refine wp_if_ge 40 44 rfl rfl dX0_count_37 (fun c37 => ?_) (fun c37 => absurd (i_nlt hn) c37)
      refine wp_iconst (nI 1) 45 rfl dX0_count_44 (by decide) ?_
      refine wp_iload5 47 rfl dX0_count_45 ?_
      refine wp_ishl 48 rfl dX0_count_47 ?_
      refine wp_ior 49 rfl dX0_count_48 ?_
      refine wp_istore2 50 rfl dX0_count_49 (by decide) rfl ?_
      refine wp_iload3 51 rfl dX0_count_50 ?_
      refine wp_iload6 53 rfl dX0_count_51 ?_
      refine wp_if_ge 56 60 rfl rfl dX0_count_53 (fun c53 => ?_) (fun c53 => absurd (i_nlt hn) c53)
      refine wp_iconst (nI 1) 61 rfl dX0_count_60 (by decide) ?_
      refine wp_iload6 63 rfl dX0_count_61 ?_
      refine wp_ishl 64 rfl dX0_count_63 ?_
      refine wp_ior 65 rfl dX0_count_64 ?_
      refine wp_istore3 66 rfl dX0_count_65 (by decide) rfl ?_
      refine wp_iincN5 69 rfl dX0_count_66 (by decide) rfl ?_
      refine wp_goto 10 rfl dX0_count_69 ?_
      exact wp_weakK ih ⟨Or.inr rfl, Or.inr rfl, Or.inr rfl, Or.inr rfl, Or.inr rfl, Or.inr rfl, Or.inl rfl, trivial⟩
end E3
