/-! ===== towns: what they hold; leaves of the component ===== -/
set_option maxRecDepth 100000
/-- nothing else has changed -/
def cf (W : List Nat) (I I1 : sm_I) : Prop := ∀ a, a ∉ W → I1 a = I a
theorem cf.rf {W : List Nat} {I : sm_I} : cf W I I := fun _ _ => rfl
theorem cf.tr {W : List Nat} {I I1 I2 : sm_I} (h : cf W I I1) (h2 : cf W I1 I2) : cf W I I2 := fun a ha => (h2 a ha).trans (h a ha)
theorem cf.wk {W W' : List Nat} {I I1 : sm_I} (h : cf W I I1) (hw : ∀ a ∈ W, a ∈ W') : cf W' I I1 := fun a ha => h a (fun q => ha (hw a q))
theorem cf.u {W : List Nat} {I : sm_I} {a k : Nat} {v : Int32} (ha : a ∈ W) : cf W I (sm_u I a k v) := fun b hb => sm_u_ne I k v (fun e => hb (by rw [e]; exact ha))
/-- cells of towns and the like -/
def tW (W : List Nat) : Prop := ∀ a ∈ W, 79 ≤ a ∧ a < 943
theorem cf.T {W : List Nat} {I I1 : sm_I} (h : cf W I I1) (hw : tW W) : ∀ a, tA a → I1 a = I a := fun a ha => h a (fun q => by
  have := hw a q
  unfold tA at ha
  omega)
/-- numbers of a row -/
def wok (w : Nat → Int32) : Prop := (∀ j, j < 24 → ∃ f, f ≤ 99 ∧ w j = nI f) ∧ (∀ d, d < 6 → (∃ f, f ≤ 999 ∧ w (30 + d) = nI f) ∧ (∃ f, f ≤ 999999 ∧ w (42 + d) = nI f) ∧ (w (48 + d) = nI 0 ∨ w (48 + d) = nI 1)) ∧ (∀ r, r < 10 → w (54 + r) = nI 0 ∨ w (54 + r) = nI 1) ∧ w70 w
/-- a town holds a row, and a seed -/
def tR (I : sm_I) (b : Nat) (w : Nat → Int32) (s : Int32) : Prop := (∀ d k, d < 6 → k < 4 → I (b + 2 + d) k = w (4 * d + k)) ∧ (∀ d, d < 6 → I (b + 8) d = w (24 + d) ∧ I (b + 9) d = w (30 + d) ∧ I (b + 10) d = w (36 + d) ∧ I (b + 11) d = w (42 + d)) ∧ (∀ c, c < 5 → I (b + 12) c = w (64 + c)) ∧
  I b 6 = z_set (fun r => w (54 + r) = nI 1) 10 ∧ I b 7 = z_set (fun d => w (48 + d) = nI 1) 6 ∧ I b 8 = w 69 ∧ I b 9 = s
theorem tR.kept {W : List Nat} {I I1 : sm_I} {b : Nat} {w : Nat → Int32} {s : Int32} (h : tR I b w s) (hf : cf W I I1) (hW : ∀ a, b ≤ a → a ≤ b + 12 → a ∉ W) : tR I1 b w s := by
  have e : ∀ k, k ≤ 12 → I1 (b + k) = I (b + k) := fun k hk => hf _ (hW _ (by omega) (by omega))
  have e0 : I1 b = I b := hf _ (hW _ (by omega) (by omega))
  obtain ⟨h1, h2, h3, h4⟩ := h
  refine ⟨fun d k hd hk => ?_, fun d hd => ?_, fun c hc => ?_, ?_⟩
  · rw [show b + 2 + d = b + (2 + d) by omega, e _ (by omega), show b + (2 + d) = b + 2 + d by omega]
    exact h1 d k hd hk
  · rw [e 8 (by omega), e 9 (by omega), e 10 (by omega), e 11 (by omega)]
    exact h2 d hd
  · rw [e 12 (by omega)]
    exact h3 c hc
  · rw [e0]
    exact h4
theorem i_min_within (v : Int32) (m : Nat) (hm : m < 1000000) : z_min (nI m) (z_max (nI 0) v) = z_within v (nI 0) (nI m) := by
  have e0 : (nI 0).toInt = 0 := by decide
  have em := nI_toInt (n := m) (by omega)
  unfold z_within z_min z_max
  by_cases h0 : nI 0 < v
  · rw [if_pos h0]
    have h1 : ¬ v < nI 0 := by
      rw [Int32.lt_iff_toInt_lt] at h0 ⊢
      omega
    rw [if_neg h1]
    by_cases h2 : v < nI m
    · have h3 : ¬ nI m < v := by
        rw [Int32.lt_iff_toInt_lt] at h2 ⊢
        omega
      rw [if_pos h2, if_neg h3]
    · rw [if_neg h2]
      by_cases h3 : nI m < v
      · rw [if_pos h3]
      · rw [if_neg h3]
        apply Int32.toInt_inj.mp
        rw [Int32.lt_iff_toInt_lt] at h2 h3
        omega
  · rw [if_neg h0]
    by_cases h1 : v < nI 0
    · rw [if_pos h1]
      by_cases h2 : nI 0 < nI m
      · rw [if_pos h2]
      · rw [if_neg h2]
        apply Int32.toInt_inj.mp
        rw [Int32.lt_iff_toInt_lt] at h2
        omega
    · have ev : v = nI 0 := by
        apply Int32.toInt_inj.mp
        rw [Int32.lt_iff_toInt_lt] at h0 h1
        omega
      rw [if_neg h1, ev]
      by_cases h2 : nI 0 < nI m
      · have h3 : ¬ nI m < nI 0 := by
          rw [Int32.lt_iff_toInt_lt] at h2 ⊢
          omega
        rw [if_pos h2, if_neg h3]
      · rw [if_neg h2]
        by_cases h3 : nI m < nI 0
        · rw [if_pos h3]
        · rw [if_neg h3]
          apply Int32.toInt_inj.mp
          rw [Int32.lt_iff_toInt_lt] at h2 h3
          omega
theorem i_min_plain (k m : Nat) (hm : m < 1000000) (hk : k < 1000000) : z_min (nI m) (nI k) = z_within (nI k) (nI 0) (nI m) := by
  have h := i_min_within (nI k) m hm
  have e : z_max (nI 0) (nI k) = nI k := by
    by_cases h0 : nI 0 < nI k
    · exact if_pos h0
    · refine (if_neg h0).trans ?_
      have e0 : (nI 0).toInt = 0 := by decide
      have ek := nI_toInt (n := k) (by omega)
      apply Int32.toInt_inj.mp
      rw [Int32.lt_iff_toInt_lt] at h0
      omega
  rw [e] at h
  exact h
theorem z_within_n (v : Int32) {m : Nat} (hm : m < 1000000) : ∃ g, g ≤ m ∧ z_within v (nI 0) (nI m) = nI g := by
  unfold z_within
  by_cases h1 : v < nI 0
  · exact ⟨0, Nat.zero_le _, if_pos h1⟩
  · rw [if_neg h1]
    by_cases h2 : nI m < v
    · exact ⟨m, Nat.le_refl _, if_pos h2⟩
    · rw [if_neg h2]
      obtain ⟨j, hj, e⟩ := nI_of2 (x := v) (M := nI m) (n := m) (nI_toInt (by omega)) h1 (i_nlt h2)
      exact ⟨j, hj, e⟩
/-- by whom a door is known, as the component finds it -/
def c_kn (u : Nat → Int32) : Nat → Int32 × Int32
  | 0 => (-2, 1000000)
  | c + 1 => if (c_kn u c).2 ≤ u c then c_kn u c else (nI c, u c)
theorem c_kn_z (u : Nat → Int32) (nr : Int32) (hnr : nr < 1000000) : ∀ n, n ≤ 100 → ((c_kn u n).2 ≤ nr ∧ z_kn u nr n = c_kn u n ∧ ¬ (c_kn u n).1 < 0) ∨ (nr < (c_kn u n).2 ∧ (z_kn u nr n).1 = -2)
  | 0, _ => Or.inr ⟨hnr, rfl⟩
  | n + 1, hn => by
    have ih := c_kn_z u nr hnr n (by omega)
    have e1 : c_kn u (n + 1) = if (c_kn u n).2 ≤ u n then c_kn u n else (nI n, u n) := rfl
    have e2 : z_kn u nr (n + 1) = if nr < u n then z_kn u nr n else if (z_kn u nr n).1 < 0 then (nI n, u n) else if u n < (z_kn u nr n).2 then (nI n, u n) else z_kn u nr n := rfl
    have pn : ¬ nI n < 0 := nI_pos (by omega)
    rcases ih with ⟨h1, h2, h3⟩ | ⟨h1, h2⟩
    · left
      rw [h2] at e2
      by_cases hc : (c_kn u n).2 ≤ u n
      · rw [if_pos hc] at e1
        have k1 : ¬ u n < (c_kn u n).2 := i_lt_le hc
        refine ⟨by rw [e1]; exact h1, ?_, by rw [e1]; exact h3⟩
        rw [e1, e2]
        by_cases hx : nr < u n
        · rw [if_pos hx]
        · rw [if_neg hx, if_neg h3, if_neg k1]
      · rw [if_neg hc] at e1
        have k1 : u n < (c_kn u n).2 := i_nle hc
        have k2 : ¬ nr < u n := by
          rw [Int32.lt_iff_toInt_lt] at k1 ⊢
          rw [Int32.le_iff_toInt_le] at h1
          omega
        refine ⟨by rw [e1]; exact i_nlt k2, ?_, by rw [e1]; exact pn⟩
        rw [e1, e2, if_neg k2, if_neg h3, if_pos k1]
    · by_cases hc : (c_kn u n).2 ≤ u n
      · right
        rw [if_pos hc] at e1
        have k2 : nr < u n := by
          rw [Int32.lt_iff_toInt_lt] at h1 ⊢
          rw [Int32.le_iff_toInt_le] at hc
          omega
        refine ⟨by rw [e1]; exact h1, ?_⟩
        rw [e2, if_pos k2]
        exact h2
      · rw [if_neg hc] at e1
        by_cases hx : nr < u n
        · right
          refine ⟨by rw [e1]; exact hx, ?_⟩
          rw [e2, if_pos hx]
          exact h2
        · left
          refine ⟨by rw [e1]; exact i_nlt hx, ?_, by rw [e1]; exact pn⟩
          rw [e1, e2, if_neg hx, if_pos (by rw [h2]; decide)]
theorem c_kn_1 (u : Nat → Int32) (nr : Int32) (hnr : nr < 1000000) {n : Nat} (hn : n ≤ 100) : (if nr < (c_kn u n).2 then -2 else (c_kn u n).1) = (z_kn u nr n).1 := by
  rcases c_kn_z u nr hnr n hn with ⟨h1, h2, -⟩ | ⟨h1, h2⟩
  · rw [if_neg (i_lt_le h1), h2]
  · rw [if_pos h1, h2]
section C3
variable {G : sm_G} {d : Nat} {I : sm_I} {ρ : sm_R} {tp : Nat} {q : tq4} {T : tx}
theorem o15 {a : Nat} {B : Prop} (h : ρ.2.2.1 a = (15, 0) ∧ B) : ρ.2.2.1 a = (15, 0) := h.1
theorem p15_1 {a f : Nat} {B C : Prop} (h : C ∧ ρ.2.1 a 1 = some f ∧ B) : ρ.2.1 a 1 = some f := h.2.1
theorem s15_1 {f : Nat} {A B C D : Prop} (h : A ∧ B ∧ (ρ.2.2.1 f = (100, 4) ∧ C) ∧ D) : ρ.2.2.1 f = (100, 4) := h.2.2.1.1
theorem o16 {a : Nat} {B : Prop} (h : ρ.2.2.1 a = (16, 0) ∧ B) : ρ.2.2.1 a = (16, 0) := h.1
theorem p16_1 {a f : Nat} {B C : Prop} (h : C ∧ ρ.2.1 a 1 = some f ∧ B) : ρ.2.1 a 1 = some f := h.2.1
theorem s16_1 {f : Nat} {A B C D : Prop} (h : A ∧ B ∧ (ρ.2.2.1 f = (100, 4) ∧ C) ∧ D) : ρ.2.2.1 f = (100, 4) := h.2.2.1.1
theorem o17 {a : Nat} {A B : Prop} (h : (ρ.2.2.1 a = (17, 0) ∧ A) ∧ B) : ρ.2.2.1 a = (17, 0) := h.1.1
theorem s_unlikeOf {a b : Nat} (ha : ρ.2.2.1 a = (100, 4)) (hb : ρ.2.2.1 b = (100, 4)) (hf : ∀ p, p < 4 → ∃ f, f ≤ 99 ∧ I a p = nI f) (hg : ∀ p, p < 4 → ∃ f, f ≤ 99 ∧ I b p = nI f) : sm_M G xX0_unlikeOf (d + 1) [.ref a, .ref b] I ρ (sm_Qe (some (.int (z_sum (fun p => z_off (I a p) (I b p)) 4))) I ρ) := by
  show sm_V G xX0_unlikeOf (d + 1) 0 [.ref a, .ref b, .retAddr 0, .retAddr 0] [] I ρ _
  refine wp_iconst (nI 0) 1 rfl dX0_unlikeOf_0 (by decide) ?_
  refine wp_istore2 2 rfl dX0_unlikeOf_1 (by decide) rfl ?_
  refine wp_iconst (nI 0) 3 rfl dX0_unlikeOf_2 (by decide) ?_
  refine wp_istore3 4 rfl dX0_unlikeOf_3 (by decide) rfl ?_
  refine sm_for (P := fun p => sm_V G xX0_unlikeOf (d + 1) 4 [.ref a, .ref b, .int (z_sum (fun p => z_off (I a p) (I b p)) p), .int (nI p)] [] I ρ _) 0 4 (nl rfl) ?_ (fun p _ hp ih => ?_)
  · refine wp_iload3 5 rfl dX0_unlikeOf_4 ?_
    refine wp_iconst (nI 4) 6 rfl dX0_unlikeOf_5 (by decide) ?_
    refine wp_icmp_ge 9 28 rfl rfl dX0_unlikeOf_6 (fun c6 => ?_) (fun c6 => absurd (nI_le (Nat.le_refl 4) (by decide)) c6)
    refine wp_iload2 29 rfl dX0_unlikeOf_28 ?_
    refine wp_iret dX0_unlikeOf_29 rfl ?_
    exact sm_ei rfl
  · obtain ⟨f, hf1, hf2⟩ := hf p hp
    obtain ⟨g, hg1, hg2⟩ := hg p hp
    have e : z_abs (I a p - I b p) = z_off (I a p) (I b p) := by
      rw [hf2, hg2]
      exact z_abs_off (by omega) (by omega)
    refine wp_iload3 5 rfl dX0_unlikeOf_4 ?_
    refine wp_iconst (nI 4) 6 rfl dX0_unlikeOf_5 (by decide) ?_
    refine wp_icmp_ge 9 28 rfl rfl dX0_unlikeOf_6 (fun c6 => absurd c6 (nI_ge hp (by decide))) (fun c6 => ?_)
    refine wp_iload2 10 rfl dX0_unlikeOf_9 ?_
    refine wp_aload0 11 rfl dX0_unlikeOf_10 ?_
    refine wp_iload3 12 rfl dX0_unlikeOf_11 ?_
    refine wp_iald 13 rfl dX0_unlikeOf_12 (ha) (p) (by first | rfl | simp only [pk_mul, nI_add]) (⟨by omega, by decide⟩) ?_
    refine wp_aload1 14 rfl dX0_unlikeOf_13 ?_
    refine wp_iload3 15 rfl dX0_unlikeOf_14 ?_
    refine wp_iald 16 rfl dX0_unlikeOf_15 (hb) (p) (by first | rfl | simp only [pk_mul, nI_add]) (⟨by omega, by decide⟩) ?_
    refine wp_isub 17 rfl dX0_unlikeOf_16 ?_
    refine wp_mabs 20 rfl dX0_unlikeOf_17 q1162 (nl rfl) ?_
    show sm_V G xX0_unlikeOf (d + 1) 20 _ (.int (z_abs (I a p - I b p)) :: _) I ρ _
    rw [e]
    refine wp_iadd 21 rfl dX0_unlikeOf_20 ?_
    refine wp_istore2 22 rfl dX0_unlikeOf_21 (by decide) rfl ?_
    refine wp_iincN3 25 rfl dX0_unlikeOf_22 (by decide) rfl ?_
    refine wp_goto 4 rfl dX0_unlikeOf_25 ?_
    exact ih
theorem s_ctow (v t m : Int32) : sm_M G xX0_towardsBy (d + 1) [.int v, .int t, .int m] I ρ (sm_Qe (some (.int (v + z_sgn (t - v) * m))) I ρ) := by
  show sm_V G xX0_towardsBy (d + 1) 0 [.int v, .int t, .int m] [] I ρ _
  refine wp_iload0 1 rfl dX0_towardsBy_0 ?_
  refine wp_iload1 2 rfl dX0_towardsBy_1 ?_
  refine wp_iload0 3 rfl dX0_towardsBy_2 ?_
  refine wp_isub 4 rfl dX0_towardsBy_3 ?_
  refine wp_Se1 7 rfl dX0_towardsBy_4 kJ16_signum lX0_14 (nl rfl) (nl rfl) (s_signum _) ?_
  refine wp_iload2 8 rfl dX0_towardsBy_7 ?_
  refine wp_imul 9 rfl dX0_towardsBy_8 ?_
  refine wp_iadd 10 rfl dX0_towardsBy_9 ?_
  refine wp_iret dX0_towardsBy_10 rfl ?_
  exact sm_ei rfl
theorem s_cmix (h v : Int32) : sm_M G xX0_mixed d [.int h, .int v] I ρ (sm_Qe (some (.int (z_mix h v))) I ρ) := by
  show sm_V G xX0_mixed d 0 [.int h, .int v, .retAddr 0] [] I ρ _
  refine wp_iload0 1 rfl dX0_mixed_0 ?_
  refine wp_iload1 2 rfl dX0_mixed_1 ?_
  refine wp_ixor 3 rfl dX0_mixed_2 ?_
  refine wp_ldc 5 rfl dX0_mixed_3 q1332 ?_
  refine wp_imul 6 rfl dX0_mixed_5 ?_
  refine wp_sipush (nI 12345) 9 rfl dX0_mixed_6 (by decide) ?_
  refine wp_iadd 10 rfl dX0_mixed_9 ?_
  refine wp_istore2 11 rfl dX0_mixed_10 (by decide) rfl ?_
  refine wp_iload2 12 rfl dX0_mixed_11 ?_
  refine wp_iload2 13 rfl dX0_mixed_12 ?_
  refine wp_bipush (nI 15) 15 rfl dX0_mixed_13 (by decide) ?_
  refine wp_iushr 16 rfl dX0_mixed_15 ?_
  refine wp_ixor 17 rfl dX0_mixed_16 ?_
  refine wp_iret dX0_mixed_17 rfl ?_
  exact sm_ei rfl
theorem s_lot (s w n : Int32) (hn : ¬ n = 0) : sm_M G xX0_lot (d + 1) [.int s, .int w, .int n] I ρ (sm_Qe (some (.int (z_lot s w n))) I ρ) := by
  show sm_V G xX0_lot (d + 1) 0 [.int s, .int w, .int n] [] I ρ _
  refine wp_iload0 1 rfl dX0_lot_0 ?_
  refine wp_sipush (nI 151) 4 rfl dX0_lot_1 (by decide) ?_
  refine wp_Se2 7 rfl dX0_lot_4 kX0_mixed lX0_2 (nl rfl) (nl rfl) (s_cmix _ _) ?_
  refine wp_iload1 8 rfl dX0_lot_7 ?_
  refine wp_Se2 11 rfl dX0_lot_8 kX0_mixed lX0_2 (nl rfl) (nl rfl) (s_cmix _ _) ?_
  refine wp_iconst (nI 1) 12 rfl dX0_lot_11 (by decide) ?_
  refine wp_iushr 13 rfl dX0_lot_12 ?_
  refine wp_iload2 14 rfl dX0_lot_13 ?_
  refine wp_irem 15 rfl dX0_lot_14 (hn) ?_
  refine wp_iret dX0_lot_15 rfl ?_
  exact sm_ei rfl
theorem s_tunlike {b : Nat} (ht : td ρ b) {w : Nat → Int32} {s : Int32} (hR : tR I b w s) (hw : wok w) (hT : cT I ρ tp q T) (hk : tok T) {dd c : Nat} (hd : dd < 6) (hc : c < tx_C T) : sm_M G xX5_unlike (d + 3) [.ref b, .ref tp, .int (nI dd), .int (nI c)] I ρ (sm_Qe (some (.int (r_unl T w dd c))) I ρ) := by
  show sm_V G xX5_unlike (d + 3) 0 [.ref b, .ref tp, .int (nI dd), .int (nI c)] [] I ρ _
  have hC := cT_c hT
  have hF := cT_cf hT hc
  refine wp_aload0 1 rfl dX5_unlike_0 ?_
  refine wp_getr 4 rfl dX5_unlike_1 fX5_11_6 (o6 ht) (p6_0 ht) ?_
  refine wp_iload2 5 rfl dX5_unlike_4 ?_
  refine wp_aald (t := 10) 6 rfl dX5_unlike_5 (by decide) rfl rfl (s6_0 ht) (dd) (by first | rfl | simp only [pk_mul, nI_add]) (⟨by omega, by decide⟩) (e6_0 ht (by omega)) ?_
  refine wp_aload1 7 rfl dX5_unlike_6 ?_
  refine wp_getr 10 rfl dX5_unlike_7 fX5_120_5 (o5 hT) (p5_1 hT) ?_
  refine wp_iload3 11 rfl dX5_unlike_10 ?_
  refine wp_Ve1 14 rfl dX5_unlike_11 kJ5_get lX5_54 (o18 (cT_c hT)) (nl rfl) (nl rfl) (s_get hC hc) ?_
  refine wp_cast 17 rfl dX5_unlike_14 caX5_123_16 (o16 hF) ?_
  refine wp_getr 20 rfl dX5_unlike_17 fX5_125_16 (o16 hF) (p16_1 hF) ?_
  refine wp_SNe2 23 rfl dX5_unlike_20 kX0_unlikeOf lX5_92 (nl rfl) (nl rfl) (s_unlikeOf (i6_0 ht hd) hF.2.2.1.1 (fun p hp => by rw [hR.1 dd p hd hp]; exact hw.1 _ (by omega)) (fun p hp => by rw [hF.2.2.2 p hp]; exact hk.2.1 _ (by omega))) ?_
  refine wp_iret dX5_unlike_23 rfl ?_
  refine sm_ei ?_
  exact z_sum_congr (fun p hp => by rw [hR.1 dd p hd hp, hF.2.2.2 p hp])
theorem s_known' {b : Nat} (ht : td ρ b) {w : Nat → Int32} {s : Int32} (hR : tR I b w s) (hw : wok w) (hT : cT I ρ tp q T) (hk : tok T) {dd : Nat} (hd : dd < 6) : sm_M G xX5_known (d + 4) [.ref b, .ref tp, .int (nI dd)] I ρ (sm_Qe (some (.int (r_known T w dd))) I ρ) := by
  show sm_V G xX5_known (d + 4) 0 [.ref b, .ref tp, .int (nI dd), .retAddr 0, .retAddr 0, .retAddr 0, .retAddr 0] [] I ρ _
  have hC := cT_c hT
  have hC5 : tx_C T ≤ 5 := hk.1.2.1
  have hnr : tx_near T < 1000000 := by
    obtain ⟨n, h1, h2⟩ := hk.2.2.2.2.1
    rw [h2]
    exact nI_lt (a := n) (b := 1000000) (by omega) (by decide)
  have e9 : r_known T w dd = if tx_near T < (c_kn (fun c => r_unl T w dd c) (tx_C T)).2 then -2 else (c_kn (fun c => r_unl T w dd c) (tx_C T)).1 := (c_kn_1 _ _ hnr (by omega)).symm
  refine wp_bipush (-2) 2 rfl dX5_known_0 (by decide) ?_
  refine wp_istore3 3 rfl dX5_known_2 (by decide) rfl ?_
  refine wp_ldc 5 rfl dX5_known_3 q1153 ?_
  refine wp_istore4 7 rfl dX5_known_5 (by decide) rfl ?_
  refine wp_iconst (nI 0) 8 rfl dX5_known_7 (by decide) ?_
  refine wp_istore5 10 rfl dX5_known_8 (by decide) rfl ?_
  refine sm_for (P := fun c => sm_V G xX5_known (d + 4) 10 [.ref b, .ref tp, .int (nI dd), .int (c_kn (fun c => r_unl T w dd c) c).1, .int (c_kn (fun c => r_unl T w dd c) c).2, .int (nI c), .retAddr 0] [] I ρ _) 0 (tx_C T) (Nat.zero_le _) ?_ (fun c _ hc ih => ?_)
  · refine wp_iload5 12 rfl dX5_known_10 ?_
    refine wp_aload1 13 rfl dX5_known_12 ?_
    refine wp_getr 16 rfl dX5_known_13 fX5_120_5 (o5 hT) (p5_1 hT) ?_
    refine wp_Ve0 19 rfl dX5_known_16 kJ5_size lX5_48 (o18 (cT_c hT)) (nl rfl) (nl rfl) (s_size hC) ?_
    refine wp_icmp_ge 22 55 rfl rfl dX5_known_19 (fun c19 => ?_) (fun c19 => absurd (nI_le (Nat.le_refl _) (by omega)) c19)
    refine wp_iload4 57 rfl dX5_known_55 ?_
    refine wp_aload1 58 rfl dX5_known_57 ?_
    refine wp_geti 61 rfl dX5_known_58 fX5_186_5 (o5 hT) ?_
    rw [(cT_n hT).2.1]
    refine wp_icmp_gt 64 68 rfl rfl dX5_known_61 (fun c61 => ?_) (fun c61 => ?_)
    · refine wp_bipush (-2) 70 rfl dX5_known_68 (by decide) ?_
      refine wp_iret dX5_known_70 rfl ?_
      refine sm_ei ?_
      rw [e9, if_pos c61]
    · refine wp_iload3 65 rfl dX5_known_64 ?_
      refine wp_goto 70 rfl dX5_known_65 ?_
      refine wp_iret dX5_known_70 rfl ?_
      refine sm_ei ?_
      rw [e9, if_neg c61]
  · have e1 : c_kn (fun c => r_unl T w dd c) (c + 1) = if (c_kn (fun c => r_unl T w dd c) c).2 ≤ r_unl T w dd c then c_kn (fun c => r_unl T w dd c) c else (nI c, r_unl T w dd c) := rfl
    refine wp_iload5 12 rfl dX5_known_10 ?_
    refine wp_aload1 13 rfl dX5_known_12 ?_
    refine wp_getr 16 rfl dX5_known_13 fX5_120_5 (o5 hT) (p5_1 hT) ?_
    refine wp_Ve0 19 rfl dX5_known_16 kJ5_size lX5_48 (o18 (cT_c hT)) (nl rfl) (nl rfl) (s_size hC) ?_
    refine wp_icmp_ge 22 55 rfl rfl dX5_known_19 (fun c19 => absurd c19 (nI_ge hc (by omega))) (fun c19 => ?_)
    refine wp_aload0 23 rfl dX5_known_22 ?_
    refine wp_aload1 24 rfl dX5_known_23 ?_
    refine wp_iload2 25 rfl dX5_known_24 ?_
    refine wp_iload5 27 rfl dX5_known_25 ?_
    refine wp_Ve3 30 rfl dX5_known_27 kX5_unlike lX5_183 (o6 ht) (nl rfl) (nl rfl) (s_tunlike ht hR hw hT hk hd hc) ?_
    refine wp_istore6 32 rfl dX5_known_30 (by decide) rfl ?_
    refine wp_iload6 34 rfl dX5_known_32 ?_
    refine wp_iload4 36 rfl dX5_known_34 ?_
    refine wp_icmp_lt 39 42 rfl rfl dX5_known_36 (fun c36 => ?_) (fun c36 => ?_)
    · rw [if_neg (fun z => i_lt_le z c36)] at e1
      rw [e1] at ih
      refine wp_iload5 44 rfl dX5_known_42 ?_
      refine wp_istore3 45 rfl dX5_known_44 (by decide) rfl ?_
      refine wp_iload6 47 rfl dX5_known_45 ?_
      refine wp_istore4 49 rfl dX5_known_47 (by decide) rfl ?_
      refine wp_iincN5 52 rfl dX5_known_49 (by decide) rfl ?_
      refine wp_goto 10 rfl dX5_known_52 ?_
      exact wp_weakK ih ⟨Or.inr rfl, Or.inr rfl, Or.inr rfl, Or.inr rfl, Or.inr rfl, Or.inr rfl, Or.inl rfl, trivial⟩
    · rw [if_pos (i_nlt c36)] at e1
      rw [e1] at ih
      refine wp_goto 49 rfl dX5_known_39 ?_
      refine wp_iincN5 52 rfl dX5_known_49 (by decide) rfl ?_
      refine wp_goto 10 rfl dX5_known_52 ?_
      exact wp_weakK ih ⟨Or.inr rfl, Or.inr rfl, Or.inr rfl, Or.inr rfl, Or.inr rfl, Or.inr rfl, Or.inl rfl, trivial⟩
theorem s_isKept {b : Nat} (ht : td ρ b) {w : Nat → Int32} {s : Int32} (hR : tR I b w s) {r : Nat} (hr : r < 10) : sm_M G xX5_isKept d [.ref b, .int (nI r)] I ρ (sm_Qe (some (.int (z_b (w (54 + r) = nI 1)))) I ρ) := by
  show sm_V G xX5_isKept d 0 [.ref b, .int (nI r)] [] I ρ _
  have e := z_set_bit (fun r => w (54 + r) = nI 1) (n := 10) (r := r) (Nat.le_refl _) hr
  refine wp_aload0 1 rfl dX5_isKept_0 ?_
  refine wp_geti 4 rfl dX5_isKept_1 fX5_65_6 (o6 ht) ?_
  refine wp_iload1 5 rfl dX5_isKept_4 ?_
  rw [hR.2.2.2.1]
  refine wp_ishr 6 rfl dX5_isKept_5 ?_
  refine wp_iconst (nI 1) 7 rfl dX5_isKept_6 (by decide) ?_
  refine wp_iand 8 rfl dX5_isKept_7 ?_
  rw [e]
  by_cases h : w (54 + r) = nI 1
  · rw [if_pos h]
    refine wp_iconst (nI 1) 9 rfl dX5_isKept_8 (by decide) ?_
    refine wp_icmp_ne 12 16 rfl rfl dX5_isKept_9 (fun c9 => absurd (rfl) c9) (fun c9 => ?_)
    refine wp_iconst (nI 1) 13 rfl dX5_isKept_12 (by decide) ?_
    refine wp_goto 17 rfl dX5_isKept_13 ?_
    refine wp_zret dX5_isKept_17 rfl (rfl) ?_
    exact sm_ei (z_bt h).symm
  · rw [if_neg h]
    refine wp_iconst (nI 1) 9 rfl dX5_isKept_8 (by decide) ?_
    refine wp_icmp_ne 12 16 rfl rfl dX5_isKept_9 (fun c9 => ?_) (fun c9 => absurd c9 (by decide))
    refine wp_iconst (nI 0) 17 rfl dX5_isKept_16 (by decide) ?_
    refine wp_zret dX5_isKept_17 rfl (rfl) ?_
    exact sm_ei (z_bf h).symm
theorem s_cisWind {b : Nat} (ht : td ρ b) {w : Nat → Int32} {s : Int32} (hR : tR I b w s) (hT : cT I ρ tp q T) : sm_M G xX5_isWind (d + 2) [.ref b, .ref tp] I ρ (sm_Qe (some (.int (z_b (r_isW T s w)))) I ρ) := by
  show sm_V G xX5_isWind (d + 2) 0 [.ref b, .ref tp] [] I ρ _
  refine wp_aload0 1 rfl dX5_isWind_0 ?_
  refine wp_geti 4 rfl dX5_isWind_1 fX5_78_6 (o6 ht) ?_
  refine wp_bipush (nI 16) 6 rfl dX5_isWind_4 (by decide) ?_
  refine wp_aload0 7 rfl dX5_isWind_6 ?_
  refine wp_geti 10 rfl dX5_isWind_7 fX5_72_6 (o6 ht) ?_
  refine wp_imul 11 rfl dX5_isWind_10 ?_
  refine wp_bipush (nI 100) 13 rfl dX5_isWind_11 (by decide) ?_
  refine wp_SNe3 16 rfl dX5_isWind_13 kX0_lot lX5_147 (nl rfl) (nl rfl) (s_lot _ _ _ (by decide)) ?_
  refine wp_aload1 17 rfl dX5_isWind_16 ?_
  refine wp_geti 20 rfl dX5_isWind_17 fX5_150_5 (o5 hT) ?_
  rw [(cT_n hT).1, hR.2.2.2.2.2.1, hR.2.2.2.2.2.2]
  refine wp_icmp_ge 23 27 rfl rfl dX5_isWind_20 (fun c20 => ?_) (fun c20 => ?_)
  · refine wp_iconst (nI 0) 28 rfl dX5_isWind_27 (by decide) ?_
    refine wp_zret dX5_isWind_28 rfl (rfl) ?_
    exact sm_ei (z_bf (i_lt_le c20)).symm
  · refine wp_iconst (nI 1) 24 rfl dX5_isWind_23 (by decide) ?_
    refine wp_goto 28 rfl dX5_isWind_24 ?_
    refine wp_zret dX5_isWind_28 rfl (rfl) ?_
    exact sm_ei (z_bt (i_nle c20)).symm
end C3
