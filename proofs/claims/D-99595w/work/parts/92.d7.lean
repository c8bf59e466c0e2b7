/-! ===== the component: lifts ===== -/
set_option maxRecDepth 100000
def z_oe (a b : Option Nat) : Option Nat := match a with
  | some x => some x
  | none => b
theorem z_fst_add {P : Nat → Prop} [DecidablePred P] (k : Nat) : ∀ n s, z_fst P (n + k) s = z_oe (z_fst P n s) (z_fst P k (s + n))
  | 0, s => by rw [Nat.zero_add]; rfl
  | n + 1, s => by
    have e1 : z_fst P (n + 1 + k) s = if P s then some s else z_fst P (n + k) (s + 1) := by
      rw [show n + 1 + k = n + k + 1 by omega]
      rfl
    have e2 : z_fst P (n + 1) s = if P s then some s else z_fst P n (s + 1) := rfl
    rw [e1, e2]
    by_cases p : P s
    · rw [if_pos p, if_pos p]
      rfl
    · rw [if_neg p, if_neg p, z_fst_add k n (s + 1), show s + 1 + n = s + (n + 1) by omega]
theorem z_fst_sh {P Q : Nat → Prop} [DecidablePred P] [DecidablePred Q] (s : Nat) : ∀ k a, (∀ i, a ≤ i → i < a + k → (P (s + i) ↔ Q i)) → z_fst P k (s + a) = (z_fst Q k a).map (fun x => s + x)
  | 0, _, _ => rfl
  | k + 1, a, h => by
    have e1 : z_fst P (k + 1) (s + a) = if P (s + a) then some (s + a) else z_fst P k (s + (a + 1)) := rfl
    have e2 : z_fst Q (k + 1) a = if Q a then some a else z_fst Q k (a + 1) := rfl
    rw [e1, e2]
    have h0 := h a (Nat.le_refl _) (by omega)
    by_cases p : P (s + a)
    · rw [if_pos p, if_pos (h0.mp p)]
      rfl
    · rw [if_neg p, if_neg (fun z => p (h0.mpr z)), z_fst_sh s k (a + 1) (fun i h1 h2 => h i (by omega) (by omega))]
theorem z_dg_0 {C m c y : Nat} (hc : c < C) (hy : y < C ^ m) : z_dg C (m + 1) (c * C ^ m + y) 0 = c := by
  unfold z_dg
  rw [show m + 1 - 1 - 0 = m by omega, Nat.mul_comm, Nat.mul_add_div (by omega), Nat.div_eq_of_lt hy, Nat.add_zero, Nat.mod_eq_of_lt hc]
theorem z_dg_s {C m c y i : Nat} (hi : i < m) (hC : 0 < C) : z_dg C (m + 1) (c * C ^ m + y) (i + 1) = z_dg C m y i := by
  unfold z_dg
  rw [show m + 1 - 1 - (i + 1) = m - 1 - i by omega]
  have e : C ^ m = C ^ (m - 1 - i) * (C ^ i * C) := by
    rw [← Nat.pow_succ, ← Nat.pow_add]
    congr 1
    omega
  rw [e, show c * (C ^ (m - 1 - i) * (C ^ i * C)) = C ^ (m - 1 - i) * (c * C ^ i * C) by ac_rfl, Nat.mul_add_div (Nat.pow_pos hC), Nat.add_comm, Nat.add_mul_mod_self_right]
section D7
variable {G : sm_G} {d : Nat} {I : sm_I} {ρ : sm_R} {tp : Nat} {q : tq4} {T : tx} {w : Nat → Int32}
theorem r_way_s (w : Nat → Int32) (j : Nat) {m c y : Nat} (hc : c < tx_C T) (hy : y < tx_C T ^ m) : ∀ i, i ≤ m → r_way T w j (m + 1) (c * tx_C T ^ m + y) (i + 1) = r_way T (r_lift T w j c) j m y i
  | 0, _ => by
    show r_lift T w j (z_dg (tx_C T) (m + 1) (c * tx_C T ^ m + y) 0) = r_lift T w j c
    rw [z_dg_0 hc hy]
  | i + 1, hi => by
    have ih := r_way_s w j hc hy i (by omega)
    show r_lift T (r_way T w j (m + 1) (c * tx_C T ^ m + y) (i + 1)) j (z_dg (tx_C T) (m + 1) (c * tx_C T ^ m + y) (i + 1)) = r_lift T (r_way T (r_lift T w j c) j m y i) j (z_dg (tx_C T) m y i)
    rw [ih, z_dg_s (by omega) (by omega)]
/-- the first way of so many lifts -/
abbrev r_fw (T : tx) (w : Nat → Int32) (j c n : Nat) : Option Nat := z_fst (fun way => r_known T (r_way T w j n way n) j = nI c) (tx_C T ^ n) 0
theorem r_fw_b {j c m c0 : Nat} (hc0 : c0 < tx_C T) (h : z_fst (fun way => r_known T (r_way T w j (m + 1) way (m + 1)) j = nI c) (c0 * tx_C T ^ m) 0 = none) : z_fst (fun way => r_known T (r_way T w j (m + 1) way (m + 1)) j = nI c) ((c0 + 1) * tx_C T ^ m) 0 = (r_fw T (r_lift T w j c0) j c m).map (fun x => c0 * tx_C T ^ m + x) := by
  rw [Nat.succ_mul, z_fst_add, h]
  show z_fst _ _ (0 + c0 * tx_C T ^ m) = _
  rw [Nat.zero_add]
  refine z_fst_sh (c0 * tx_C T ^ m) (tx_C T ^ m) 0 (fun i _ hi => ?_)
  rw [r_way_s w j hc0 (by omega) m (Nat.le_refl _)]
theorem r_fw_all {j c m c0 : Nat} (hc0 : c0 < tx_C T) {y : Nat} (h : z_fst (fun way => r_known T (r_way T w j (m + 1) way (m + 1)) j = nI c) ((c0 + 1) * tx_C T ^ m) 0 = some y) : r_fw T w j c (m + 1) = some y := by
  unfold r_fw
  have e : tx_C T ^ (m + 1) = (c0 + 1) * tx_C T ^ m + (tx_C T - (c0 + 1)) * tx_C T ^ m := by
    rw [Nat.pow_succ, ← Nat.add_mul, Nat.mul_comm]
    congr 1
    omega
  rw [e, z_fst_add, h]
  rfl
/-- lifts laid from a place on -/
def cl (n : Nat) (I I1 : sm_I) : Prop := (∀ a, ¬ (162 + 16 * (n + 1) ≤ a ∧ a < 242) → ¬ a = 245 → I1 a = I a) ∧ ∀ i, i < n → I1 245 i = I 245 i
theorem cl.rf {n : Nat} {I : sm_I} : cl n I I := ⟨fun _ _ _ => rfl, fun _ _ => rfl⟩
theorem cl.tr {n : Nat} {I I1 I2 : sm_I} (h : cl n I I1) (h2 : cl n I1 I2) : cl n I I2 := ⟨fun a h3 h4 => (h2.1 a h3 h4).trans (h.1 a h3 h4), fun i hi => (h2.2 i hi).trans (h.2 i hi)⟩
theorem cl.up {n : Nat} {I I1 : sm_I} (h : cl (n + 1) I I1) : cl n I I1 := ⟨fun a h3 h4 => h.1 a (by omega) h4, fun i hi => h.2 i (by omega)⟩
theorem cl.cq {n : Nat} {I I1 : sm_I} (h : cl n I I1) : cq I I1 := fun a ha => h.1 a (fun z => ha (by unfold cs; omega)) (fun z => ha (by unfold cs; omega))
theorem cl.tw {n : Nat} {I I1 : sm_I} (hn : n < 4) (h : cf (tWs (162 + 16 * (n + 1))) I I1) : cl n I I1 := ⟨fun a h3 h4 => h a (fun z => by
  have := tWs_mem.mp z
  omega), fun i hi => by rw [h 245 (fun z => by
  have := tWs_mem.mp z
  omega)]⟩
theorem cl.R {n : Nat} {I I1 : sm_I} {s : Int32} (h : cl n I I1) (hR : tR I (162 + 16 * n) w s) (hn : n < 5) : tR I1 (162 + 16 * n) w s := by
  have e : ∀ k, k ≤ 12 → I1 (162 + 16 * n + k) = I (162 + 16 * n + k) := fun k hk => h.1 _ (by omega) (by omega)
  obtain ⟨h1, h2, h3, h4⟩ := hR
  refine ⟨fun d k hd hk => ?_, fun d hd => ?_, fun c hc => ?_, ?_⟩
  · rw [show 162 + 16 * n + 2 + d = 162 + 16 * n + (2 + d) by omega, e _ (by omega), show 162 + 16 * n + (2 + d) = 162 + 16 * n + 2 + d by omega]
    exact h1 d k hd hk
  · rw [e 8 (by omega), e 9 (by omega), e 10 (by omega), e 11 (by omega)]
    exact h2 d hd
  · rw [e 12 (by omega)]
    exact h3 c hc
  · have e0 : I1 (162 + 16 * n) = I (162 + 16 * n) := e 0 (by omega)
    rw [e0]
    exact h4
def cLay (T : tx) (w : Nat → Int32) (j c n m : Nat) (r : Int32) (I1 : sm_I) : Prop := match r_fw T w j c m with
  | none => r = 0
  | some y => r = 1 ∧ ∀ i, i < m → I1 245 (n + i) = nI (z_dg (tx_C T) m y i)
theorem s_laysLifts (hK : kd ρ) (hP : ρ.2.1 64 3 = some tp) (hk : tok T) {s : Int32} {j c : Nat} (hj : j < tx_D T) (hc : c < tx_C T) : ∀ (m n : Nat) (I : sm_I) (w : Nat → Int32), n + m ≤ 4 → cT I ρ tp q T → tR I (162 + 16 * n) w s → wok w → wkT T w →
    sm_M G xX0_laysLifts (d + m + 408) [.ref 64, .int (nI n), .int (nI (n + m)), .int (nI j), .int (nI c)] I ρ (sm_Qi (fun r I1 ρ1 => ρ1 = ρ ∧ cl n I I1 ∧ cLay T w j c n m r I1))
  | 0, n, I, w, hn, hT, hR, hw, hz => by
    obtain ⟨h6, h5, h10⟩ := hk.1
    show sm_V G xX0_laysLifts (d + 0 + 408) 0 [.ref 64, .int (nI n), .int (nI n), .int (nI j), .int (nI c), .retAddr 0] [] I ρ _
    have e0 : r_fw T w j c 0 = if r_known T w j = nI c then some 0 else none := rfl
    refine wp_iload1 1 rfl dX0_laysLifts_0 ?_
    refine wp_iload2 2 rfl dX0_laysLifts_1 ?_
    refine wp_icmp_ne 5 30 rfl rfl dX0_laysLifts_2 (fun c2 => absurd (rfl) c2) (fun c2 => ?_)
    refine wp_aload0 6 rfl dX0_laysLifts_5 ?_
    refine wp_getr 9 rfl dX0_laysLifts_6 fX0_76_1 (o1 hK) (p1_11 hK) ?_
    refine wp_iload1 10 rfl dX0_laysLifts_9 ?_
    refine wp_aald (t := 7) 11 rfl dX0_laysLifts_10 (by decide) rfl rfl (s1_11 hK) (n) (by first | rfl | simp only [pk_mul, nI_add]) (⟨by omega, by decide⟩) (e1_11 hK (by omega)) ?_
    refine wp_aload0 12 rfl dX0_laysLifts_11 ?_
    refine wp_getr 15 rfl dX0_laysLifts_12 fX0_51_1 (o1 hK) (hP) ?_
    refine wp_iload3 16 rfl dX0_laysLifts_15 ?_
    refine wp_Ve2 19 rfl dX0_laysLifts_16 kX5_known lX0_204 (o6 (k_laid hK (by omega))) (nl rfl) (nl rfl) (s_known' (k_laid hK (by omega)) hR hw hT hk (by omega)) ?_
    refine wp_iload4 21 rfl dX0_laysLifts_19 ?_
    refine wp_icmp_ne 24 28 rfl rfl dX0_laysLifts_21 (fun c21 => ?_) (fun c21 => ?_)
    · refine wp_iconst (nI 0) 29 rfl dX0_laysLifts_28 (by decide) ?_
      refine wp_zret dX0_laysLifts_29 rfl (rfl) ?_
      refine ⟨_, rfl, rfl, cl.rf, ?_⟩
      unfold cLay
      rw [e0, if_neg c21]
      rfl
    · refine wp_iconst (nI 1) 25 rfl dX0_laysLifts_24 (by decide) ?_
      refine wp_goto 29 rfl dX0_laysLifts_25 ?_
      refine wp_zret dX0_laysLifts_29 rfl (rfl) ?_
      refine ⟨_, rfl, rfl, cl.rf, ?_⟩
      unfold cLay
      rw [e0, if_pos c21]
      exact ⟨rfl, fun i hi => absurd hi (Nat.not_lt_zero _)⟩
  | m + 1, n, I, w, hn, hT, hR, hw, hz => by
    obtain ⟨h6, h5, h10⟩ := hk.1
    have ihm := s_laysLifts hK hP hk (s := s) hj hc m (n + 1)
    have hT9 := hT
    show sm_V G xX0_laysLifts (d + (m + 1) + 408) 0 [.ref 64, .int (nI n), .int (nI (n + (m + 1))), .int (nI j), .int (nI c), .retAddr 0] [] I ρ _
    refine wp_iload1 1 rfl dX0_laysLifts_0 ?_
    refine wp_iload2 2 rfl dX0_laysLifts_1 ?_
    refine wp_icmp_ne 5 30 rfl rfl dX0_laysLifts_2 (fun c2 => ?_) (fun c2 => absurd c2 (fun z => absurd ((nI_eq (by omega) (by omega)).mp z) (by omega)))
    refine wp_iconst (nI 0) 31 rfl dX0_laysLifts_30 (by decide) ?_
    refine wp_istore5 33 rfl dX0_laysLifts_31 (by decide) rfl ?_
    refine sm_for (P := fun c0 => ∀ J : sm_I, cl n I J → z_fst (fun way => r_known T (r_way T w j (m + 1) way (m + 1)) j = nI c) (c0 * tx_C T ^ m) 0 = none → sm_V G xX0_laysLifts (d + (m + 1) + 408) 33 [.ref 64, .int (nI n), .int (nI (n + (m + 1))), .int (nI j), .int (nI c), .int (nI c0)] [] J ρ _) 0 (tx_C T) (Nat.zero_le _) ?_ (fun c0 _ hc0 ih => ?_) I cl.rf (by rw [Nat.zero_mul]; rfl)
    · intro J hJ hno
      have hT := hT9.kept hJ.cq.T
      refine wp_iload5 35 rfl dX0_laysLifts_33 ?_
      refine wp_aload0 36 rfl dX0_laysLifts_35 ?_
      refine wp_Ve0 39 rfl dX0_laysLifts_36 kX0_callers lX0_165 (o1 hK) (nl rfl) (nl rfl) (s_callers hK hP hT) ?_
      refine wp_icmp_ge 42 107 rfl rfl dX0_laysLifts_39 (fun c39 => ?_) (fun c39 => absurd (nI_le (Nat.le_refl _) (by omega)) c39)
      refine wp_iconst (nI 0) 108 rfl dX0_laysLifts_107 (by decide) ?_
      refine wp_zret dX0_laysLifts_108 rfl (rfl) ?_
      refine ⟨_, rfl, rfl, hJ, ?_⟩
      unfold cLay r_fw
      rw [Nat.pow_succ, Nat.mul_comm, hno]
      rfl
    · intro J hJ hno
      have hT := hT9.kept hJ.cq.T
      have hR := hJ.R hR (by omega)
      have hl1 : cl n J (sm_u J 245 n (nI c0)) := ⟨fun a _ h4 => sm_u_ne J n (nI c0) h4, fun i hi => by rw [sm_u_eq, pk_un (by omega)]⟩
      refine wp_iload5 35 rfl dX0_laysLifts_33 ?_
      refine wp_aload0 36 rfl dX0_laysLifts_35 ?_
      refine wp_Ve0 39 rfl dX0_laysLifts_36 kX0_callers lX0_165 (o1 hK) (nl rfl) (nl rfl) (s_callers hK hP hT) ?_
      refine wp_icmp_ge 42 107 rfl rfl dX0_laysLifts_39 (fun c39 => absurd c39 (nI_ge hc0 (by omega))) (fun c39 => ?_)
      refine wp_aload0 43 rfl dX0_laysLifts_42 ?_
      refine wp_getr 46 rfl dX0_laysLifts_43 fX0_96_1 (o1 hK) (p1_15 hK) ?_
      refine wp_iload1 47 rfl dX0_laysLifts_46 ?_
      refine wp_iload5 49 rfl dX0_laysLifts_47 ?_
      refine wp_iast 50 rfl dX0_laysLifts_49 (s1_15 hK) (n) (by first | rfl | simp only [pk_mul, nI_add]) (⟨by omega, by decide⟩) ?_
      have hJ1 := hJ.tr hl1
      have hT := hT9.kept hJ1.cq.T
      have hR := hl1.R hR (by omega)
      refine wp_aload0 51 rfl dX0_laysLifts_50 ?_
      refine wp_getr 54 rfl dX0_laysLifts_51 fX0_76_1 (o1 hK) (p1_11 hK) ?_
      refine wp_iload1 55 rfl dX0_laysLifts_54 ?_
      refine wp_iconst (nI 1) 56 rfl dX0_laysLifts_55 (by decide) ?_
      refine wp_iadd 57 rfl dX0_laysLifts_56 ?_
      refine wp_aald (t := 7) 58 rfl dX0_laysLifts_57 (by decide) rfl rfl (s1_11 hK) (n + 1) (by first | rfl | simp only [pk_mul, nI_add]) (⟨by omega, by decide⟩) (e1_11 hK (by omega)) ?_
      refine wp_aload0 59 rfl dX0_laysLifts_58 ?_
      refine wp_getr 62 rfl dX0_laysLifts_59 fX0_76_1 (o1 hK) (p1_11 hK) ?_
      refine wp_iload1 63 rfl dX0_laysLifts_62 ?_
      refine wp_aald (t := 7) 64 rfl dX0_laysLifts_63 (by decide) rfl rfl (s1_11 hK) (n) (by first | rfl | simp only [pk_mul, nI_add]) (⟨by omega, by decide⟩) (e1_11 hK (by omega)) ?_
      refine wp_Vv1 67 rfl dX0_laysLifts_64 kX5_takes lX0_261 (o6 (k_laid hK (by omega))) (nl rfl) (nl rfl) (s_takes (k_laid hK (j := n + 1) (by omega)) (k_laid hK (j := n) (by omega)) (by omega) hR) (fun J2 ρ1 hq9 => ?_)
      obtain ⟨e1, f2, hR2⟩ := hq9
      have e1 := e1.symm
      subst e1
      have hl2 := hl1.tr (cl.tw (by omega) f2)
      have k2 : J2 245 n = nI c0 := by
        rw [f2 245 (fun z => by
          have := tWs_mem.mp z
          omega), sm_u_eq, pk_us]
      have hT := hT9.kept (hJ.tr hl2).cq.T
      refine wp_aload0 68 rfl dX0_laysLifts_67 ?_
      refine wp_getr 71 rfl dX0_laysLifts_68 fX0_76_1 (o1 hK) (p1_11 hK) ?_
      refine wp_iload1 72 rfl dX0_laysLifts_71 ?_
      refine wp_iconst (nI 1) 73 rfl dX0_laysLifts_72 (by decide) ?_
      refine wp_iadd 74 rfl dX0_laysLifts_73 ?_
      refine wp_aald (t := 7) 75 rfl dX0_laysLifts_74 (by decide) rfl rfl (s1_11 hK) (n + 1) (by first | rfl | simp only [pk_mul, nI_add]) (⟨by omega, by decide⟩) (e1_11 hK (by omega)) ?_
      refine wp_aload0 76 rfl dX0_laysLifts_75 ?_
      refine wp_getr 79 rfl dX0_laysLifts_76 fX0_51_1 (o1 hK) (hP) ?_
      refine wp_iload3 80 rfl dX0_laysLifts_79 ?_
      refine wp_iload5 82 rfl dX0_laysLifts_80 ?_
      refine wp_Vv3 85 rfl dX0_laysLifts_82 kX5_lift lX0_271 (o6 (k_laid hK (by omega))) (nl rfl) (nl rfl) (s_clift (d := d + (m + 1) + 2) (k_laid hK (j := n + 1) (by omega)) ⟨by omega, by omega⟩ hR2 hw hT hk (by omega) hc0) (fun J3 ρ1 hq9 => ?_)
      obtain ⟨e1, f3, hR3⟩ := hq9
      have e1 := e1.symm
      subst e1
      have hl3 := hl2.tr (cl.tw (by omega) f3)
      have k3 : J3 245 n = nI c0 := by
        rw [f3 245 (fun z => by
          have := tWs_mem.mp z
          omega)]
        exact k2
      have hT := hT9.kept (hJ.tr hl3).cq.T
      have w1 := wok_lift (T := T) hw hk (dd := j) (c := c0) (by omega) hc0
      have w2 := wkT_lift (T := T) hz hk hj hc0
      have hcall := ihm J3 _ (by omega) hT hR3 w1 w2
      rw [show n + 1 + m = n + (m + 1) by omega, show d + m + 408 = d + (m + 1) + 407 by omega] at hcall
      refine wp_aload0 86 rfl dX0_laysLifts_85 ?_
      refine wp_iload1 87 rfl dX0_laysLifts_86 ?_
      refine wp_iconst (nI 1) 88 rfl dX0_laysLifts_87 (by decide) ?_
      refine wp_iadd 89 rfl dX0_laysLifts_88 ?_
      rw [nI_add]
      refine wp_iload2 90 rfl dX0_laysLifts_89 ?_
      refine wp_iload3 91 rfl dX0_laysLifts_90 ?_
      refine wp_iload4 93 rfl dX0_laysLifts_91 ?_
      refine wp_Vi4 96 rfl dX0_laysLifts_93 kX0_laysLifts lX0_293 (o1 hK) (nl rfl) (nl rfl) (hcall) (fun r J4 ρ1 hq9 => ?_)
      obtain ⟨e1, hl4, hr⟩ := hq9
      have e1 := e1.symm
      subst e1
      have hJ4 := hJ.tr (hl3.tr hl4.up)
      have k4 : J4 245 n = nI c0 := (hl4.2 n (by omega)).trans k3
      have hb := r_fw_b (w := w) (j := j) (c := c) (m := m) hc0 hno
      unfold cLay at hr
      cases hx : r_fw T (r_lift T w j c0) j c m with
      | none =>
        rw [hx] at hr hb
        refine wp_if_eq 99 101 rfl rfl dX0_laysLifts_96 (fun c96 => ?_) (fun c96 => absurd (hr) c96)
        refine wp_iincN5 104 rfl dX0_laysLifts_101 (by decide) rfl ?_
        refine wp_goto 33 rfl dX0_laysLifts_104 ?_
        exact ih J4 hJ4 hb
      | some y =>
        rw [hx] at hr hb
        have hy : y < tx_C T ^ m := by
          have := z_fst_lt hx
          omega
        obtain ⟨hr1, hr2⟩ := hr
        refine wp_if_eq 99 101 rfl rfl dX0_laysLifts_96 (fun c96 => absurd c96 (fun z => absurd (hr1.symm.trans z) (by decide))) (fun c96 => ?_)
        refine wp_iconst (nI 1) 100 rfl dX0_laysLifts_99 (by decide) ?_
        refine wp_zret dX0_laysLifts_100 rfl (rfl) ?_
        refine ⟨_, rfl, rfl, hJ4, ?_⟩
        unfold cLay
        rw [r_fw_all hc0 hb]
        refine ⟨rfl, fun i hi => ?_⟩
        cases i with
        | zero => rw [z_dg_0 hc0 hy]; exact k4
        | succ i =>
          rw [z_dg_s (by omega) (by omega), ← hr2 i (by omega), show n + 1 + i = n + (i + 1) by omega]
theorem c_lifts (hA : cA I ρ tp q T w) (x y i : Int32) : sm_M G xX0_lifts (d + 413) [.ref 64, .int x, .int y, .int i] I ρ (cPost I ρ (o_lifts T w x y i)) := by
  obtain ⟨hK, hP, hT, hk, ⟨hw, hz⟩, hR⟩ := hA
  show sm_V G xX0_lifts (d + 413) 0 [.ref 64, .int x, .int y, .int i, .retAddr 0] [] I ρ _
  obtain ⟨h6, h5, h10⟩ := hk.1
  have ht := k_town hK
  have ht2 := k_trial hK
  unfold o_lifts
  refine wp_aload0 1 rfl dX0_lifts_0 ?_
  refine wp_iload1 2 rfl dX0_lifts_1 ?_
  refine wp_Ve1 5 rfl dX0_lifts_2 kX0_isDoor lX0_185 (o1 hK) (nl rfl) (nl rfl) (s_cisDoor hK hP hT hk x) ?_
  by_cases hX : ∃ j, j < tx_D T ∧ x = nI j
  · obtain ⟨j, hj, e⟩ := hX
    subst e
    rw [z_ix_n hj (by omega)]
    refine wp_if_eq 8 25 rfl rfl dX0_lifts_5 (fun c5 => absurd c5 (z_b_ne.mpr ⟨j, hj, rfl⟩)) (fun c5 => ?_)
    refine wp_aload0 9 rfl dX0_lifts_8 ?_
    refine wp_iload2 10 rfl dX0_lifts_9 ?_
    refine wp_Ve1 13 rfl dX0_lifts_10 kX0_isCaller lX0_212 (o1 hK) (nl rfl) (nl rfl) (s_cisCaller hK hP hT hk y) ?_
    by_cases hX : ∃ j, j < tx_C T ∧ y = nI j
    · obtain ⟨c, hc, e⟩ := hX
      subst e
      rw [z_ix_n hc (by omega)]
      refine wp_if_eq 16 25 rfl rfl dX0_lifts_13 (fun c13 => absurd c13 (z_b_ne.mpr ⟨c, hc, rfl⟩)) (fun c13 => ?_)
      refine wp_iload3 17 rfl dX0_lifts_16 ?_
      refine wp_iconst (-1) 18 rfl dX0_lifts_17 (by decide) ?_
      refine wp_iconst (nI 3) 19 rfl dX0_lifts_18 (by decide) ?_
      refine wp_Se3 22 rfl dX0_lifts_19 kX0_isIn lX0_161 (nl rfl) (nl rfl) (s_isIn _ _ _) ?_
      by_cases hi : -1 ≤ i ∧ i ≤ nI 3
      · show sm_V G xX0_lifts (d + 413) 22 _ _ I ρ (cPost I ρ (if -1 ≤ i ∧ i ≤ nI 3 then o_lfA (tx_C T) i (r_ways T w j c 5 0) else -1))
        rw [if_pos hi]
        have hT9 := hT
        refine wp_if_ne 25 27 rfl rfl dX0_lifts_22 (fun c22 => ?_) (fun c22 => absurd c22 (z_b_ne.mpr hi))
        refine wp_aload0 28 rfl dX0_lifts_27 ?_
        refine wp_getr 31 rfl dX0_lifts_28 fX0_76_1 (o1 hK) (p1_11 hK) ?_
        refine wp_iconst (nI 0) 32 rfl dX0_lifts_31 (by decide) ?_
        refine wp_aald (t := 7) 33 rfl dX0_lifts_32 (by decide) rfl rfl (s1_11 hK) (0) (by first | rfl | simp only [pk_mul, nI_add]) (⟨by omega, by decide⟩) (e1_11 hK (by omega)) ?_
        refine wp_aload0 34 rfl dX0_lifts_33 ?_
        refine wp_getr 37 rfl dX0_lifts_34 fX0_62_1 (o1 hK) (p1_7 hK) ?_
        refine wp_Vv1 40 rfl dX0_lifts_37 kX5_takes lX0_261 (o6 (k_laid hK (by omega))) (nl rfl) (nl rfl) (s_takes (k_laid hK (j := 0) (by decide)) ht (by omega) hR) (fun J0 ρ1 hq9 => ?_)
        obtain ⟨e1, f0, hR0⟩ := hq9
        have e1 := e1.symm
        subst e1
        have hq0 : cq I J0 := cq.of f0 (cs_town (Or.inr ⟨0, by decide, rfl⟩))
        refine wp_iconst (nI 0) 41 rfl dX0_lifts_40 (by decide) ?_
        refine wp_istore4 43 rfl dX0_lifts_41 (by decide) rfl ?_
        refine sm_for (P := fun p => ∀ J : sm_I, cl 0 J0 J → sm_V G xX0_lifts (d + 413) 43 [.ref 64, .int (nI j), .int (nI c), .int i, .int (nI p)] [] J ρ (cPost I ρ (o_lfA (tx_C T) i (r_ways T w j c (5 - p) p)))) 0 5 (nl rfl) ?_ (fun p _ hp ih => ?_) J0 cl.rf
        · intro J hJ
          refine wp_iload4 45 rfl dX0_lifts_43 ?_
          refine wp_iconst (nI 4) 46 rfl dX0_lifts_45 (by decide) ?_
          refine wp_icmp_gt 49 94 rfl rfl dX0_lifts_46 (fun c46 => ?_) (fun c46 => absurd (by decide) c46)
          refine wp_bipush (-2) 96 rfl dX0_lifts_94 (by decide) ?_
          refine wp_iret dX0_lifts_96 rfl ?_
          exact sm_ci (hq0.tr hJ.cq) rfl
        · intro J hJ
          have hT := hT9.kept (hq0.tr hJ.cq).T
          have hcall := s_laysLifts (G := G) (d := d + 4 - p) hK hP hk hj hc p 0 J w (by omega) hT (hJ.R hR0 (by decide)) hw hz
          rw [show d + 4 - p + p + 408 = d + 412 by omega, Nat.zero_add] at hcall
          refine wp_iload4 45 rfl dX0_lifts_43 ?_
          refine wp_iconst (nI 4) 46 rfl dX0_lifts_45 (by decide) ?_
          refine wp_icmp_gt 49 94 rfl rfl dX0_lifts_46 (fun c46 => absurd c46 (nI_nlt (by omega) (by decide))) (fun c46 => ?_)
          refine wp_aload0 50 rfl dX0_lifts_49 ?_
          refine wp_iconst (nI 0) 51 rfl dX0_lifts_50 (by decide) ?_
          refine wp_iload4 53 rfl dX0_lifts_51 ?_
          refine wp_iload1 54 rfl dX0_lifts_53 ?_
          refine wp_iload2 55 rfl dX0_lifts_54 ?_
          refine wp_Vi4 58 rfl dX0_lifts_55 kX0_laysLifts lX0_293 (o1 hK) (nl rfl) (nl rfl) (hcall) (fun r J1 ρ1 hq9 => ?_)
          obtain ⟨e1, hl, hr⟩ := hq9
          have e1 := e1.symm
          subst e1
          have hq1 := hq0.tr (hJ.tr hl).cq
          have er : r_ways T w j c (5 - p) p = match r_fw T w j c p with
            | some way => some (p, way)
            | none => r_ways T w j c (5 - (p + 1)) (p + 1) := by
            rw [show 5 - p = 5 - (p + 1) + 1 by omega]
            rfl
          rw [er]
          unfold cLay at hr
          cases hx : r_fw T w j c p with
          | none =>
            rw [hx] at hr
            refine wp_if_eq 61 88 rfl rfl dX0_lifts_58 (fun c58 => ?_) (fun c58 => absurd (hr) c58)
            refine wp_iincN4 91 rfl dX0_lifts_88 (by decide) rfl ?_
            refine wp_goto 43 rfl dX0_lifts_91 ?_
            exact ih J1 (hJ.tr hl)
          | some y =>
            rw [hx] at hr
            obtain ⟨hr1, hr2⟩ := hr
            show sm_V G xX0_lifts (d + 413) 58 _ _ J1 ρ (cPost I ρ (if i = -1 then nI p else if nI p ≤ i then -1 else nI (z_dg (tx_C T) p y i.toNatClampNeg)))
            by_cases e1 : i = -1
            · rw [if_pos e1]
              subst e1
              refine wp_if_eq 61 88 rfl rfl dX0_lifts_58 (fun c58 => absurd c58 (fun z => absurd (hr1.symm.trans z) (by decide))) (fun c58 => ?_)
              refine wp_iload3 62 rfl dX0_lifts_61 ?_
              refine wp_iconst (-1) 63 rfl dX0_lifts_62 (by decide) ?_
              refine wp_icmp_ne 66 71 rfl rfl dX0_lifts_63 (fun c63 => absurd (rfl) c63) (fun c63 => ?_)
              refine wp_iload4 68 rfl dX0_lifts_66 ?_
              refine wp_goto 87 rfl dX0_lifts_68 ?_
              refine wp_iret dX0_lifts_87 rfl ?_
              exact sm_ci hq1 rfl
            · rw [if_neg e1]
              by_cases e2 : nI p ≤ i
              · rw [if_pos e2]
                refine wp_if_eq 61 88 rfl rfl dX0_lifts_58 (fun c58 => absurd c58 (fun z => absurd (hr1.symm.trans z) (by decide))) (fun c58 => ?_)
                refine wp_iload3 62 rfl dX0_lifts_61 ?_
                refine wp_iconst (-1) 63 rfl dX0_lifts_62 (by decide) ?_
                refine wp_icmp_ne 66 71 rfl rfl dX0_lifts_63 (fun c63 => ?_) (fun c63 => absurd c63 (e1))
                refine wp_iload3 72 rfl dX0_lifts_71 ?_
                refine wp_iload4 74 rfl dX0_lifts_72 ?_
                refine wp_icmp_ge 77 86 rfl rfl dX0_lifts_74 (fun c74 => ?_) (fun c74 => absurd (e2) c74)
                refine wp_iconst (-1) 87 rfl dX0_lifts_86 (by decide) ?_
                refine wp_iret dX0_lifts_87 rfl ?_
                exact sm_ci hq1 rfl
              · rw [if_neg e2]
                have hi0 : ∃ k, k < 4 ∧ i = nI k := by
                  refine (z_in_lo (n := 4) (m := 3) rfl (by decide)).mp ⟨?_, hi.2⟩
                  have h1 := hi.1
                  rw [Int32.le_iff_toInt_le] at h1 ⊢
                  have h2 : ¬ i.toInt = (-1 : Int32).toInt := fun z => e1 (Int32.toInt_inj.mp z)
                  have h3 : (-1 : Int32).toInt = -1 := by decide
                  have h4 : (nI 0).toInt = 0 := by decide
                  omega
                obtain ⟨k, hk4, ek⟩ := hi0
                subst ek
                have hkp : k < p := by
                  rcases Nat.lt_or_ge k p with h | h
                  · exact h
                  · exact absurd (nI_le h (by omega)) e2
                rw [nI_clamp (by omega)]
                refine wp_if_eq 61 88 rfl rfl dX0_lifts_58 (fun c58 => absurd c58 (fun z => absurd (hr1.symm.trans z) (by decide))) (fun c58 => ?_)
                refine wp_iload3 62 rfl dX0_lifts_61 ?_
                refine wp_iconst (-1) 63 rfl dX0_lifts_62 (by decide) ?_
                refine wp_icmp_ne 66 71 rfl rfl dX0_lifts_63 (fun c63 => ?_) (fun c63 => absurd c63 (e1))
                refine wp_iload3 72 rfl dX0_lifts_71 ?_
                refine wp_iload4 74 rfl dX0_lifts_72 ?_
                refine wp_icmp_ge 77 86 rfl rfl dX0_lifts_74 (fun c74 => absurd c74 (e2)) (fun c74 => ?_)
                refine wp_aload0 78 rfl dX0_lifts_77 ?_
                refine wp_getr 81 rfl dX0_lifts_78 fX0_96_1 (o1 hK) (p1_15 hK) ?_
                refine wp_iload3 82 rfl dX0_lifts_81 ?_
                refine wp_iald 83 rfl dX0_lifts_82 (s1_15 hK) (k) (by first | rfl | simp only [pk_mul, nI_add]) (⟨by omega, by decide⟩) ?_
                refine wp_goto 87 rfl dX0_lifts_83 ?_
                refine wp_iret dX0_lifts_87 rfl ?_
                refine sm_ci hq1 ?_
                rw [← hr2 k hkp, Nat.zero_add]
      · show sm_V G xX0_lifts (d + 413) 22 _ _ I ρ (cPost I ρ (if -1 ≤ i ∧ i ≤ nI 3 then o_lfA (tx_C T) i (r_ways T w j c 5 0) else -1))
        rw [if_neg hi]
        refine wp_if_ne 25 27 rfl rfl dX0_lifts_22 (fun c22 => absurd (z_b_eq.mpr hi) c22) (fun c22 => ?_)
        refine wp_iconst (-1) 26 rfl dX0_lifts_25 (by decide) ?_
        refine wp_iret dX0_lifts_26 rfl ?_
        exact sm_ci cq.rf rfl
    · rw [z_ix_no (by omega) hX]
      refine wp_if_eq 16 25 rfl rfl dX0_lifts_13 (fun c13 => ?_) (fun c13 => absurd (z_b_eq.mpr hX) c13)
      refine wp_iconst (-1) 26 rfl dX0_lifts_25 (by decide) ?_
      refine wp_iret dX0_lifts_26 rfl ?_
      exact sm_ci cq.rf rfl
  · rw [z_ix_no (by omega) hX]
    refine wp_if_eq 8 25 rfl rfl dX0_lifts_5 (fun c5 => ?_) (fun c5 => absurd (z_b_eq.mpr hX) c5)
    refine wp_iconst (-1) 26 rfl dX0_lifts_25 (by decide) ?_
    refine wp_iret dX0_lifts_26 rfl ?_
    exact sm_ci cq.rf rfl
end D7
