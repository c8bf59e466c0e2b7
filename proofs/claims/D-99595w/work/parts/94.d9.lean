/-! ===== the component: pairedTo, paired ===== -/
set_option maxRecDepth 100000
section D9
variable {G : sm_G} {d : Nat} {I : sm_I} {ρ : sm_R} {tp : Nat} {q : tq4} {T : tx} {w : Nat → Int32}
theorem s_pairedTo (hA : cA I ρ tp q T w) (hL : ∀ k, k ≤ tx_D T → ∀ t, t < 2 ^ tx_C T → I (247 + (tx_D T - k)) t = cp_lf (r_unl T w) (tx_D T) (tx_C T) k t) {dd t : Nat} (hd : dd < tx_D T) (ht : t < 2 ^ tx_C T) : sm_M G xX0_pairedTo (d + 6) [.ref 64, .int (nI dd), .int (nI t)] I ρ (sm_Qe (some (.int (pl_o (pl_low (r_unl T w) (tx_D T) (tx_C T) dd t)))) I ρ) := by
  have hA0 := hA
  obtain ⟨hK, hP, hT, hk, ⟨hw, hz⟩, hR⟩ := hA
  obtain ⟨h6, h5, h10⟩ := hk.1
  have h2c : 2 ^ tx_C T ≤ 32 := cp_p5 ⟨tx_C T, by omega⟩
  have hu := r_unl_n hw hk
  show sm_V G xX0_pairedTo (d + 6) 0 [.ref 64, .int (nI dd), .int (nI t), .retAddr 0] [] I ρ _
  have hwi : ∀ c, c < tx_C T → cp_by (r_unl T w) (I (247 + (dd + 1))) dd c t = cp_by (r_unl T w) (cp_lf (r_unl T w) (tx_D T) (tx_C T) (tx_D T - (dd + 1))) dd c t := fun c hc => by
    have := hL (tx_D T - (dd + 1)) (by omega) (t ||| 2 ^ c) (cp_or h5 hc ht)
    rw [show tx_D T - (tx_D T - (dd + 1)) = dd + 1 by omega] at this
    show r_unl T w dd c + I (247 + (dd + 1)) (t ||| 2 ^ c) = r_unl T w dd c + _
    rw [this]
  have hl0 : I (247 + dd) t = cp_lf (r_unl T w) (tx_D T) (tx_C T) (tx_D T - dd) t := by
    have := hL (tx_D T - dd) (by omega) t ht
    rw [show tx_D T - (tx_D T - dd) = dd by omega] at this
    exact this
  obtain ⟨F, hF⟩ : ∃ F : Nat → Nat → Option Nat, F = z_fst (fun c => t / 2 ^ c % 2 = 0 ∧ pl_with (r_unl T w) (pl_lf (r_unl T w) (tx_D T) (tx_C T) (tx_D T - (dd + 1))) dd c t = pl_lf (r_unl T w) (tx_D T) (tx_C T) (tx_D T - dd) t) := ⟨_, rfl⟩
  have hF0 : ∀ a, F 0 a = none := fun a => by rw [hF]; rfl
  have hFs : ∀ k a, F (k + 1) a = if t / 2 ^ a % 2 = 0 ∧ pl_with (r_unl T w) (pl_lf (r_unl T w) (tx_D T) (tx_C T) (tx_D T - (dd + 1))) dd a t = pl_lf (r_unl T w) (tx_D T) (tx_C T) (tx_D T - dd) t then some a else F k (a + 1) := fun k a => by rw [hF]; rfl
  unfold pl_low
  rw [← hF]
  refine wp_iconst (nI 0) 1 rfl dX0_pairedTo_0 (by decide) ?_
  refine wp_istore3 2 rfl dX0_pairedTo_1 (by decide) rfl ?_
  refine sm_for (P := fun c => sm_V G xX0_pairedTo (d + 6) 2 [.ref 64, .int (nI dd), .int (nI t), .int (nI c)] [] I ρ (sm_Qe (some (.int (pl_o (F (tx_C T - c) c)))) I ρ)) 0 (tx_C T) (Nat.zero_le _) ?_ (fun c _ hc ih => ?_)
  · rw [Nat.sub_self, hF0]
    refine wp_iload3 3 rfl dX0_pairedTo_2 ?_
    refine wp_aload0 4 rfl dX0_pairedTo_3 ?_
    refine wp_Ve0 7 rfl dX0_pairedTo_4 kX0_callers lX0_165 (o1 hK) (nl rfl) (nl rfl) (s_callers hK hP hT) ?_
    refine wp_icmp_ge 10 44 rfl rfl dX0_pairedTo_7 (fun c7 => ?_) (fun c7 => absurd (nI_le (Nat.le_refl _) (by omega)) c7)
    refine wp_bipush (-2) 46 rfl dX0_pairedTo_44 (by decide) ?_
    refine wp_iret dX0_pairedTo_46 rfl ?_
    exact sm_ei rfl
  · rw [show tx_C T - c = (tx_C T - (c + 1)) + 1 by omega, hFs]
    have heq := cp_eq h6 h5 hu hd hc ht
    refine wp_iload3 3 rfl dX0_pairedTo_2 ?_
    refine wp_aload0 4 rfl dX0_pairedTo_3 ?_
    refine wp_Ve0 7 rfl dX0_pairedTo_4 kX0_callers lX0_165 (o1 hK) (nl rfl) (nl rfl) (s_callers hK hP hT) ?_
    refine wp_icmp_ge 10 44 rfl rfl dX0_pairedTo_7 (fun c7 => absurd c7 (nI_ge hc (by omega))) (fun c7 => ?_)
    refine wp_iload2 11 rfl dX0_pairedTo_10 ?_
    refine wp_iload3 12 rfl dX0_pairedTo_11 ?_
    refine wp_ishr 13 rfl dX0_pairedTo_12 ?_
    refine wp_iconst (nI 1) 14 rfl dX0_pairedTo_13 (by decide) ?_
    refine wp_iand 15 rfl dX0_pairedTo_14 ?_
    rw [z_bis (show t < 32 by omega) (show c < 5 by omega)]
    by_cases hb : t / 2 ^ c % 2 = 0
    · rw [hb]
      refine wp_if_ne 18 38 rfl rfl dX0_pairedTo_15 (fun c15 => absurd (rfl) c15) (fun c15 => ?_)
      refine wp_aload0 19 rfl dX0_pairedTo_18 ?_
      refine wp_iload1 20 rfl dX0_pairedTo_19 ?_
      refine wp_iload2 21 rfl dX0_pairedTo_20 ?_
      refine wp_iload3 22 rfl dX0_pairedTo_21 ?_
      refine wp_Ve3 25 rfl dX0_pairedTo_22 kX0_pairedBy lX0_298 (o1 hK) (nl rfl) (nl rfl) (s_pairedBy hA0 hd hc (by omega)) ?_
      rw [hwi c hc]
      refine wp_aload0 26 rfl dX0_pairedTo_25 ?_
      refine wp_getr 29 rfl dX0_pairedTo_26 fX0_102_1 (o1 hK) (p1_16 hK) ?_
      refine wp_iload1 30 rfl dX0_pairedTo_29 ?_
      refine wp_aald (t := 10) 31 rfl dX0_pairedTo_30 (by decide) rfl rfl (s1_16 hK) (dd) (by first | rfl | simp only [pk_mul, nI_add]) (⟨by omega, by decide⟩) (e1_16 hK (by omega)) ?_
      refine wp_iload2 32 rfl dX0_pairedTo_31 ?_
      refine wp_iald 33 rfl dX0_pairedTo_32 (i1_16 hK (by omega)) (t) (by first | rfl | simp only [pk_mul, nI_add]) (⟨by omega, by decide⟩) ?_
      rw [hl0]
      refine wp_icmp_ne 36 38 rfl rfl dX0_pairedTo_33 (fun c33 => ?_) (fun c33 => ?_)
      · rw [if_neg (fun h => c33 (heq.mp h.2))]
        refine wp_iincN3 41 rfl dX0_pairedTo_38 (by decide) rfl ?_
        refine wp_goto 2 rfl dX0_pairedTo_41 ?_
        exact ih
      · rw [if_pos ⟨rfl, heq.mpr c33⟩]
        refine wp_iload3 37 rfl dX0_pairedTo_36 ?_
        refine wp_iret dX0_pairedTo_37 rfl ?_
        exact sm_ei rfl
    · rw [if_neg (fun h => hb h.1)]
      refine wp_if_ne 18 38 rfl rfl dX0_pairedTo_15 (fun c15 => ?_) (fun c15 => absurd c15 (nI_ne0 (by omega) (by omega)))
      refine wp_iincN3 41 rfl dX0_pairedTo_38 (by decide) rfl ?_
      refine wp_goto 2 rfl dX0_pairedTo_41 ?_
      exact ih
theorem cp_tk_lt (u : Nat → Nat → Int32) (D : Nat) {C : Nat} (hC : C ≤ 5) : ∀ i, pl_tk u D C i < 2 ^ C
  | 0 => Nat.pow_pos (by decide)
  | i + 1 => by
    have ih := cp_tk_lt u D hC i
    unfold pl_tk
    cases h : pl_low u D C i (pl_tk u D C i) with
    | none => exact ih
    | some c =>
      have := z_fst_lt h
      exact cp_or hC (by omega) ih
theorem c_paired (hA : cA I ρ tp q T w) (i : Int32) : sm_M G xX0_paired (d + 408) [.ref 64, .int i] I ρ (cPost I ρ (o_paired T w i)) := by
  have hA0 := hA
  obtain ⟨hK, hP, hT, hk, ⟨hw, hz⟩, hR⟩ := hA
  obtain ⟨h6, h5, h10⟩ := hk.1
  have hu := r_unl_n hw hk
  show sm_V G xX0_paired (d + 408) 0 [.ref 64, .int i, .retAddr 0, .retAddr 0] [] I ρ _
  unfold o_paired
  by_cases e1 : i = -1
  · rw [if_pos e1]
    subst e1
    refine wp_iload1 1 rfl dX0_paired_0 ?_
    refine wp_iconst (-1) 2 rfl dX0_paired_1 (by decide) ?_
    refine wp_icmp_eq 5 15 rfl rfl dX0_paired_2 (fun c2 => ?_) (fun c2 => absurd (rfl) c2)
    refine wp_aload0 16 rfl dX0_paired_15 ?_
    refine wp_Vv0 19 rfl dX0_paired_16 kX0_laysPaired lX0_302 (o1 hK) (nl rfl) (nl rfl) (s_laysPaired (d := d + 401) hA0) (fun J ρ1 hq => ?_)
    obtain ⟨e1, hf, hL⟩ := hq
    have e1 := e1.symm
    subst e1
    have e0 := hL (tx_D T) (Nat.le_refl _) 0 (Nat.pow_pos (by decide))
    rw [Nat.sub_self] at e0
    have e0 : J (247 + 0) 0 = _ := e0
    refine wp_iload1 20 rfl dX0_paired_19 ?_
    refine wp_iconst (-1) 21 rfl dX0_paired_20 (by decide) ?_
    refine wp_icmp_ne 24 37 rfl rfl dX0_paired_21 (fun c21 => absurd (rfl) c21) (fun c21 => ?_)
    refine wp_aload0 25 rfl dX0_paired_24 ?_
    refine wp_getr 28 rfl dX0_paired_25 fX0_102_1 (o1 hK) (p1_16 hK) ?_
    refine wp_iconst (nI 0) 29 rfl dX0_paired_28 (by decide) ?_
    refine wp_aald (t := 10) 30 rfl dX0_paired_29 (by decide) rfl rfl (s1_16 hK) (0) (by first | rfl | simp only [pk_mul, nI_add]) (⟨by omega, by decide⟩) (e1_16 hK (by omega)) ?_
    refine wp_iconst (nI 0) 31 rfl dX0_paired_30 (by decide) ?_
    refine wp_iald 32 rfl dX0_paired_31 (i1_16 hK (by omega)) (0) (by first | rfl | simp only [pk_mul, nI_add]) (⟨by omega, by decide⟩) ?_
    rw [e0]
    refine wp_ldcw 35 rfl dX0_paired_32 q1359 ?_
    refine wp_irem 36 rfl dX0_paired_35 (by decide) ?_
    refine wp_iret dX0_paired_36 rfl ?_
    exact sm_ci (cPr_q hf) (cp_end h6 h5 hu)
  · rw [if_neg e1]
    refine wp_iload1 1 rfl dX0_paired_0 ?_
    refine wp_iconst (-1) 2 rfl dX0_paired_1 (by decide) ?_
    refine wp_icmp_eq 5 15 rfl rfl dX0_paired_2 (fun c2 => absurd c2 (e1)) (fun c2 => ?_)
    refine wp_aload0 6 rfl dX0_paired_5 ?_
    refine wp_iload1 7 rfl dX0_paired_6 ?_
    refine wp_Ve1 10 rfl dX0_paired_7 kX0_isDoor lX0_185 (o1 hK) (nl rfl) (nl rfl) (s_cisDoor hK hP hT hk i) ?_
    by_cases hx : ∃ j, j < tx_D T ∧ i = nI j
    · obtain ⟨j, hj, e⟩ := hx
      subst e
      rw [z_ix_n hj (by omega)]
      show sm_V G xX0_paired (d + 408) 10 _ _ I ρ (cPost I ρ (pl_o (pl_low (r_unl T w) (tx_D T) (tx_C T) j (pl_tk (r_unl T w) (tx_D T) (tx_C T) j))))
      refine wp_if_ne 13 15 rfl rfl dX0_paired_10 (fun c10 => ?_) (fun c10 => absurd c10 (z_b_ne.mpr ⟨j, hj, rfl⟩))
      refine wp_aload0 16 rfl dX0_paired_15 ?_
      refine wp_Vv0 19 rfl dX0_paired_16 kX0_laysPaired lX0_302 (o1 hK) (nl rfl) (nl rfl) (s_laysPaired (d := d + 401) hA0) (fun J ρ1 hq => ?_)
      obtain ⟨e9, hf, hL⟩ := hq
      have e9 := e9.symm
      subst e9
      have hA1 := hA0.q (cPr_q hf)
      refine wp_iload1 20 rfl dX0_paired_19 ?_
      refine wp_iconst (-1) 21 rfl dX0_paired_20 (by decide) ?_
      refine wp_icmp_ne 24 37 rfl rfl dX0_paired_21 (fun c21 => ?_) (fun c21 => absurd c21 (e1))
      refine wp_iconst (nI 0) 38 rfl dX0_paired_37 (by decide) ?_
      refine wp_istore2 39 rfl dX0_paired_38 (by decide) rfl ?_
      refine wp_iconst (nI 0) 40 rfl dX0_paired_39 (by decide) ?_
      refine wp_istore3 41 rfl dX0_paired_40 (by decide) rfl ?_
      refine sm_for (P := fun k => sm_V G xX0_paired (d + 408) 41 [.ref 64, .int (nI j), .int (nI (pl_tk (r_unl T w) (tx_D T) (tx_C T) k)), .int (nI k)] [] J ρ _) 0 j (Nat.zero_le _) ?_ (fun k _ hk ih => ?_)
      · refine wp_iload3 42 rfl dX0_paired_41 ?_
        refine wp_iload1 43 rfl dX0_paired_42 ?_
        refine wp_icmp_ge 46 76 rfl rfl dX0_paired_43 (fun c43 => ?_) (fun c43 => absurd (nI_le (Nat.le_refl _) (by omega)) c43)
        refine wp_aload0 77 rfl dX0_paired_76 ?_
        refine wp_iload1 78 rfl dX0_paired_77 ?_
        refine wp_iload2 79 rfl dX0_paired_78 ?_
        refine wp_Ve2 82 rfl dX0_paired_79 kX0_pairedTo lX0_305 (o1 hK) (nl rfl) (nl rfl) (s_pairedTo (d := d + 401) hA1 hL hj (cp_tk_lt _ _ h5 _)) ?_
        refine wp_iret dX0_paired_82 rfl ?_
        exact sm_ci (cPr_q hf) rfl
      · have ht := cp_tk_lt (r_unl T w) (tx_D T) h5 k
        have h2c : 2 ^ tx_C T ≤ 32 := cp_p5 ⟨tx_C T, by omega⟩
        have es : pl_tk (r_unl T w) (tx_D T) (tx_C T) (k + 1) = (match pl_low (r_unl T w) (tx_D T) (tx_C T) k (pl_tk (r_unl T w) (tx_D T) (tx_C T) k) with
          | none => pl_tk (r_unl T w) (tx_D T) (tx_C T) k
          | some c => pl_tk (r_unl T w) (tx_D T) (tx_C T) k ||| 2 ^ c) := rfl
        rw [es] at ih
        have hcall := fun d => s_pairedTo (G := G) (d := d) hA1 hL (dd := k) (by omega) ht
        refine wp_iload3 42 rfl dX0_paired_41 ?_
        refine wp_iload1 43 rfl dX0_paired_42 ?_
        refine wp_icmp_ge 46 76 rfl rfl dX0_paired_43 (fun c43 => absurd c43 (nI_ge hk (by omega))) (fun c43 => ?_)
        refine wp_iload2 47 rfl dX0_paired_46 ?_
        refine wp_aload0 48 rfl dX0_paired_47 ?_
        refine wp_iload3 49 rfl dX0_paired_48 ?_
        refine wp_iload2 50 rfl dX0_paired_49 ?_
        refine wp_Ve2 53 rfl dX0_paired_50 kX0_pairedTo lX0_305 (o1 hK) (nl rfl) (nl rfl) (hcall (d + 401)) ?_
        cases hc : pl_low (r_unl T w) (tx_D T) (tx_C T) k (pl_tk (r_unl T w) (tx_D T) (tx_C T) k) with
        | none =>
          rw [hc] at ih
          refine wp_if_ge 56 60 rfl rfl dX0_paired_53 (fun c53 => absurd c53 (by decide)) (fun c53 => ?_)
          refine wp_iconst (nI 0) 57 rfl dX0_paired_56 (by decide) ?_
          refine wp_goto 68 rfl dX0_paired_57 ?_
          refine wp_ior 69 rfl dX0_paired_68 ?_
          rw [i_or0]
          refine wp_istore2 70 rfl dX0_paired_69 (by decide) rfl ?_
          refine wp_iincN3 73 rfl dX0_paired_70 (by decide) rfl ?_
          refine wp_goto 41 rfl dX0_paired_73 ?_
          exact ih
        | some c =>
          rw [hc] at ih
          have hc5 := z_fst_lt hc
          have hb := z_bor (show pl_tk (r_unl T w) (tx_D T) (tx_C T) k < 32 by omega) (show c < 5 by omega)
          have h0 : (0 : Int32) ≤ nI c := i_nlt (nI_pos (by omega))
          refine wp_if_ge 56 60 rfl rfl dX0_paired_53 (fun c53 => ?_) (fun c53 => absurd (h0) c53)
          refine wp_iconst (nI 1) 61 rfl dX0_paired_60 (by decide) ?_
          refine wp_aload0 62 rfl dX0_paired_61 ?_
          refine wp_iload3 63 rfl dX0_paired_62 ?_
          refine wp_iload2 64 rfl dX0_paired_63 ?_
          refine wp_Ve2 67 rfl dX0_paired_64 kX0_pairedTo lX0_305 (o1 hK) (nl rfl) (nl rfl) (hcall (d + 401)) ?_
          rw [hc]
          show sm_V G xX0_paired (d + 408) 67 _ (.int (nI c) :: _) J ρ _
          refine wp_ishl 68 rfl dX0_paired_67 ?_
          refine wp_ior 69 rfl dX0_paired_68 ?_
          rw [hb.1]
          refine wp_istore2 70 rfl dX0_paired_69 (by decide) rfl ?_
          refine wp_iincN3 73 rfl dX0_paired_70 (by decide) rfl ?_
          refine wp_goto 41 rfl dX0_paired_73 ?_
          exact ih
    · rw [z_ix_no (by omega) hx]
      refine wp_if_ne 13 15 rfl rfl dX0_paired_10 (fun c10 => absurd (z_b_eq.mpr hx) c10) (fun c10 => ?_)
      refine wp_iconst (-1) 14 rfl dX0_paired_13 (by decide) ?_
      refine wp_iret dX0_paired_14 rfl ?_
      exact sm_ci cq.rf rfl
end D9
