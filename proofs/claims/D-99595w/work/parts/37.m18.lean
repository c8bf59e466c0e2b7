/-! ===== paired ===== -/
set_option maxRecDepth 100000
def pl_with (u : Nat → Nat → Int32) (L : Nat → Int32) (d c t : Nat) : Int32 := u d c - nI 10000 + L (t ||| 2 ^ c)
def pl_best (u : Nat → Nat → Int32) (L : Nat → Int32) (d t : Nat) : Nat → Int32
  | 0 => L t
  | c + 1 => if t / 2 ^ c % 2 = 0 ∧ pl_with u L d c t < pl_best u L d t c then pl_with u L d c t else pl_best u L d t c
def pl_lf (u : Nat → Nat → Int32) (D C : Nat) : Nat → Nat → Int32
  | 0 => fun _ => nI 0
  | k + 1 => fun t => pl_best u (pl_lf u D C k) (D - (k + 1)) t C
def pl_low (u : Nat → Nat → Int32) (D C d t : Nat) : Option Nat := z_fst (fun c => t / 2 ^ c % 2 = 0 ∧ pl_with u (pl_lf u D C (D - (d + 1))) d c t = pl_lf u D C (D - d) t) C 0
def pl_tk (u : Nat → Nat → Int32) (D C : Nat) : Nat → Nat
  | 0 => 0
  | i + 1 => match pl_low u D C i (pl_tk u D C i) with
    | none => pl_tk u D C i
    | some c => pl_tk u D C i ||| 2 ^ c
def pl_o : Option Nat → Int32
  | none => -2
  | some c => nI c
def o_paired (T : tx) (w : Nat → Int32) (i : Int32) : Int32 :=
  if i = -1 then pl_lf (r_unl T w) (tx_D T) (tx_C T) (tx_D T) 0 + nI 10000 * nI (if tx_D T < tx_C T then tx_D T else tx_C T)
  else match z_ix i (tx_D T) with
    | none => -1
    | some i => pl_o (pl_low (r_unl T w) (tx_D T) (tx_C T) i (pl_tk (r_unl T w) (tx_D T) (tx_C T) i))
theorem z_fst_lt {P : Nat → Prop} [DecidablePred P] : ∀ {k n c : Nat}, z_fst P k n = some c → n ≤ c ∧ c < n + k
  | 0, _, _, h => by cases h
  | k + 1, n, c, h => by
    unfold z_fst at h
    by_cases hp : P n
    · rw [if_pos hp] at h
      cases h
      omega
    · rw [if_neg hp] at h
      have := z_fst_lt h
      omega
theorem z_bit_or : ∀ t : Fin 32, ∀ c : Fin 5, (nI t.val ||| nI 1 <<< (nI c.val &&& 31) = nI (t.val ||| 2 ^ c.val)) ∧ t.val ||| 2 ^ c.val < 32 := by decide +kernel
theorem z_bit_is : ∀ t : Fin 32, ∀ c : Fin 5, (nI t.val >>> (nI c.val &&& 31)) &&& nI 1 = nI (t.val / 2 ^ c.val % 2) := by decide +kernel
theorem z_bor {t c : Nat} (ht : t < 32) (hc : c < 5) : (nI t ||| nI 1 <<< (nI c &&& 31) = nI (t ||| 2 ^ c)) ∧ t ||| 2 ^ c < 32 := z_bit_or ⟨t, ht⟩ ⟨c, hc⟩
theorem z_bis {t c : Nat} (ht : t < 32) (hc : c < 5) : (nI t >>> (nI c &&& 31)) &&& nI 1 = nI (t / 2 ^ c % 2) := z_bit_is ⟨t, ht⟩ ⟨c, hc⟩
theorem i_m1 (x : Int32) : x + (-1) = x - nI 1 := by
  rw [Int32.sub_eq_add_neg]
  rfl
theorem pl_tk_lt (u : Nat → Nat → Int32) (D C : Nat) (hC : C ≤ 5) : ∀ i, pl_tk u D C i < 32
  | 0 => Nat.zero_lt_succ 31
  | i + 1 => by
    have ih := pl_tk_lt u D C hC i
    unfold pl_tk
    cases h : pl_low u D C i (pl_tk u D C i) with
    | none => exact ih
    | some c =>
      have := z_fst_lt h
      exact (z_bor ih (by omega)).2
section M18
variable {G : sm_G} {d : Nat} {I : sm_I} {ρ : sm_R}
theorem s_with (hm : md ρ) (lv : Nat) (T : tx) (hT : mT I lv T) (ht : tok T) (dd c t : Nat) (hd : dd < tx_D T) (hc : c < tx_C T) (h32 : t < 32) : sm_M G xX10_with (d + 2) [.ref mM, .int (nI dd), .int (nI c), .int (nI t)] I ρ (sm_Qe (some (.int (pl_with (r_unl T (I m_row)) (fun j => I m_leastFrom (32 * dd + 32 + j)) dd c t))) I ρ) := by
  show sm_V G xX10_with (d + 2) 0 [.ref mM, .int (nI dd), .int (nI c), .int (nI t)] [] I ρ _
  have h1 := ht.1
  have hb := z_bor h32 (show c < 5 by omega)
  refine wp_aload0 1 rfl dX10_with_0 ?_
  refine wp_iload1 2 rfl dX10_with_1 ?_
  refine wp_iload2 3 rfl dX10_with_2 ?_
  refine wp_Ve2 6 rfl dX10_with_3 kX10_unlikeTo lX10_342 (md_M hm) (nl rfl) (nl rfl) (s_unlikeTo hm lv dd c hT.1.1 hT.1.2 (by omega) (by omega)) ?_
  refine wp_sipush (nI 10000) 9 rfl dX10_with_6 (by decide) ?_
  refine wp_isub 10 rfl dX10_with_9 ?_
  refine wp_aload0 11 rfl dX10_with_10 ?_
  refine wp_getr 14 rfl dX10_with_11 fX10_131_10 (md_M hm) (mp_leastFrom hm) ?_
  refine wp_bipush (nI 32) 16 rfl dX10_with_14 (by decide) ?_
  refine wp_iload1 17 rfl dX10_with_16 ?_
  refine wp_imul 18 rfl dX10_with_17 ?_
  refine wp_bipush (nI 32) 20 rfl dX10_with_18 (by decide) ?_
  refine wp_iadd 21 rfl dX10_with_20 ?_
  refine wp_iload3 22 rfl dX10_with_21 ?_
  refine wp_iconst (nI 1) 23 rfl dX10_with_22 (by decide) ?_
  refine wp_iload2 24 rfl dX10_with_23 ?_
  refine wp_ishl 25 rfl dX10_with_24 ?_
  rw [u_to_r hT hc]
  refine wp_ior 26 rfl dX10_with_25 ?_
  rw [hb.1]
  refine wp_iadd 27 rfl dX10_with_26 ?_
  refine wp_iald 28 rfl dX10_with_27 (ms_leastFrom hm) (32 * dd + 32 + (t ||| 2 ^ c)) (by first | rfl | simp only [pk_mul, nI_add]) (⟨by omega, by decide⟩) ?_
  refine wp_iadd 29 rfl dX10_with_28 ?_
  refine wp_iret dX10_with_29 rfl ?_
  exact sm_ei rfl
theorem s_fillsPaired (hm : md ρ) (lv : Nat) (T : tx) (w : Nat → Int32) (hS : mS I lv T w) : sm_M G xX10_fillsPaired (d + 3) [.ref mM] I ρ (sm_Qv (fun I1 ρ1 => ρ1 = ρ ∧ mq I I1 ∧ I1 m_row = w ∧ ∀ k, k ≤ tx_D T → ∀ t, t < 32 → I1 m_leastFrom (32 * (tx_D T - k) + t) = pl_lf (r_unl T w) (tx_D T) (tx_C T) k t)) := by
  show sm_V G xX10_fillsPaired (d + 3) 0 [.ref mM, .retAddr 0, .retAddr 0, .retAddr 0, .retAddr 0] [] I ρ _
  have h1 := hS.2.1.1
  have hq := cp_q hS
  have hr := cp_row hS
  have hT0 : mT (M_cp I lv) lv T := hS.1.kept hq.1 (by decide) (by decide)
  obtain ⟨L, hL⟩ : ∃ L, L = pl_lf (r_unl T w) (tx_D T) (tx_C T) := ⟨_, rfl⟩
  have hL0 : ∀ t, L 0 t = nI 0 := fun t => by rw [hL]; rfl
  have hLs : ∀ k t, L (k + 1) t = pl_best (r_unl T w) (L k) (tx_D T - (k + 1)) t (tx_C T) := fun k t => by rw [hL]; rfl
  rw [← hL]
  refine wp_aload0 1 rfl dX10_fillsPaired_0 ?_
  refine wp_Ve0 4 rfl dX10_fillsPaired_1 kX10_copies lX10_323 (md_M hm) (nl rfl) (nl rfl) (s_copies hm lv hS.1.1.1 hS.1.1.2) ?_
  refine wp_iconst (nI 0) 5 rfl dX10_fillsPaired_4 (by decide) ?_
  refine wp_istore1 6 rfl dX10_fillsPaired_5 (by decide) rfl ?_
  generalize M_cp I lv = J at hq hr hT0 ⊢
  refine sm_for (P := fun t => ∀ J1 : sm_I, mf [m_leastFrom] [] J J1 → (∀ s, s < t → J1 m_leastFrom (32 * tx_D T + s) = nI 0) → sm_V G xX10_fillsPaired (d + 3) 6 [.ref mM, .int (nI t), .retAddr 0, .retAddr 0, .retAddr 0] [] J1 ρ _) 0 32 (nl rfl) ?_ (fun t _ ht ih => ?_) J mf.rf (fun s h => absurd h (Nat.not_lt_zero _))
  · intro J1 hf1 hz1
    have hT1 := hT0.kept hf1 (by decide) (by decide)
    refine wp_iload1 7 rfl dX10_fillsPaired_6 ?_
    refine wp_bipush (nI 32) 9 rfl dX10_fillsPaired_7 (by decide) ?_
    refine wp_icmp_ge 12 38 rfl rfl dX10_fillsPaired_9 (fun c9 => ?_) (fun c9 => absurd (by decide) c9)
    refine wp_aload0 39 rfl dX10_fillsPaired_38 ?_
    refine wp_getr 42 rfl dX10_fillsPaired_39 fX10_46_10 (md_M hm) (mp_doors hm) ?_
    refine wp_aload0 43 rfl dX10_fillsPaired_42 ?_
    refine wp_geti 46 rfl dX10_fillsPaired_43 fX10_233_10 (md_M hm) ?_
    refine wp_iald 47 rfl dX10_fillsPaired_46 (ms_doors hm) (lv) (hT1.1.1) (⟨hT1.1.2, by decide⟩) ?_
    rw [hT1.2.1.1]
    refine wp_iconst (nI 1) 48 rfl dX10_fillsPaired_47 (by decide) ?_
    refine wp_isub 49 rfl dX10_fillsPaired_48 ?_
    refine wp_istore1 50 rfl dX10_fillsPaired_49 (by decide) rfl ?_
    suffices hh : sm_V G xX10_fillsPaired (d + 3) 50 [.ref mM, .int (nI (tx_D T - 0) - nI 1), .retAddr 0, .retAddr 0, .retAddr 0] [] J1 ρ (sm_Qv (fun I1 ρ1 => ρ1 = ρ ∧ mq I I1 ∧ I1 m_row = w ∧ ∀ k, k ≤ tx_D T → ∀ t, t < 32 → I1 m_leastFrom (32 * (tx_D T - k) + t) = L k t)) from hh
    refine sm_for (P := fun k => ∀ J1 : sm_I, mf [m_leastFrom] [] J J1 → (∀ k', k' ≤ k → ∀ t, t < 32 → J1 m_leastFrom (32 * (tx_D T - k') + t) = L k' t) → sm_V G xX10_fillsPaired (d + 3) 50 [.ref mM, .int (nI (tx_D T - k) - nI 1), .retAddr 0, .retAddr 0, .retAddr 0] [] J1 ρ _) 0 (tx_D T) (Nat.zero_le _) ?_ (fun k _ hk ih => ?_) J1 hf1 (fun k' hk' t ht => ?_)
    · intro J1 hf1 hz1
      rw [Nat.sub_self]
      refine wp_iload1 51 rfl dX10_fillsPaired_50 ?_
      refine wp_if_lt 54 154 rfl rfl dX10_fillsPaired_51 (fun c51 => ?_) (fun c51 => absurd (pk_sneg (by decide) (by decide)) c51)
      refine wp_vret dX10_fillsPaired_154 rfl ?_
      have hrow : J1 m_row = w := by rw [hf1.1 m_row (by decide) (by decide)]; exact hr
      exact ⟨rfl, rfl, ⟨hq.1.tr (hf1.wk (by decide) (by decide)), by rw [hrow]; exact hS.2.2.2.1⟩, hrow, hz1⟩
    · intro J1 hf1 hz1
      rw [pk_sub (by omega), show tx_D T - k - 1 = tx_D T - (k + 1) by omega]
      refine wp_iload1 51 rfl dX10_fillsPaired_50 ?_
      refine wp_if_lt 54 154 rfl rfl dX10_fillsPaired_51 (fun c51 => absurd c51 (nI_pos (by omega))) (fun c51 => ?_)
      refine wp_iconst (nI 0) 55 rfl dX10_fillsPaired_54 (by decide) ?_
      refine wp_istore2 56 rfl dX10_fillsPaired_55 (by decide) rfl ?_
      refine sm_for (P := fun t => ∀ J1 : sm_I, mf [m_leastFrom] [] J J1 → (∀ k', k' ≤ k → ∀ t, t < 32 → J1 m_leastFrom (32 * (tx_D T - k') + t) = L k' t) → (∀ s, s < t → J1 m_leastFrom (32 * (tx_D T - (k + 1)) + s) = L (k + 1) s) → sm_V G xX10_fillsPaired (d + 3) 56 [.ref mM, .int (nI (tx_D T - (k + 1))), .int (nI t), .retAddr 0, .retAddr 0] [] J1 ρ _) 0 32 (nl rfl) ?_ (fun t _ ht ih2 => ?_) J1 hf1 hz1 (fun s h => absurd h (Nat.not_lt_zero _))
      · intro J1 hf1 hz1 hn1
        have ih := ih J1 hf1 (fun k' hk' t ht => by
          by_cases e : k' = k + 1
          · rw [e]; exact hn1 t ht
          · exact hz1 k' (by omega) t ht)
        refine wp_iload2 57 rfl dX10_fillsPaired_56 ?_
        refine wp_bipush (nI 32) 59 rfl dX10_fillsPaired_57 (by decide) ?_
        refine wp_icmp_ge 62 148 rfl rfl dX10_fillsPaired_59 (fun c59 => ?_) (fun c59 => absurd (by decide) c59)
        refine wp_iinc1 151 rfl (-1) (by decide) dX10_fillsPaired_148 (by decide) rfl ?_
        refine wp_goto 50 rfl dX10_fillsPaired_151 ?_
        rw [i_m1]
        exact wp_weakK ih ⟨Or.inr rfl, Or.inr rfl, Or.inl rfl, Or.inr rfl, Or.inr rfl, trivial⟩
      · intro J1 hf1 hz1 hn1
        have hT1 := hT0.kept hf1 (by decide) (by decide)
        have hrow : J1 m_row = w := by rw [hf1.1 m_row (by decide) (by decide)]; exact hr
        have e32 : 32 * (tx_D T - (k + 1)) + 32 = 32 * (tx_D T - k) := by omega
        have hwi : ∀ c, c < tx_C T → pl_with (r_unl T (J1 m_row)) (fun j => J1 m_leastFrom (32 * (tx_D T - (k + 1)) + 32 + j)) (tx_D T - (k + 1)) c t = pl_with (r_unl T w) (L k) (tx_D T - (k + 1)) c t := fun c hc => by
          unfold pl_with
          rw [hrow, e32]
          show _ + J1 m_leastFrom (32 * (tx_D T - k) + (t ||| 2 ^ c)) = _
          rw [hz1 k (Nat.le_refl _) _ (z_bor ht (show c < 5 by omega)).2]
        refine wp_iload2 57 rfl dX10_fillsPaired_56 ?_
        refine wp_bipush (nI 32) 59 rfl dX10_fillsPaired_57 (by decide) ?_
        refine wp_icmp_ge 62 148 rfl rfl dX10_fillsPaired_59 (fun c59 => absurd c59 (nI_ge ht (by decide))) (fun c59 => ?_)
        refine wp_aload0 63 rfl dX10_fillsPaired_62 ?_
        refine wp_getr 66 rfl dX10_fillsPaired_63 fX10_131_10 (md_M hm) (mp_leastFrom hm) ?_
        refine wp_bipush (nI 32) 68 rfl dX10_fillsPaired_66 (by decide) ?_
        refine wp_iload1 69 rfl dX10_fillsPaired_68 ?_
        refine wp_imul 70 rfl dX10_fillsPaired_69 ?_
        refine wp_bipush (nI 32) 72 rfl dX10_fillsPaired_70 (by decide) ?_
        refine wp_iadd 73 rfl dX10_fillsPaired_72 ?_
        refine wp_iload2 74 rfl dX10_fillsPaired_73 ?_
        refine wp_iadd 75 rfl dX10_fillsPaired_74 ?_
        refine wp_iald 76 rfl dX10_fillsPaired_75 (ms_leastFrom hm) (32 * (tx_D T - (k + 1)) + 32 + t) (by first | rfl | simp only [pk_mul, nI_add]) (⟨by omega, by decide⟩) ?_
        rw [e32, hz1 k (Nat.le_refl _) t ht]
        refine wp_istore3 77 rfl dX10_fillsPaired_76 (by decide) rfl ?_
        refine wp_iconst (nI 0) 78 rfl dX10_fillsPaired_77 (by decide) ?_
        refine wp_istore4 80 rfl dX10_fillsPaired_78 (by decide) rfl ?_
        refine sm_for (P := fun c => sm_V G xX10_fillsPaired (d + 3) 80 [.ref mM, .int (nI (tx_D T - (k + 1))), .int (nI t), .int (pl_best (r_unl T w) (L k) (tx_D T - (k + 1)) t c), .int (nI c)] [] J1 ρ _) 0 (tx_C T) (Nat.zero_le _) ?_ (fun c _ hc ih3 => ?_)
        · rw [← hLs]
          refine wp_iload4 82 rfl dX10_fillsPaired_80 ?_
          refine wp_aload0 83 rfl dX10_fillsPaired_82 ?_
          refine wp_getr 86 rfl dX10_fillsPaired_83 fX10_52_10 (md_M hm) (mp_callers hm) ?_
          refine wp_aload0 87 rfl dX10_fillsPaired_86 ?_
          refine wp_geti 90 rfl dX10_fillsPaired_87 fX10_233_10 (md_M hm) ?_
          refine wp_iald 91 rfl dX10_fillsPaired_90 (ms_callers hm) (lv) (hT1.1.1) (⟨hT1.1.2, by decide⟩) ?_
          refine wp_icmp_ge 94 130 rfl rfl dX10_fillsPaired_91 (fun c91 => ?_) (fun c91 => absurd (by rw [hT1.2.1.2.1]; exact nI_le (Nat.le_refl _) (by omega)) c91)
          refine wp_aload0 131 rfl dX10_fillsPaired_130 ?_
          refine wp_getr 134 rfl dX10_fillsPaired_131 fX10_131_10 (md_M hm) (mp_leastFrom hm) ?_
          refine wp_bipush (nI 32) 136 rfl dX10_fillsPaired_134 (by decide) ?_
          refine wp_iload1 137 rfl dX10_fillsPaired_136 ?_
          refine wp_imul 138 rfl dX10_fillsPaired_137 ?_
          refine wp_iload2 139 rfl dX10_fillsPaired_138 ?_
          refine wp_iadd 140 rfl dX10_fillsPaired_139 ?_
          refine wp_iload3 141 rfl dX10_fillsPaired_140 ?_
          refine wp_iast 142 rfl dX10_fillsPaired_141 (ms_leastFrom hm) (32 * (tx_D T - (k + 1)) + t) (by first | rfl | simp only [pk_mul, nI_add]) (⟨by omega, by decide⟩) ?_
          refine wp_iincN2 145 rfl dX10_fillsPaired_142 (by decide) rfl ?_
          refine wp_goto 56 rfl dX10_fillsPaired_145 ?_
          refine wp_weakK (ih2 _ (hf1.tr (mf.u (by decide) (by decide))) (fun k' hk' s hs => ?_) (fun s hs => ?_)) ⟨Or.inr rfl, Or.inr rfl, Or.inr rfl, Or.inl rfl, Or.inl rfl, trivial⟩
          · rw [sm_u_eq, pk_un (by omega)]
            exact hz1 k' hk' s hs
          · rw [sm_u_eq]
            by_cases e : s = t
            · rw [e, pk_us]
            · rw [pk_un (by omega)]
              exact hn1 s (by omega)
        · have es : pl_best (r_unl T w) (L k) (tx_D T - (k + 1)) t (c + 1) = if t / 2 ^ c % 2 = 0 ∧ pl_with (r_unl T w) (L k) (tx_D T - (k + 1)) c t < pl_best (r_unl T w) (L k) (tx_D T - (k + 1)) t c then pl_with (r_unl T w) (L k) (tx_D T - (k + 1)) c t else pl_best (r_unl T w) (L k) (tx_D T - (k + 1)) t c := rfl
          rw [es] at ih3
          refine wp_iload4 82 rfl dX10_fillsPaired_80 ?_
          refine wp_aload0 83 rfl dX10_fillsPaired_82 ?_
          refine wp_getr 86 rfl dX10_fillsPaired_83 fX10_52_10 (md_M hm) (mp_callers hm) ?_
          refine wp_aload0 87 rfl dX10_fillsPaired_86 ?_
          refine wp_geti 90 rfl dX10_fillsPaired_87 fX10_233_10 (md_M hm) ?_
          refine wp_iald 91 rfl dX10_fillsPaired_90 (ms_callers hm) (lv) (hT1.1.1) (⟨hT1.1.2, by decide⟩) ?_
          refine wp_icmp_ge 94 130 rfl rfl dX10_fillsPaired_91 (fun c91 => absurd c91 (by rw [hT1.2.1.2.1]; exact nI_ge hc (by omega))) (fun c91 => ?_)
          refine wp_iload2 95 rfl dX10_fillsPaired_94 ?_
          refine wp_iload4 97 rfl dX10_fillsPaired_95 ?_
          refine wp_ishr 98 rfl dX10_fillsPaired_97 ?_
          refine wp_iconst (nI 1) 99 rfl dX10_fillsPaired_98 (by decide) ?_
          refine wp_iand 100 rfl dX10_fillsPaired_99 ?_
          rw [z_bis ht (show c < 5 by omega)]
          by_cases hb : t / 2 ^ c % 2 = 0
          · rw [hb]
            refine wp_if_ne 103 124 rfl rfl dX10_fillsPaired_100 (fun c100 => absurd (rfl) c100) (fun c100 => ?_)
            refine wp_aload0 104 rfl dX10_fillsPaired_103 ?_
            refine wp_iload1 105 rfl dX10_fillsPaired_104 ?_
            refine wp_iload4 107 rfl dX10_fillsPaired_105 ?_
            refine wp_iload2 108 rfl dX10_fillsPaired_107 ?_
            refine wp_Ve3 111 rfl dX10_fillsPaired_108 kX10_with lX10_439 (md_M hm) (nl rfl) (nl rfl) (s_with hm lv T hT1 hS.2.1 (tx_D T - (k + 1)) c t (by omega) hc ht) ?_
            rw [hwi c hc]
            refine wp_iload3 112 rfl dX10_fillsPaired_111 ?_
            refine wp_icmp_ge 115 124 rfl rfl dX10_fillsPaired_112 (fun c112 => ?_) (fun c112 => ?_)
            · rw [if_neg (fun h => i_lt_le c112 h.2)] at ih3
              refine wp_iincN4 127 rfl dX10_fillsPaired_124 (by decide) rfl ?_
              refine wp_goto 80 rfl dX10_fillsPaired_127 ?_
              exact ih3
            · rw [if_pos ⟨hb, i_nle c112⟩] at ih3
              refine wp_aload0 116 rfl dX10_fillsPaired_115 ?_
              refine wp_iload1 117 rfl dX10_fillsPaired_116 ?_
              refine wp_iload4 119 rfl dX10_fillsPaired_117 ?_
              refine wp_iload2 120 rfl dX10_fillsPaired_119 ?_
              refine wp_Ve3 123 rfl dX10_fillsPaired_120 kX10_with lX10_439 (md_M hm) (nl rfl) (nl rfl) (s_with hm lv T hT1 hS.2.1 (tx_D T - (k + 1)) c t (by omega) hc ht) ?_
              rw [hwi c hc]
              refine wp_istore3 124 rfl dX10_fillsPaired_123 (by decide) rfl ?_
              refine wp_iincN4 127 rfl dX10_fillsPaired_124 (by decide) rfl ?_
              refine wp_goto 80 rfl dX10_fillsPaired_127 ?_
              exact ih3
          · rw [if_neg (fun h => hb h.1)] at ih3
            refine wp_if_ne 103 124 rfl rfl dX10_fillsPaired_100 (fun c100 => ?_) (fun c100 => absurd c100 (nI_ne0 (by omega) (by omega)))
            refine wp_iincN4 127 rfl dX10_fillsPaired_124 (by decide) rfl ?_
            refine wp_goto 80 rfl dX10_fillsPaired_127 ?_
            exact ih3
    · rw [show k' = 0 by omega, hL0]
      exact hz1 t ht
  · intro J1 hf1 hz1
    have hT1 := hT0.kept hf1 (by decide) (by decide)
    refine wp_iload1 7 rfl dX10_fillsPaired_6 ?_
    refine wp_bipush (nI 32) 9 rfl dX10_fillsPaired_7 (by decide) ?_
    refine wp_icmp_ge 12 38 rfl rfl dX10_fillsPaired_9 (fun c9 => absurd c9 (nI_ge ht (by decide))) (fun c9 => ?_)
    refine wp_aload0 13 rfl dX10_fillsPaired_12 ?_
    refine wp_getr 16 rfl dX10_fillsPaired_13 fX10_131_10 (md_M hm) (mp_leastFrom hm) ?_
    refine wp_bipush (nI 32) 18 rfl dX10_fillsPaired_16 (by decide) ?_
    refine wp_aload0 19 rfl dX10_fillsPaired_18 ?_
    refine wp_getr 22 rfl dX10_fillsPaired_19 fX10_46_10 (md_M hm) (mp_doors hm) ?_
    refine wp_aload0 23 rfl dX10_fillsPaired_22 ?_
    refine wp_geti 26 rfl dX10_fillsPaired_23 fX10_233_10 (md_M hm) ?_
    refine wp_iald 27 rfl dX10_fillsPaired_26 (ms_doors hm) (lv) (hT1.1.1) (⟨hT1.1.2, by decide⟩) ?_
    rw [hT1.2.1.1]
    refine wp_imul 28 rfl dX10_fillsPaired_27 ?_
    refine wp_iload1 29 rfl dX10_fillsPaired_28 ?_
    refine wp_iadd 30 rfl dX10_fillsPaired_29 ?_
    refine wp_iconst (nI 0) 31 rfl dX10_fillsPaired_30 (by decide) ?_
    refine wp_iast 32 rfl dX10_fillsPaired_31 (ms_leastFrom hm) (32 * tx_D T + t) (by first | rfl | simp only [pk_mul, nI_add]) (⟨by omega, by decide⟩) ?_
    refine wp_iincN1 35 rfl dX10_fillsPaired_32 (by decide) rfl ?_
    refine wp_goto 6 rfl dX10_fillsPaired_35 ?_
    refine ih _ (hf1.tr (mf.u (by decide) (by decide))) (fun s hs => ?_)
    rw [sm_u_eq]
    by_cases e : s = t
    · rw [e, pk_us]
    · rw [pk_un (by omega)]
      exact hz1 s (by omega)
theorem s_lowestFor (hm : md ρ) (lv : Nat) (T : tx) (w : Nat → Int32) (hT : mT I lv T) (ht : tok T) (hw : I m_row = w) (hL : ∀ k, k ≤ tx_D T → ∀ t, t < 32 → I m_leastFrom (32 * (tx_D T - k) + t) = pl_lf (r_unl T w) (tx_D T) (tx_C T) k t) (dd t : Nat) (hd : dd < tx_D T) (h32 : t < 32) : sm_M G xX10_lowestFor (d + 3) [.ref mM, .int (nI dd), .int (nI t)] I ρ (sm_Qe (some (.int (pl_o (pl_low (r_unl T w) (tx_D T) (tx_C T) dd t)))) I ρ) := by
  show sm_V G xX10_lowestFor (d + 3) 0 [.ref mM, .int (nI dd), .int (nI t), .retAddr 0] [] I ρ _
  have h1 := ht.1
  obtain ⟨L, hLL⟩ : ∃ L, L = pl_lf (r_unl T w) (tx_D T) (tx_C T) := ⟨_, rfl⟩
  unfold pl_low
  rw [← hLL] at hL ⊢
  have hwi : ∀ c, c < tx_C T → pl_with (r_unl T (I m_row)) (fun j => I m_leastFrom (32 * dd + 32 + j)) dd c t = pl_with (r_unl T w) (L (tx_D T - (dd + 1))) dd c t := fun c hc => by
    unfold pl_with
    rw [hw]
    show _ + I m_leastFrom (32 * dd + 32 + (t ||| 2 ^ c)) = _
    rw [← hL _ (by omega) _ (z_bor h32 (show c < 5 by omega)).2, show 32 * (tx_D T - (tx_D T - (dd + 1))) = 32 * dd + 32 by omega]
  have hl0 : I m_leastFrom (32 * dd + t) = L (tx_D T - dd) t := by
    rw [← hL _ (by omega) _ h32, show 32 * (tx_D T - (tx_D T - dd)) = 32 * dd by omega]
  refine wp_iconst (nI 0) 1 rfl dX10_lowestFor_0 (by decide) ?_
  refine wp_istore3 2 rfl dX10_lowestFor_1 (by decide) rfl ?_
  obtain ⟨F, hF⟩ : ∃ F : Nat → Nat → Option Nat, F = z_fst (fun c => t / 2 ^ c % 2 = 0 ∧ pl_with (r_unl T w) (L (tx_D T - (dd + 1))) dd c t = L (tx_D T - dd) t) := ⟨_, rfl⟩
  have hF0 : ∀ a, F 0 a = none := fun a => by rw [hF]; rfl
  have hFs : ∀ k a, F (k + 1) a = if t / 2 ^ a % 2 = 0 ∧ pl_with (r_unl T w) (L (tx_D T - (dd + 1))) dd a t = L (tx_D T - dd) t then some a else F k (a + 1) := fun k a => by rw [hF]; rfl
  rw [← hF]
  refine sm_for (P := fun c => sm_V G xX10_lowestFor (d + 3) 2 [.ref mM, .int (nI dd), .int (nI t), .int (nI c)] [] I ρ (sm_Qe (some (.int (pl_o (F (tx_C T - c) c)))) I ρ)) 0 (tx_C T) (Nat.zero_le _) ?_ (fun c _ hc ih => ?_)
  · rw [Nat.sub_self, hF0]
    refine wp_iload3 3 rfl dX10_lowestFor_2 ?_
    refine wp_aload0 4 rfl dX10_lowestFor_3 ?_
    refine wp_getr 7 rfl dX10_lowestFor_4 fX10_52_10 (md_M hm) (mp_callers hm) ?_
    refine wp_aload0 8 rfl dX10_lowestFor_7 ?_
    refine wp_geti 11 rfl dX10_lowestFor_8 fX10_233_10 (md_M hm) ?_
    refine wp_iald 12 rfl dX10_lowestFor_11 (ms_callers hm) (lv) (hT.1.1) (⟨hT.1.2, by decide⟩) ?_
    refine wp_icmp_ge 15 52 rfl rfl dX10_lowestFor_12 (fun c12 => ?_) (fun c12 => absurd (by rw [hT.2.1.2.1]; exact nI_le (Nat.le_refl _) (by omega)) c12)
    refine wp_bipush (-2) 54 rfl dX10_lowestFor_52 (by decide) ?_
    refine wp_iret dX10_lowestFor_54 rfl ?_
    exact sm_ei rfl
  · rw [show tx_C T - c = (tx_C T - (c + 1)) + 1 by omega, hFs]
    refine wp_iload3 3 rfl dX10_lowestFor_2 ?_
    refine wp_aload0 4 rfl dX10_lowestFor_3 ?_
    refine wp_getr 7 rfl dX10_lowestFor_4 fX10_52_10 (md_M hm) (mp_callers hm) ?_
    refine wp_aload0 8 rfl dX10_lowestFor_7 ?_
    refine wp_geti 11 rfl dX10_lowestFor_8 fX10_233_10 (md_M hm) ?_
    refine wp_iald 12 rfl dX10_lowestFor_11 (ms_callers hm) (lv) (hT.1.1) (⟨hT.1.2, by decide⟩) ?_
    refine wp_icmp_ge 15 52 rfl rfl dX10_lowestFor_12 (fun c12 => absurd c12 (by rw [hT.2.1.2.1]; exact nI_ge hc (by omega))) (fun c12 => ?_)
    refine wp_iload2 16 rfl dX10_lowestFor_15 ?_
    refine wp_iload3 17 rfl dX10_lowestFor_16 ?_
    refine wp_ishr 18 rfl dX10_lowestFor_17 ?_
    refine wp_iconst (nI 1) 19 rfl dX10_lowestFor_18 (by decide) ?_
    refine wp_iand 20 rfl dX10_lowestFor_19 ?_
    rw [z_bis h32 (show c < 5 by omega)]
    by_cases hb : t / 2 ^ c % 2 = 0
    · rw [hb]
      refine wp_if_ne 23 46 rfl rfl dX10_lowestFor_20 (fun c20 => absurd (rfl) c20) (fun c20 => ?_)
      refine wp_aload0 24 rfl dX10_lowestFor_23 ?_
      refine wp_iload1 25 rfl dX10_lowestFor_24 ?_
      refine wp_iload3 26 rfl dX10_lowestFor_25 ?_
      refine wp_iload2 27 rfl dX10_lowestFor_26 ?_
      refine wp_Ve3 30 rfl dX10_lowestFor_27 kX10_with lX10_439 (md_M hm) (nl rfl) (nl rfl) (s_with hm lv T hT ht dd c t hd hc h32) ?_
      rw [hwi c hc]
      refine wp_aload0 31 rfl dX10_lowestFor_30 ?_
      refine wp_getr 34 rfl dX10_lowestFor_31 fX10_131_10 (md_M hm) (mp_leastFrom hm) ?_
      refine wp_bipush (nI 32) 36 rfl dX10_lowestFor_34 (by decide) ?_
      refine wp_iload1 37 rfl dX10_lowestFor_36 ?_
      refine wp_imul 38 rfl dX10_lowestFor_37 ?_
      refine wp_iload2 39 rfl dX10_lowestFor_38 ?_
      refine wp_iadd 40 rfl dX10_lowestFor_39 ?_
      refine wp_iald 41 rfl dX10_lowestFor_40 (ms_leastFrom hm) (32 * dd + t) (by first | rfl | simp only [pk_mul, nI_add]) (⟨by omega, by decide⟩) ?_
      rw [hl0]
      refine wp_icmp_ne 44 46 rfl rfl dX10_lowestFor_41 (fun c41 => ?_) (fun c41 => ?_)
      · rw [if_neg (fun h => c41 h.2)]
        refine wp_iincN3 49 rfl dX10_lowestFor_46 (by decide) rfl ?_
        refine wp_goto 2 rfl dX10_lowestFor_49 ?_
        exact ih
      · rw [if_pos ⟨rfl, c41⟩]
        refine wp_iload3 45 rfl dX10_lowestFor_44 ?_
        refine wp_iret dX10_lowestFor_45 rfl ?_
        exact sm_ei rfl
    · rw [if_neg (fun h => hb h.1)]
      refine wp_if_ne 23 46 rfl rfl dX10_lowestFor_20 (fun c20 => ?_) (fun c20 => absurd c20 (nI_ne0 (by omega) (by omega)))
      refine wp_iincN3 49 rfl dX10_lowestFor_46 (by decide) rfl ?_
      refine wp_goto 2 rfl dX10_lowestFor_49 ?_
      exact ih
theorem q_paired (hm : md ρ) (lv : Nat) (T : tx) (w : Nat → Int32) (hS : mS I lv T w) (i : Int32) : sm_M G xX10_paired (d + 4) [.ref mM, .int i] I ρ (mPost I ρ (o_paired T w i)) := by
  show sm_V G xX10_paired (d + 4) 0 [.ref mM, .int i, .retAddr 0, .retAddr 0, .retAddr 0, .retAddr 0] [] I ρ _
  have h1 := hS.2.1.1
  have go : (i = -1 ∨ ∃ j, j < tx_D T ∧ i = nI j) → sm_V G xX10_paired (d + 4) 15 [.ref mM, .int i, .retAddr 0, .retAddr 0, .retAddr 0, .retAddr 0] [] I ρ (mPost I ρ (o_paired T w i)) := by
    intro hi
    refine wp_aload0 16 rfl dX10_paired_15 ?_
    refine wp_Vv0 19 rfl dX10_paired_16 kX10_fillsPaired lX10_442 (md_M hm) (nl rfl) (nl rfl) (s_fillsPaired hm lv T w hS) (fun J ρ1 hq => ?_)
    obtain ⟨rfl, hq, hrow, hL⟩ := hq
    have hT := (hS.q hq).1
    have key : sm_V G xX10_paired (d + 4) 62 [.ref mM, .int i, .int (nI (if tx_D T < tx_C T then tx_D T else tx_C T)), .retAddr 0, .retAddr 0, .retAddr 0] [] J ρ1 (mPost I ρ1 (o_paired T w i)) := by
      unfold o_paired
      refine wp_iload1 63 rfl dX10_paired_62 ?_
      refine wp_iconst (-1) 64 rfl dX10_paired_63 (by decide) ?_
      refine wp_icmp_ne 67 80 rfl rfl dX10_paired_64 (fun c64 => ?_) (fun c64 => ?_)
      · rw [if_neg c64]
        obtain ⟨ii, hii, rfl⟩ : ∃ j, j < tx_D T ∧ i = nI j := hi.resolve_left c64
        rw [z_ix_n hii (by omega)]
        show sm_V G xX10_paired (d + 4) 80 _ [] J ρ1 (mPost I ρ1 (pl_o (pl_low (r_unl T w) (tx_D T) (tx_C T) ii (pl_tk (r_unl T w) (tx_D T) (tx_C T) ii))))
        refine wp_iconst (nI 0) 81 rfl dX10_paired_80 (by decide) ?_
        refine wp_istore3 82 rfl dX10_paired_81 (by decide) rfl ?_
        refine wp_iconst (nI 0) 83 rfl dX10_paired_82 (by decide) ?_
        refine wp_istore4 85 rfl dX10_paired_83 (by decide) rfl ?_
        refine sm_for (P := fun k => sm_V G xX10_paired (d + 4) 85 [.ref mM, .int (nI ii), .int (nI (if tx_D T < tx_C T then tx_D T else tx_C T)), .int (nI (pl_tk (r_unl T w) (tx_D T) (tx_C T) k)), .int (nI k), .retAddr 0] [] J ρ1 _) 0 ii (Nat.zero_le _) ?_ (fun k _ hk ih => ?_)
        · refine wp_iload4 87 rfl dX10_paired_85 ?_
          refine wp_iload1 88 rfl dX10_paired_87 ?_
          refine wp_icmp_ge 91 118 rfl rfl dX10_paired_88 (fun c88 => ?_) (fun c88 => absurd (nI_le (Nat.le_refl _) (by omega)) c88)
          refine wp_aload0 119 rfl dX10_paired_118 ?_
          refine wp_iload1 120 rfl dX10_paired_119 ?_
          refine wp_iload3 121 rfl dX10_paired_120 ?_
          refine wp_Ve2 124 rfl dX10_paired_121 kX10_lowestFor lX10_445 (md_M hm) (nl rfl) (nl rfl) (s_lowestFor hm lv T w hT hS.2.1 hrow hL ii _ hii (pl_tk_lt _ _ _ h1.2.1 _)) ?_
          refine wp_iret dX10_paired_124 rfl ?_
          exact sm_qi hq rfl
        · have ht := pl_tk_lt (r_unl T w) (tx_D T) (tx_C T) h1.2.1 k
          have es : pl_tk (r_unl T w) (tx_D T) (tx_C T) (k + 1) = (match pl_low (r_unl T w) (tx_D T) (tx_C T) k (pl_tk (r_unl T w) (tx_D T) (tx_C T) k) with
            | none => pl_tk (r_unl T w) (tx_D T) (tx_C T) k
            | some c => pl_tk (r_unl T w) (tx_D T) (tx_C T) k ||| 2 ^ c) := rfl
          rw [es] at ih
          refine wp_iload4 87 rfl dX10_paired_85 ?_
          refine wp_iload1 88 rfl dX10_paired_87 ?_
          refine wp_icmp_ge 91 118 rfl rfl dX10_paired_88 (fun c88 => absurd c88 (nI_ge hk (by omega))) (fun c88 => ?_)
          refine wp_aload0 92 rfl dX10_paired_91 ?_
          refine wp_iload4 94 rfl dX10_paired_92 ?_
          refine wp_iload3 95 rfl dX10_paired_94 ?_
          refine wp_Ve2 98 rfl dX10_paired_95 kX10_lowestFor lX10_445 (md_M hm) (nl rfl) (nl rfl) (s_lowestFor hm lv T w hT hS.2.1 hrow hL k _ (by omega) ht) ?_
          cases hc : pl_low (r_unl T w) (tx_D T) (tx_C T) k (pl_tk (r_unl T w) (tx_D T) (tx_C T) k) with
          | none =>
            rw [hc] at ih
            refine wp_istore5 100 rfl dX10_paired_98 (by decide) rfl ?_
            refine wp_iload5 102 rfl dX10_paired_100 ?_
            refine wp_if_lt 105 112 rfl rfl dX10_paired_102 (fun c102 => ?_) (fun c102 => absurd (by decide) c102)
            refine wp_iincN4 115 rfl dX10_paired_112 (by decide) rfl ?_
            refine wp_goto 85 rfl dX10_paired_115 ?_
            exact wp_weakK ih ⟨Or.inr rfl, Or.inr rfl, Or.inr rfl, Or.inr rfl, Or.inr rfl, Or.inl rfl, trivial⟩
          | some c =>
            rw [hc] at ih
            have hc5 := z_fst_lt hc
            have hb := z_bor ht (show c < 5 by omega)
            show sm_V G xX10_paired (d + 4) 98 _ [.int (nI c)] J ρ1 _
            refine wp_istore5 100 rfl dX10_paired_98 (by decide) rfl ?_
            refine wp_iload5 102 rfl dX10_paired_100 ?_
            refine wp_if_lt 105 112 rfl rfl dX10_paired_102 (fun c102 => absurd c102 (nI_pos (by omega))) (fun c102 => ?_)
            refine wp_iload3 106 rfl dX10_paired_105 ?_
            refine wp_iconst (nI 1) 107 rfl dX10_paired_106 (by decide) ?_
            refine wp_iload5 109 rfl dX10_paired_107 ?_
            refine wp_ishl 110 rfl dX10_paired_109 ?_
            refine wp_ior 111 rfl dX10_paired_110 ?_
            rw [hb.1]
            refine wp_istore3 112 rfl dX10_paired_111 (by decide) rfl ?_
            refine wp_iincN4 115 rfl dX10_paired_112 (by decide) rfl ?_
            refine wp_goto 85 rfl dX10_paired_115 ?_
            exact wp_weakK ih ⟨Or.inr rfl, Or.inr rfl, Or.inr rfl, Or.inr rfl, Or.inr rfl, Or.inl rfl, trivial⟩
      · rw [if_pos c64]
        refine wp_aload0 68 rfl dX10_paired_67 ?_
        refine wp_getr 71 rfl dX10_paired_68 fX10_131_10 (md_M hm) (mp_leastFrom hm) ?_
        refine wp_iconst (nI 0) 72 rfl dX10_paired_71 (by decide) ?_
        refine wp_iald 73 rfl dX10_paired_72 (ms_leastFrom hm) (0) (by first | rfl | simp only [pk_mul, nI_add]) (⟨by omega, by decide⟩) ?_
        refine wp_sipush (nI 10000) 76 rfl dX10_paired_73 (by decide) ?_
        refine wp_iload2 77 rfl dX10_paired_76 ?_
        refine wp_imul 78 rfl dX10_paired_77 ?_
        refine wp_iadd 79 rfl dX10_paired_78 ?_
        refine wp_iret dX10_paired_79 rfl ?_
        have e0 := hL (tx_D T) (Nat.le_refl _) 0 (by decide)
        rw [Nat.sub_self] at e0
        rw [← e0]
        exact sm_qi hq rfl
    refine wp_aload0 20 rfl dX10_paired_19 ?_
    refine wp_getr 23 rfl dX10_paired_20 fX10_46_10 (md_M hm) (mp_doors hm) ?_
    refine wp_aload0 24 rfl dX10_paired_23 ?_
    refine wp_geti 27 rfl dX10_paired_24 fX10_233_10 (md_M hm) ?_
    refine wp_iald 28 rfl dX10_paired_27 (ms_doors hm) (lv) (hT.1.1) (⟨hT.1.2, by decide⟩) ?_
    refine wp_aload0 29 rfl dX10_paired_28 ?_
    refine wp_getr 32 rfl dX10_paired_29 fX10_52_10 (md_M hm) (mp_callers hm) ?_
    refine wp_aload0 33 rfl dX10_paired_32 ?_
    refine wp_geti 36 rfl dX10_paired_33 fX10_233_10 (md_M hm) ?_
    refine wp_iald 37 rfl dX10_paired_36 (ms_callers hm) (lv) (hT.1.1) (⟨hT.1.2, by decide⟩) ?_
    rw [hT.2.1.1, hT.2.1.2.1]
    by_cases hDC : tx_D T < tx_C T
    · rw [if_pos hDC] at key
      refine wp_icmp_ge 40 52 rfl rfl dX10_paired_37 (fun c37 => absurd c37 (nI_ge hDC (by omega))) (fun c37 => ?_)
      refine wp_aload0 41 rfl dX10_paired_40 ?_
      refine wp_getr 44 rfl dX10_paired_41 fX10_46_10 (md_M hm) (mp_doors hm) ?_
      refine wp_aload0 45 rfl dX10_paired_44 ?_
      refine wp_geti 48 rfl dX10_paired_45 fX10_233_10 (md_M hm) ?_
      refine wp_iald 49 rfl dX10_paired_48 (ms_doors hm) (lv) (hT.1.1) (⟨hT.1.2, by decide⟩) ?_
      refine wp_goto 61 rfl dX10_paired_49 ?_
      rw [hT.2.1.1]
      refine wp_istore2 62 rfl dX10_paired_61 (by decide) rfl ?_
      exact key
    · rw [if_neg hDC] at key
      refine wp_icmp_ge 40 52 rfl rfl dX10_paired_37 (fun c37 => ?_) (fun c37 => absurd (nI_le (by omega) (by omega)) c37)
      refine wp_aload0 53 rfl dX10_paired_52 ?_
      refine wp_getr 56 rfl dX10_paired_53 fX10_52_10 (md_M hm) (mp_callers hm) ?_
      refine wp_aload0 57 rfl dX10_paired_56 ?_
      refine wp_geti 60 rfl dX10_paired_57 fX10_233_10 (md_M hm) ?_
      refine wp_iald 61 rfl dX10_paired_60 (ms_callers hm) (lv) (hT.1.1) (⟨hT.1.2, by decide⟩) ?_
      rw [hT.2.1.2.1]
      refine wp_istore2 62 rfl dX10_paired_61 (by decide) rfl ?_
      exact key
  refine wp_iload1 1 rfl dX10_paired_0 ?_
  refine wp_iconst (-1) 2 rfl dX10_paired_1 (by decide) ?_
  refine wp_icmp_eq 5 15 rfl rfl dX10_paired_2 (fun c2 => ?_) (fun c2 => ?_)
  · exact go (Or.inl c2)
  · refine wp_aload0 6 rfl dX10_paired_5 ?_
    refine wp_iload1 7 rfl dX10_paired_6 ?_
    refine wp_Ve1 10 rfl dX10_paired_7 kX10_isDoor lX10_387 (md_M hm) (nl rfl) (nl rfl) (s_isDoor hm lv i hS.1.1.1 hS.1.1.2) ?_
    rw [hS.1.2.1.1]
    refine wp_if_ne 13 15 rfl rfl dX10_paired_10 (fun c10 => ?_) (fun c10 => ?_)
    · exact go (Or.inr ((z_in_iff (by omega)).mp (z_b_ne.mp c10)))
    · refine wp_iconst (-1) 14 rfl dX10_paired_13 (by decide) ?_
      refine wp_iret dX10_paired_14 rfl ?_
      refine sm_qi (mq.rf hS.2.2.2.2) ?_
      unfold o_paired
      rw [if_neg c2, z_ix_no (by omega) (fun h => z_b_eq.mp c10 ((z_in_iff (by omega)).mpr h))]
end M18
