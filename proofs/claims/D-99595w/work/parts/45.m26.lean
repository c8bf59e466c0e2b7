/-! ===== cut ===== -/
set_option maxRecDepth 100000
section M26
variable {G : sm_G} {d : Nat} {I : sm_I} {ρ : sm_R}
theorem s_cut (hm : md ρ) (hy : mKy ρ) (n : Nat) (b : Nat → Int32) (h4 : I mM 4 = nI n) (hn : n ≤ 2000) (hb : ∀ j, j < n → I m_text j = b j) : sm_M G xX10_cut (d + 2) [.ref mM] I ρ (sm_Qv (fun I1 ρ1 => mf mTk [10] I I1 ∧ kyF [m_tName] ρ ρ1 ∧ ∃ K, K ≤ 401 ∧ kyR I1 ρ1 n b K ∧ ∀ k, k ≤ 400 → (∀ j, j < k → ¬ (ky_tk n b j).1 = 0) → k < K)) := by
  show sm_V G xX10_cut (d + 2) 0 [.ref mM, .retAddr 0, .retAddr 0, .retAddr 0, .retAddr 0, .retAddr 0, .retAddr 0, .retAddr 0] [] I ρ _
  refine wp_aload0 1 rfl dX10_cut_0 ?_
  refine wp_iconst (nI 0) 2 rfl dX10_cut_1 (by decide) ?_
  refine wp_puti 5 rfl dX10_cut_2 pX10_181_10 (md_M hm) ⟨rfl, rfl⟩ ?_
  refine wp_iconst (nI 0) 6 rfl dX10_cut_5 (by decide) ?_
  refine wp_istore1 7 rfl dX10_cut_6 (by decide) rfl ?_
  have main : ∀ m i K : Nat, ∀ (J : sm_I) (σ : sm_R), n - i ≤ m → i ≤ n → K ≤ 401 → mf mTk [10] I J → kyF [m_tName] ρ σ → kyR J σ n b K → ky_sk (ky_c n b) i = ky_pos n (ky_c n b) K → sm_V G xX10_cut (d + 2) 7 [.ref mM, .int (nI i), .retAddr 0, .retAddr 0, .retAddr 0, .retAddr 0, .retAddr 0, .retAddr 0] [] J σ (sm_Qv (fun I1 ρ1 => mf mTk [10] I I1 ∧ kyF [m_tName] ρ ρ1 ∧ ∃ K, K ≤ 401 ∧ kyR I1 ρ1 n b K ∧ ∀ k, k ≤ 400 → (∀ j, j < k → ¬ (ky_tk n b j).1 = 0) → k < K)) := by
    intro m
    induction m with
    | zero =>
      intro i K J σ hm0 hi hK hf hF hR hsk
      have hm := hF.mdl hm
      have hin : i = n := by omega
      subst hin
      have h4J : J mM 4 = nI i := (hf.2 4 (by decide)).trans h4
      have hbJ : ∀ j, j < i → J m_text j = b j := fun j hj => by rw [hf.1 m_text (by decide) (by decide)]; exact hb j hj
      refine wp_aload0 8 rfl dX10_cut_7 ?_
      refine wp_geti 11 rfl dX10_cut_8 fX10_181_10 (md_M hm) ?_
      rw [hR.1]
      by_cases h401 : K = 401
      · subst h401
        refine wp_sipush (nI 400) 14 rfl dX10_cut_11 (by decide) ?_
        refine wp_icmp_gt 17 294 rfl rfl dX10_cut_14 (fun c14 => ?_) (fun c14 => absurd (by decide) c14)
        refine wp_vret dX10_cut_294 rfl ?_
        exact ⟨rfl, hf, hF, 401, by omega, hR, fun k hk _ => by omega⟩
      · have hc0 : ky_c i b i = 0 := if_neg (Nat.lt_irrefl _)
        have hpos : ky_pos i (ky_c i b) K = i := by
          rw [← hsk]
          exact ky_sk_o (by rw [hc0]; decide)
        have htk : ky_tk i b K = (0, i, 0, 0) := by
          unfold ky_tk ky_at
          rw [hpos, if_pos (Nat.le_refl _)]
        refine wp_sipush (nI 400) 14 rfl dX10_cut_11 (by decide) ?_
        refine wp_icmp_gt 17 294 rfl rfl dX10_cut_14 (fun c14 => absurd c14 (nI_nlt (by omega) (by omega))) (fun c14 => ?_)
        refine wp_aload0 18 rfl dX10_cut_17 ?_
        refine wp_iload1 19 rfl dX10_cut_18 ?_
        refine wp_Ve1 22 rfl dX10_cut_19 kX10_byteAt lX10_184 (md_M hm) (nl rfl) (nl rfl) (s_byteAt hm i b h4J hn hbJ i (by omega)) ?_
        refine wp_istore2 23 rfl dX10_cut_22 (by decide) rfl ?_
        refine wp_iload1 24 rfl dX10_cut_23 ?_
        refine wp_aload0 25 rfl dX10_cut_24 ?_
        refine wp_geti 28 rfl dX10_cut_25 fX10_172_10 (md_M hm) ?_
        rw [h4J]
        refine wp_icmp_lt 31 43 rfl rfl dX10_cut_28 (fun c28 => absurd c28 (nI_nlt (Nat.le_refl _) (by omega))) (fun c28 => ?_)
        refine wp_aload0 32 rfl dX10_cut_31 ?_
        refine wp_iconst (nI 0) 33 rfl dX10_cut_32 (by decide) ?_
        refine wp_aload0 34 rfl dX10_cut_33 ?_
        refine wp_geti 37 rfl dX10_cut_34 fX10_172_10 (md_M hm) ?_
        rw [h4J]
        refine wp_iconst (nI 0) 38 rfl dX10_cut_37 (by decide) ?_
        refine wp_lconst (lN 0) 39 rfl dX10_cut_38 (by decide) ?_
        refine wp_Ve4 42 rfl dX10_cut_39 kX10_token lX10_188 (md_M hm) (nl rfl) (nl rfl) (s_token hm K hR.1 (by omega) _ _ _ _) ?_
        refine wp_vret dX10_cut_42 rfl ?_
        refine ⟨rfl, hf.tr M_tok_f, hF.tr (kyF.u (by decide)), K + 1, by omega, hR.add htk, fun k hk hne => ?_⟩
        by_cases hlt : k < K + 1
        · exact hlt
        · exact absurd (by rw [htk]) (hne K (by omega))
    | succ m ihm =>
      intro i K J σ hm0 hi hK hf hF hR hsk
      have hm := hF.mdl hm
      by_cases hin : i = n
      · exact ihm i K J σ (by omega) hi hK hf hF hR hsk
      · have hlt : i < n := by omega
        have h4J : J mM 4 = nI n := (hf.2 4 (by decide)).trans h4
        have hbJ : ∀ j, j < n → J m_text j = b j := fun j hj => by rw [hf.1 m_text (by decide) (by decide)]; exact hb j hj
        have c256 := ky_c_256 n b i
        obtain ⟨c, hc⟩ : ∃ c, c = ky_c n b := ⟨_, rfl⟩
        refine wp_aload0 8 rfl dX10_cut_7 ?_
        refine wp_geti 11 rfl dX10_cut_8 fX10_181_10 (md_M hm) ?_
        rw [hR.1]
        by_cases h401 : K = 401
        · subst h401
          refine wp_sipush (nI 400) 14 rfl dX10_cut_11 (by decide) ?_
          refine wp_icmp_gt 17 294 rfl rfl dX10_cut_14 (fun c14 => ?_) (fun c14 => absurd (by decide) c14)
          refine wp_vret dX10_cut_294 rfl ?_
          exact ⟨rfl, hf, hF, 401, by omega, hR, fun k hk _ => by omega⟩
        · refine wp_sipush (nI 400) 14 rfl dX10_cut_11 (by decide) ?_
          refine wp_icmp_gt 17 294 rfl rfl dX10_cut_14 (fun c14 => absurd c14 (nI_nlt (by omega) (by omega))) (fun c14 => ?_)
          refine wp_aload0 18 rfl dX10_cut_17 ?_
          refine wp_iload1 19 rfl dX10_cut_18 ?_
          refine wp_Ve1 22 rfl dX10_cut_19 kX10_byteAt lX10_184 (md_M hm) (nl rfl) (nl rfl) (s_byteAt hm n b h4J hn hbJ i (by omega)) ?_
          refine wp_istore2 23 rfl dX10_cut_22 (by decide) rfl ?_
          refine wp_iload1 24 rfl dX10_cut_23 ?_
          refine wp_aload0 25 rfl dX10_cut_24 ?_
          refine wp_geti 28 rfl dX10_cut_25 fX10_172_10 (md_M hm) ?_
          rw [h4J]
          show sm_V G xX10_cut (d + 2) 28 [.ref mM, .int (nI i), .int (nI (ky_c n b i)), .retAddr 0, .retAddr 0, .retAddr 0, .retAddr 0, .retAddr 0] _ J σ _
          by_cases hW : ky_W (ky_c n b i)
          · have ih := ihm (i + 1) K J σ (by omega) (by omega) hK hf hF hR (by rw [← hsk]; exact (ky_sk_s hn hW).symm)
            have go : ∀ v, sm_V G xX10_cut (d + 2) 67 [.ref mM, .int (nI i), v, .retAddr 0, .retAddr 0, .retAddr 0, .retAddr 0, .retAddr 0] [] J σ (sm_Qv (fun I1 ρ1 => mf mTk [10] I I1 ∧ kyF [m_tName] ρ ρ1 ∧ ∃ K, K ≤ 401 ∧ kyR I1 ρ1 n b K ∧ ∀ k, k ≤ 400 → (∀ j, j < k → ¬ (ky_tk n b j).1 = 0) → k < K)) := by
              intro v
              refine wp_iincN1 70 rfl dX10_cut_67 (by decide) rfl ?_
              refine wp_goto 291 rfl dX10_cut_70 ?_
              refine wp_goto 7 rfl dX10_cut_291 ?_
              exact wp_weakK ih ⟨Or.inr rfl, Or.inr rfl, Or.inl rfl, Or.inr rfl, Or.inr rfl, Or.inr rfl, Or.inr rfl, Or.inr rfl, trivial⟩
            rcases hW with e | e | e | e
            · rw [e]
              refine wp_icmp_lt 31 43 rfl rfl dX10_cut_28 (fun c28 => ?_) (fun c28 => absurd (nI_lt hlt (by omega)) c28)
              refine wp_iload2 44 rfl dX10_cut_43 ?_
              refine wp_bipush (nI 9) 46 rfl dX10_cut_44 (by decide) ?_
              refine wp_icmp_eq 49 67 rfl rfl dX10_cut_46 (fun c46 => ?_) (fun c46 => absurd (rfl) c46)
              exact go _
            · rw [e]
              refine wp_icmp_lt 31 43 rfl rfl dX10_cut_28 (fun c28 => ?_) (fun c28 => absurd (nI_lt hlt (by omega)) c28)
              refine wp_iload2 44 rfl dX10_cut_43 ?_
              refine wp_bipush (nI 9) 46 rfl dX10_cut_44 (by decide) ?_
              refine wp_icmp_eq 49 67 rfl rfl dX10_cut_46 (fun c46 => absurd c46 (by decide)) (fun c46 => ?_)
              refine wp_iload2 50 rfl dX10_cut_49 ?_
              refine wp_bipush (nI 10) 52 rfl dX10_cut_50 (by decide) ?_
              refine wp_icmp_eq 55 67 rfl rfl dX10_cut_52 (fun c52 => ?_) (fun c52 => absurd (rfl) c52)
              exact go _
            · rw [e]
              refine wp_icmp_lt 31 43 rfl rfl dX10_cut_28 (fun c28 => ?_) (fun c28 => absurd (nI_lt hlt (by omega)) c28)
              refine wp_iload2 44 rfl dX10_cut_43 ?_
              refine wp_bipush (nI 9) 46 rfl dX10_cut_44 (by decide) ?_
              refine wp_icmp_eq 49 67 rfl rfl dX10_cut_46 (fun c46 => absurd c46 (by decide)) (fun c46 => ?_)
              refine wp_iload2 50 rfl dX10_cut_49 ?_
              refine wp_bipush (nI 10) 52 rfl dX10_cut_50 (by decide) ?_
              refine wp_icmp_eq 55 67 rfl rfl dX10_cut_52 (fun c52 => absurd c52 (by decide)) (fun c52 => ?_)
              refine wp_iload2 56 rfl dX10_cut_55 ?_
              refine wp_bipush (nI 13) 58 rfl dX10_cut_56 (by decide) ?_
              refine wp_icmp_eq 61 67 rfl rfl dX10_cut_58 (fun c58 => ?_) (fun c58 => absurd (rfl) c58)
              exact go _
            · rw [e]
              refine wp_icmp_lt 31 43 rfl rfl dX10_cut_28 (fun c28 => ?_) (fun c28 => absurd (nI_lt hlt (by omega)) c28)
              refine wp_iload2 44 rfl dX10_cut_43 ?_
              refine wp_bipush (nI 9) 46 rfl dX10_cut_44 (by decide) ?_
              refine wp_icmp_eq 49 67 rfl rfl dX10_cut_46 (fun c46 => absurd c46 (by decide)) (fun c46 => ?_)
              refine wp_iload2 50 rfl dX10_cut_49 ?_
              refine wp_bipush (nI 10) 52 rfl dX10_cut_50 (by decide) ?_
              refine wp_icmp_eq 55 67 rfl rfl dX10_cut_52 (fun c52 => absurd c52 (by decide)) (fun c52 => ?_)
              refine wp_iload2 56 rfl dX10_cut_55 ?_
              refine wp_bipush (nI 13) 58 rfl dX10_cut_56 (by decide) ?_
              refine wp_icmp_eq 61 67 rfl rfl dX10_cut_58 (fun c58 => absurd c58 (by decide)) (fun c58 => ?_)
              refine wp_iload2 62 rfl dX10_cut_61 ?_
              refine wp_bipush (nI 32) 64 rfl dX10_cut_62 (by decide) ?_
              refine wp_icmp_ne 67 73 rfl rfl dX10_cut_64 (fun c64 => absurd (rfl) c64) (fun c64 => ?_)
              exact go _
          · have hpos : ky_pos n (ky_c n b) K = i := by
              rw [← hsk]
              exact ky_sk_o hW
            have e9 : ¬ ky_c n b i = 9 := fun h => hW (Or.inl h)
            have e10 : ¬ ky_c n b i = 10 := fun h => hW (Or.inr (Or.inl h))
            have e13 : ¬ ky_c n b i = 13 := fun h => hW (Or.inr (Or.inr (Or.inl h)))
            have e32 : ¬ ky_c n b i = 32 := fun h => hW (Or.inr (Or.inr (Or.inr h)))
            have ne : ∀ k, ¬ ky_c n b i = k → k < 256 → ¬ nI (ky_c n b i) = nI k := fun k h1 h2 h => h1 ((nI_eq (by omega) (by omega)).mp h)
            have hnx : ky_pos n (ky_c n b) (K + 1) = ky_sk (ky_c n b) (ky_end n (ky_c n b) i) := by
              show ky_sk (ky_c n b) (ky_end n (ky_c n b) (ky_pos n (ky_c n b) K)) = _
              rw [hpos]
            refine wp_icmp_lt 31 43 rfl rfl dX10_cut_28 (fun c28 => ?_) (fun c28 => absurd (nI_lt hlt (by omega)) c28)
            refine wp_iload2 44 rfl dX10_cut_43 ?_
            refine wp_bipush (nI 9) 46 rfl dX10_cut_44 (by decide) ?_
            refine wp_icmp_eq 49 67 rfl rfl dX10_cut_46 (fun c46 => absurd c46 (ne 9 e9 (by omega))) (fun c46 => ?_)
            refine wp_iload2 50 rfl dX10_cut_49 ?_
            refine wp_bipush (nI 10) 52 rfl dX10_cut_50 (by decide) ?_
            refine wp_icmp_eq 55 67 rfl rfl dX10_cut_52 (fun c52 => absurd c52 (ne 10 e10 (by omega))) (fun c52 => ?_)
            refine wp_iload2 56 rfl dX10_cut_55 ?_
            refine wp_bipush (nI 13) 58 rfl dX10_cut_56 (by decide) ?_
            refine wp_icmp_eq 61 67 rfl rfl dX10_cut_58 (fun c58 => absurd c58 (ne 13 e13 (by omega))) (fun c58 => ?_)
            refine wp_iload2 62 rfl dX10_cut_61 ?_
            refine wp_bipush (nI 32) 64 rfl dX10_cut_62 (by decide) ?_
            refine wp_icmp_ne 67 73 rfl rfl dX10_cut_64 (fun c64 => ?_) (fun c64 => absurd c64 (ne 32 e32 (by omega)))
            refine wp_iload2 74 rfl dX10_cut_73 ?_
            refine wp_Se1 77 rfl dX10_cut_74 kX10_isLetter lX10_192 (nl rfl) (nl rfl) (s_isLetter _ c256) ?_
            by_cases hL : ky_L (ky_c n b i)
            · obtain ⟨l1, l2, l3, l4⟩ := ky_le_s hn hi hL
              have hend : ky_end n (ky_c n b) i = ky_le (ky_c n b) i := by
                unfold ky_end
                rw [if_neg (by omega), if_pos hL]
              rw [hend] at hnx
              obtain ⟨e, he⟩ : ∃ e, e = ky_le (ky_c n b) i := ⟨_, rfl⟩
              rw [← he] at l1 l2 l3 l4 hnx
              have htk : ky_tk n b K = (if 8 < e - i then 3 else ky_find (ky_nm (ky_c n b) i (e - i)) 21, i, 0, ky_nm (ky_c n b) i (e - i)) := by
                unfold ky_tk ky_at
                rw [hpos, if_neg (by omega), if_pos hL, ← he]
              have hnl := ky_nm_lt (n := n) (b := b) (i := i) (e - i) (fun j hj => l4 _ (by omega) (by omega))
              have hnl2 : ky_nm (ky_c n b) i (e - i) < 2 ^ 62 := Nat.lt_of_lt_of_le hnl (by
                refine Nat.le_trans (Nat.pow_le_pow_right (by decide) (show (if e - i < 8 then e - i else 8) ≤ 8 by split <;> omega)) (by decide))
              have ih := ihm e (K + 1) (M_tok J K (nI (if 8 < e - i then 3 else ky_find (ky_nm (ky_c n b) i (e - i)) 21)) (nI i) (nI 0)) (sm_ul σ.1 m_tName K (lN (ky_nm (ky_c n b) i (e - i))), σ.2) (by omega) l2 (by omega) (hf.tr M_tok_f) (hF.tr (kyF.u (by decide))) (hR.add htk) hnx.symm
              have fin : ∀ v, sm_V G xX10_cut (d + 2) 179 [.ref mM, .int (nI i), .int (nI (ky_c n b i)), .int (nI (e - i)), .long (lN (ky_nm (ky_c n b) i (e - i))), .retAddr 1, .int (nI (if 8 < e - i then 3 else ky_find (ky_nm (ky_c n b) i (e - i)) 21)), v] [] J σ (sm_Qv (fun I1 ρ1 => mf mTk [10] I I1 ∧ kyF [m_tName] ρ ρ1 ∧ ∃ K, K ≤ 401 ∧ kyR I1 ρ1 n b K ∧ ∀ k, k ≤ 400 → (∀ j, j < k → ¬ (ky_tk n b j).1 = 0) → k < K)) := by
                intro v
                refine wp_aload0 180 rfl dX10_cut_179 ?_
                refine wp_iload6 182 rfl dX10_cut_180 ?_
                refine wp_iload1 183 rfl dX10_cut_182 ?_
                refine wp_iconst (nI 0) 184 rfl dX10_cut_183 (by decide) ?_
                refine wp_lload4 186 rfl dX10_cut_184 ?_
                refine wp_Ve4 189 rfl dX10_cut_186 kX10_token lX10_188 (md_M hm) (nl rfl) (nl rfl) (s_token hm K hR.1 (by omega) _ _ _ _) ?_
                refine wp_iload1 190 rfl dX10_cut_189 ?_
                refine wp_iload3 191 rfl dX10_cut_190 ?_
                refine wp_iadd 192 rfl dX10_cut_191 ?_
                rw [nI_add, show i + (e - i) = e by omega]
                refine wp_istore1 193 rfl dX10_cut_192 (by decide) rfl ?_
                refine wp_goto 291 rfl dX10_cut_193 ?_
                refine wp_goto 7 rfl dX10_cut_291 ?_
                exact wp_weakK ih ⟨Or.inr rfl, Or.inr rfl, Or.inl rfl, Or.inl rfl, Or.inl rfl, Or.inl rfl, Or.inl rfl, Or.inl rfl, trivial⟩
              refine wp_if_eq 80 196 rfl rfl dX10_cut_77 (fun c77 => absurd c77 (by rw [z_bt hL]; decide)) (fun c77 => ?_)
              refine wp_iconst (nI 0) 81 rfl dX10_cut_80 (by decide) ?_
              refine wp_istore3 82 rfl dX10_cut_81 (by decide) rfl ?_
              refine wp_lconst (lN 0) 83 rfl dX10_cut_82 (by decide) ?_
              refine wp_lstore4 85 rfl dX10_cut_83 (by decide) rfl ?_
              refine sm_for (P := fun q => sm_V G xX10_cut (d + 2) 85 [.ref mM, .int (nI i), .int (nI (ky_c n b i)), .int (nI q), .long (lN (ky_nm (ky_c n b) i q)), .retAddr 1, .retAddr 0, .retAddr 0] [] J σ _) 0 (e - i) (Nat.zero_le _) ?_ (fun q _ hq ih2 => ?_)
              · refine wp_aload0 86 rfl dX10_cut_85 ?_
                refine wp_iload1 87 rfl dX10_cut_86 ?_
                refine wp_iload3 88 rfl dX10_cut_87 ?_
                refine wp_iadd 89 rfl dX10_cut_88 ?_
                rw [nI_add, show i + (e - i) = e by omega]
                refine wp_Ve1 92 rfl dX10_cut_89 kX10_byteAt lX10_184 (md_M hm) (nl rfl) (nl rfl) (s_byteAt hm n b h4J hn hbJ e (by omega)) ?_
                refine wp_Se1 95 rfl dX10_cut_92 kX10_isLetter lX10_192 (nl rfl) (nl rfl) (s_isLetter _ (ky_c_256 n b e)) ?_
                refine wp_if_eq 98 124 rfl rfl dX10_cut_95 (fun c95 => ?_) (fun c95 => absurd (z_bf l3) c95)
                by_cases h8 : 8 < e - i
                · rw [if_pos h8] at fin
                  refine wp_iload3 125 rfl dX10_cut_124 ?_
                  refine wp_bipush (nI 8) 127 rfl dX10_cut_125 (by decide) ?_
                  refine wp_icmp_le 130 134 rfl rfl dX10_cut_127 (fun c127 => absurd c127 (nI_ge h8 (by omega))) (fun c127 => ?_)
                  refine wp_iconst (nI 3) 131 rfl dX10_cut_130 (by decide) ?_
                  refine wp_goto 135 rfl dX10_cut_131 ?_
                  refine wp_istore6 137 rfl dX10_cut_135 (by decide) rfl ?_
                  refine wp_iload3 138 rfl dX10_cut_137 ?_
                  refine wp_bipush (nI 8) 140 rfl dX10_cut_138 (by decide) ?_
                  refine wp_icmp_gt 143 179 rfl rfl dX10_cut_140 (fun c140 => ?_) (fun c140 => absurd (nI_lt h8 (by omega)) c140)
                  exact fin _
                · rw [if_neg h8] at fin
                  refine wp_iload3 125 rfl dX10_cut_124 ?_
                  refine wp_bipush (nI 8) 127 rfl dX10_cut_125 (by decide) ?_
                  refine wp_icmp_le 130 134 rfl rfl dX10_cut_127 (fun c127 => ?_) (fun c127 => absurd (nI_le (by omega) (by omega)) c127)
                  refine wp_iconst (nI 1) 135 rfl dX10_cut_134 (by decide) ?_
                  refine wp_istore6 137 rfl dX10_cut_135 (by decide) rfl ?_
                  refine wp_iload3 138 rfl dX10_cut_137 ?_
                  refine wp_bipush (nI 8) 140 rfl dX10_cut_138 (by decide) ?_
                  refine wp_icmp_gt 143 179 rfl rfl dX10_cut_140 (fun c140 => absurd c140 (nI_nlt (by omega) (by omega))) (fun c140 => ?_)
                  refine wp_iconst (nI 0) 144 rfl dX10_cut_143 (by decide) ?_
                  refine wp_istore7 146 rfl dX10_cut_144 (by decide) rfl ?_
                  refine sm_for (P := fun q => sm_V G xX10_cut (d + 2) 146 [.ref mM, .int (nI i), .int (nI (ky_c n b i)), .int (nI (e - i)), .long (lN (ky_nm (ky_c n b) i (e - i))), .retAddr 1, .int (nI (ky_find (ky_nm (ky_c n b) i (e - i)) q)), .int (nI q)] [] J σ _) 0 21 (by decide) ?_ (fun q _ hq ih3 => ?_)
                  · refine wp_iload7 148 rfl dX10_cut_146 ?_
                    refine wp_bipush (nI 21) 150 rfl dX10_cut_148 (by decide) ?_
                    refine wp_icmp_ge 153 179 rfl rfl dX10_cut_150 (fun c150 => ?_) (fun c150 => absurd (by decide) c150)
                    exact fin _
                  · have es : ky_find (ky_nm (ky_c n b) i (e - i)) (q + 1) = if ky_key q = ky_nm (ky_c n b) i (e - i) then 20 + q else ky_find (ky_nm (ky_c n b) i (e - i)) q := rfl
                    rw [es] at ih3
                    have hkey : σ.1 m_keys q = lN (ky_key q) := by rw [hF.2 m_keys (by decide)]; exact hy q hq
                    have hk62 : ky_key q < 2 ^ 62 := by
                      have : ∀ q, q < 21 → ky_key q < 2 ^ 62 := by decide
                      exact this q hq
                    refine wp_iload7 148 rfl dX10_cut_146 ?_
                    refine wp_bipush (nI 21) 150 rfl dX10_cut_148 (by decide) ?_
                    refine wp_icmp_ge 153 179 rfl rfl dX10_cut_150 (fun c150 => absurd c150 (nI_ge hq (by decide))) (fun c150 => ?_)
                    refine wp_aload0 154 rfl dX10_cut_153 ?_
                    refine wp_getr 157 rfl dX10_cut_154 fX10_34_10 (md_M hm) (mp_keys hm) ?_
                    refine wp_iload7 159 rfl dX10_cut_157 ?_
                    refine wp_lald 160 rfl dX10_cut_159 (ms_keys hm) (q) (by first | rfl | simp only [pk_mul, nI_add]) (⟨by omega, by decide⟩) ?_
                    rw [hkey]
                    by_cases ek : ky_key q = ky_nm (ky_c n b) i (e - i)
                    · rw [if_pos ek] at ih3
                      refine wp_lload4 162 rfl dX10_cut_160 ?_
                      refine wp_lcmp 163 rfl dX10_cut_162 ?_
                      refine wp_if_ne 166 173 rfl rfl dX10_cut_163 (fun c163 => absurd ((lg_cmp_eq _ _).mpr (by rw [ek])) c163) (fun c163 => ?_)
                      refine wp_bipush (nI 20) 168 rfl dX10_cut_166 (by decide) ?_
                      refine wp_iload7 170 rfl dX10_cut_168 ?_
                      refine wp_iadd 171 rfl dX10_cut_170 ?_
                      rw [nI_add]
                      refine wp_istore6 173 rfl dX10_cut_171 (by decide) rfl ?_
                      refine wp_iincN7 176 rfl dX10_cut_173 (by decide) rfl ?_
                      refine wp_goto 146 rfl dX10_cut_176 ?_
                      exact ih3
                    · rw [if_neg ek] at ih3
                      refine wp_lload4 162 rfl dX10_cut_160 ?_
                      refine wp_lcmp 163 rfl dX10_cut_162 ?_
                      refine wp_if_ne 166 173 rfl rfl dX10_cut_163 (fun c163 => ?_) (fun c163 => absurd c163 (fun h => ek ((pk_lEQ (by omega) (by omega)).mp ((lg_cmp_eq _ _).mp h))))
                      refine wp_iincN7 176 rfl dX10_cut_173 (by decide) rfl ?_
                      refine wp_goto 146 rfl dX10_cut_176 ?_
                      exact ih3
              · have hl := l4 (i + q) (by omega) (by omega)
                have hl97 : 97 ≤ ky_c n b (i + q) := hl.1
                have es : ky_nm (ky_c n b) i (q + 1) = if q < 8 then 27 * ky_nm (ky_c n b) i q + (ky_c n b (i + q) - 96) else ky_nm (ky_c n b) i q := rfl
                rw [es] at ih2
                refine wp_aload0 86 rfl dX10_cut_85 ?_
                refine wp_iload1 87 rfl dX10_cut_86 ?_
                refine wp_iload3 88 rfl dX10_cut_87 ?_
                refine wp_iadd 89 rfl dX10_cut_88 ?_
                rw [nI_add]
                refine wp_Ve1 92 rfl dX10_cut_89 kX10_byteAt lX10_184 (md_M hm) (nl rfl) (nl rfl) (s_byteAt hm n b h4J hn hbJ (i + q) (by omega)) ?_
                refine wp_Se1 95 rfl dX10_cut_92 kX10_isLetter lX10_192 (nl rfl) (nl rfl) (s_isLetter _ (ky_c_256 n b _)) ?_
                refine wp_if_eq 98 124 rfl rfl dX10_cut_95 (fun c95 => absurd c95 (by rw [z_bt hl]; decide)) (fun c95 => ?_)
                by_cases h8 : q < 8
                · rw [if_pos h8] at ih2
                  refine wp_iload3 99 rfl dX10_cut_98 ?_
                  refine wp_bipush (nI 8) 101 rfl dX10_cut_99 (by decide) ?_
                  refine wp_icmp_ge 104 118 rfl rfl dX10_cut_101 (fun c101 => absurd c101 (nI_ge h8 (by omega))) (fun c101 => ?_)
                  refine wp_lload4 106 rfl dX10_cut_104 ?_
                  refine wp_aload0 107 rfl dX10_cut_106 ?_
                  refine wp_iload1 108 rfl dX10_cut_107 ?_
                  refine wp_iload3 109 rfl dX10_cut_108 ?_
                  refine wp_iadd 110 rfl dX10_cut_109 ?_
                  rw [nI_add]
                  refine wp_Ve1 113 rfl dX10_cut_110 kX10_byteAt lX10_184 (md_M hm) (nl rfl) (nl rfl) (s_byteAt hm n b h4J hn hbJ (i + q) (by omega)) ?_
                  refine wp_Se2 116 rfl dX10_cut_113 kX10_appends lX10_177 (nl rfl) (nl rfl) (s_appends _ _ hl97 (ky_c_256 n b _)) ?_
                  refine wp_lstore4 118 rfl dX10_cut_116 (by decide) rfl ?_
                  refine wp_iincN3 121 rfl dX10_cut_118 (by decide) rfl ?_
                  refine wp_goto 85 rfl dX10_cut_121 ?_
                  exact ih2
                · rw [if_neg h8] at ih2
                  refine wp_iload3 99 rfl dX10_cut_98 ?_
                  refine wp_bipush (nI 8) 101 rfl dX10_cut_99 (by decide) ?_
                  refine wp_icmp_ge 104 118 rfl rfl dX10_cut_101 (fun c101 => ?_) (fun c101 => absurd (nI_le (by omega) (by omega)) c101)
                  refine wp_iincN3 121 rfl dX10_cut_118 (by decide) rfl ?_
                  refine wp_goto 85 rfl dX10_cut_121 ?_
                  exact ih2
            · refine wp_if_eq 80 196 rfl rfl dX10_cut_77 (fun c77 => ?_) (fun c77 => absurd (z_bf hL) c77)
              refine wp_iload2 197 rfl dX10_cut_196 ?_
              refine wp_Se1 200 rfl dX10_cut_197 kX10_isDigit lX10_196 (nl rfl) (nl rfl) (s_isDigit _ c256) ?_
              by_cases hD : ky_D (ky_c n b i)
              · obtain ⟨l1, l2, l3, l4⟩ := ky_de_s hn hi hD
                have hend : ky_end n (ky_c n b) i = ky_de (ky_c n b) i := by
                  unfold ky_end
                  rw [if_neg (by omega), if_neg hL, if_pos hD]
                rw [hend] at hnx
                obtain ⟨e, he⟩ : ∃ e, e = ky_de (ky_c n b) i := ⟨_, rfl⟩
                rw [← he] at l1 l2 l3 l4 hnx
                have htk : ky_tk n b K = (if 4 < e - i then 3 else 2, i, ky_nu (ky_c n b) i (e - i), 0) := by
                  unfold ky_tk ky_at
                  rw [hpos, if_neg (by omega), if_neg hL, if_pos hD, ← he]
                have ih := ihm e (K + 1) (M_tok J K (nI (if 4 < e - i then 3 else 2)) (nI i) (nI (ky_nu (ky_c n b) i (e - i)))) (sm_ul σ.1 m_tName K (lN 0), σ.2) (by omega) l2 (by omega) (hf.tr M_tok_f) (hF.tr (kyF.u (by decide))) (hR.add htk) hnx.symm
                have fin : sm_V G xX10_cut (d + 2) 261 [.ref mM, .int (nI i), .int (nI (ky_c n b i)), .int (nI (e - i)), .int (nI (ky_nu (ky_c n b) i (e - i))), .retAddr 0, .retAddr 0, .retAddr 0] [.int (nI (if 4 < e - i then 3 else 2)), .ref mM] J σ (sm_Qv (fun I1 ρ1 => mf mTk [10] I I1 ∧ kyF [m_tName] ρ ρ1 ∧ ∃ K, K ≤ 401 ∧ kyR I1 ρ1 n b K ∧ ∀ k, k ≤ 400 → (∀ j, j < k → ¬ (ky_tk n b j).1 = 0) → k < K)) := by
                  refine wp_iload1 262 rfl dX10_cut_261 ?_
                  refine wp_iload4 264 rfl dX10_cut_262 ?_
                  refine wp_lconst (lN 0) 265 rfl dX10_cut_264 (by decide) ?_
                  refine wp_Ve4 268 rfl dX10_cut_265 kX10_token lX10_188 (md_M hm) (nl rfl) (nl rfl) (s_token hm K hR.1 (by omega) _ _ _ _) ?_
                  refine wp_iload1 269 rfl dX10_cut_268 ?_
                  refine wp_iload3 270 rfl dX10_cut_269 ?_
                  refine wp_iadd 271 rfl dX10_cut_270 ?_
                  rw [nI_add, show i + (e - i) = e by omega]
                  refine wp_istore1 272 rfl dX10_cut_271 (by decide) rfl ?_
                  refine wp_goto 291 rfl dX10_cut_272 ?_
                  refine wp_goto 7 rfl dX10_cut_291 ?_
                  exact wp_weakK ih ⟨Or.inr rfl, Or.inr rfl, Or.inl rfl, Or.inl rfl, Or.inl rfl, Or.inr rfl, Or.inr rfl, Or.inr rfl, trivial⟩
                refine wp_if_eq 203 275 rfl rfl dX10_cut_200 (fun c200 => absurd c200 (by rw [z_bt hD]; decide)) (fun c200 => ?_)
                refine wp_iconst (nI 0) 204 rfl dX10_cut_203 (by decide) ?_
                refine wp_istore3 205 rfl dX10_cut_204 (by decide) rfl ?_
                refine wp_iconst (nI 0) 206 rfl dX10_cut_205 (by decide) ?_
                refine wp_istore4 208 rfl dX10_cut_206 (by decide) rfl ?_
                refine sm_for (P := fun q => sm_V G xX10_cut (d + 2) 208 [.ref mM, .int (nI i), .int (nI (ky_c n b i)), .int (nI q), .int (nI (ky_nu (ky_c n b) i q)), .retAddr 0, .retAddr 0, .retAddr 0] [] J σ _) 0 (e - i) (Nat.zero_le _) ?_ (fun q _ hq ih2 => ?_)
                · refine wp_aload0 209 rfl dX10_cut_208 ?_
                  refine wp_iload1 210 rfl dX10_cut_209 ?_
                  refine wp_iload3 211 rfl dX10_cut_210 ?_
                  refine wp_iadd 212 rfl dX10_cut_211 ?_
                  rw [nI_add, show i + (e - i) = e by omega]
                  refine wp_Ve1 215 rfl dX10_cut_212 kX10_byteAt lX10_184 (md_M hm) (nl rfl) (nl rfl) (s_byteAt hm n b h4J hn hbJ e (by omega)) ?_
                  refine wp_Se1 218 rfl dX10_cut_215 kX10_isDigit lX10_196 (nl rfl) (nl rfl) (s_isDigit _ (ky_c_256 n b e)) ?_
                  refine wp_if_eq 221 250 rfl rfl dX10_cut_218 (fun c218 => ?_) (fun c218 => absurd (z_bf l3) c218)
                  by_cases h4' : 4 < e - i
                  · rw [if_pos h4'] at fin
                    refine wp_aload0 251 rfl dX10_cut_250 ?_
                    refine wp_iload3 252 rfl dX10_cut_251 ?_
                    refine wp_iconst (nI 4) 253 rfl dX10_cut_252 (by decide) ?_
                    refine wp_icmp_le 256 260 rfl rfl dX10_cut_253 (fun c253 => absurd c253 (nI_ge h4' (by omega))) (fun c253 => ?_)
                    refine wp_iconst (nI 3) 257 rfl dX10_cut_256 (by decide) ?_
                    refine wp_goto 261 rfl dX10_cut_257 ?_
                    exact fin
                  · rw [if_neg h4'] at fin
                    refine wp_aload0 251 rfl dX10_cut_250 ?_
                    refine wp_iload3 252 rfl dX10_cut_251 ?_
                    refine wp_iconst (nI 4) 253 rfl dX10_cut_252 (by decide) ?_
                    refine wp_icmp_le 256 260 rfl rfl dX10_cut_253 (fun c253 => ?_) (fun c253 => absurd (nI_le (by omega) (by omega)) c253)
                    refine wp_iconst (nI 2) 261 rfl dX10_cut_260 (by decide) ?_
                    exact fin
                · have hl := l4 (i + q) (by omega) (by omega)
                  have hl48 : 48 ≤ ky_c n b (i + q) := hl.1
                  have es : ky_nu (ky_c n b) i (q + 1) = if q < 4 then 10 * ky_nu (ky_c n b) i q + (ky_c n b (i + q) - 48) else ky_nu (ky_c n b) i q := rfl
                  rw [es] at ih2
                  refine wp_aload0 209 rfl dX10_cut_208 ?_
                  refine wp_iload1 210 rfl dX10_cut_209 ?_
                  refine wp_iload3 211 rfl dX10_cut_210 ?_
                  refine wp_iadd 212 rfl dX10_cut_211 ?_
                  rw [nI_add]
                  refine wp_Ve1 215 rfl dX10_cut_212 kX10_byteAt lX10_184 (md_M hm) (nl rfl) (nl rfl) (s_byteAt hm n b h4J hn hbJ (i + q) (by omega)) ?_
                  refine wp_Se1 218 rfl dX10_cut_215 kX10_isDigit lX10_196 (nl rfl) (nl rfl) (s_isDigit _ (ky_c_256 n b _)) ?_
                  refine wp_if_eq 221 250 rfl rfl dX10_cut_218 (fun c218 => absurd c218 (by rw [z_bt hl]; decide)) (fun c218 => ?_)
                  by_cases h4' : q < 4
                  · rw [if_pos h4'] at ih2
                    refine wp_iload3 222 rfl dX10_cut_221 ?_
                    refine wp_iconst (nI 4) 223 rfl dX10_cut_222 (by decide) ?_
                    refine wp_icmp_ge 226 244 rfl rfl dX10_cut_223 (fun c223 => absurd c223 (nI_ge h4' (by omega))) (fun c223 => ?_)
                    refine wp_bipush (nI 10) 228 rfl dX10_cut_226 (by decide) ?_
                    refine wp_iload4 230 rfl dX10_cut_228 ?_
                    refine wp_imul 231 rfl dX10_cut_230 ?_
                    refine wp_aload0 232 rfl dX10_cut_231 ?_
                    refine wp_iload1 233 rfl dX10_cut_232 ?_
                    refine wp_iload3 234 rfl dX10_cut_233 ?_
                    refine wp_iadd 235 rfl dX10_cut_234 ?_
                    rw [nI_add]
                    refine wp_Ve1 238 rfl dX10_cut_235 kX10_byteAt lX10_184 (md_M hm) (nl rfl) (nl rfl) (s_byteAt hm n b h4J hn hbJ (i + q) (by omega)) ?_
                    refine wp_iadd 239 rfl dX10_cut_238 ?_
                    refine wp_bipush (nI 48) 241 rfl dX10_cut_239 (by decide) ?_
                    refine wp_isub 242 rfl dX10_cut_241 ?_
                    rw [pk_mul, nI_add, pk_sub (by omega), show 10 * ky_nu (ky_c n b) i q + ky_c n b (i + q) - 48 = 10 * ky_nu (ky_c n b) i q + (ky_c n b (i + q) - 48) by omega]
                    refine wp_istore4 244 rfl dX10_cut_242 (by decide) rfl ?_
                    refine wp_iincN3 247 rfl dX10_cut_244 (by decide) rfl ?_
                    refine wp_goto 208 rfl dX10_cut_247 ?_
                    exact ih2
                  · rw [if_neg h4'] at ih2
                    refine wp_iload3 222 rfl dX10_cut_221 ?_
                    refine wp_iconst (nI 4) 223 rfl dX10_cut_222 (by decide) ?_
                    refine wp_icmp_ge 226 244 rfl rfl dX10_cut_223 (fun c223 => ?_) (fun c223 => absurd (nI_le (by omega) (by omega)) c223)
                    refine wp_iincN3 247 rfl dX10_cut_244 (by decide) rfl ?_
                    refine wp_goto 208 rfl dX10_cut_247 ?_
                    exact ih2
              · have hend : ky_end n (ky_c n b) i = i + 1 := by
                  unfold ky_end
                  rw [if_neg (by omega), if_neg hL, if_neg hD]
                rw [hend] at hnx
                have htk : ky_tk n b K = (ky_sg (ky_c n b i), i, 0, 0) := by
                  unfold ky_tk ky_at
                  rw [hpos, if_neg (by omega), if_neg hL, if_neg hD]
                have ih := ihm (i + 1) (K + 1) (M_tok J K (nI (ky_sg (ky_c n b i))) (nI i) (nI 0)) (sm_ul σ.1 m_tName K (lN 0), σ.2) (by omega) (by omega) (by omega) (hf.tr M_tok_f) (hF.tr (kyF.u (by decide))) (hR.add htk) hnx.symm
                refine wp_if_eq 203 275 rfl rfl dX10_cut_200 (fun c200 => ?_) (fun c200 => absurd (z_bf hD) c200)
                refine wp_iload1 276 rfl dX10_cut_275 ?_
                refine wp_aload0 277 rfl dX10_cut_276 ?_
                refine wp_iload1 278 rfl dX10_cut_277 ?_
                refine wp_iload2 279 rfl dX10_cut_278 ?_
                refine wp_aload0 280 rfl dX10_cut_279 ?_
                refine wp_iload1 281 rfl dX10_cut_280 ?_
                refine wp_iconst (nI 1) 282 rfl dX10_cut_281 (by decide) ?_
                refine wp_iadd 283 rfl dX10_cut_282 ?_
                rw [nI_add]
                refine wp_Ve1 286 rfl dX10_cut_283 kX10_byteAt lX10_184 (md_M hm) (nl rfl) (nl rfl) (s_byteAt hm n b h4J hn hbJ (i + 1) (by omega)) ?_
                refine wp_Ve3 289 rfl dX10_cut_286 kX10_sign lX10_199 (md_M hm) (nl rfl) (nl rfl) (s_sign hm K hR.1 (by omega) _ _ c256 _) ?_
                refine wp_iadd 290 rfl dX10_cut_289 ?_
                rw [nI_add]
                refine wp_istore1 291 rfl dX10_cut_290 (by decide) rfl ?_
                refine wp_goto 7 rfl dX10_cut_291 ?_
                exact wp_weakK ih ⟨Or.inr rfl, Or.inr rfl, Or.inl rfl, Or.inr rfl, Or.inr rfl, Or.inr rfl, Or.inr rfl, Or.inr rfl, trivial⟩
  exact main n 0 0 _ ρ (by omega) (by omega) (by omega) (mf.uM (by decide)) kyF.rf ⟨by rw [sm_u_eq, pk_us], fun k hk => absurd hk (Nat.not_lt_zero _)⟩ rfl
end M26
