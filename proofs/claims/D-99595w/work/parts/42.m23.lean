/-! ===== count ===== -/
set_option maxRecDepth 100000
def z_kept (w : Nat → Int32) : Nat → Int32
  | 0 => nI 0
  | r + 1 => z_kept w r ||| w (54 + r) <<< (nI r &&& 31)
def r_by (T : tx) (w : Nat → Int32) : Nat → Int32
  | 0 => nI 0
  | d + 1 => if r_known T w d < 0 then r_by T w d else r_by T w d ||| nI 1 <<< (r_known T w d &&& 31)
def z_some (K : Option (Nat → Int32)) : Int32 := match K with
  | none => nI 0
  | some _ => nI 1
def o_cnt (S : yS) : Nat → Int32
  | 0 => nI (tx_D (y_T S))
  | 1 => nI (tx_C (y_T S))
  | 2 => nI (tx_R (y_T S))
  | 3 => y_w S 69
  | 4 => z_set (fun d => ¬ r_known (y_T S) (y_w S) d < 0) (tx_D (y_T S))
  | 5 => z_sum (fun k => y_w S (24 + k)) 6
  | 6 => z_sum (fun k => y_w S (42 + k)) 6
  | 7 => z_kept (y_w S) (tx_R (y_T S))
  | 8 => nI (y_P S).1
  | 9 => nI (y_H S).length
  | 10 => nI (y_D S).length
  | 11 => z_some (y_K S 0) + z_some (y_K S 1) + z_some (y_K S 2)
  | 12 => z_b (z_lot (tx_seed (y_T S)) (nI 16 * y_w S 69) (nI 100) < tx_wind (y_T S))
  | 13 => z_bits (r_by (y_T S) (y_w S) (tx_D (y_T S)))
  | 14 => z_set (fun d => r_unf (y_T S) (y_w S) d = 0) (tx_D (y_T S))
  | 15 => z_set (fun d => ¬ y_w S (30 + d) ≤ 0) (tx_D (y_T S))
  | _ => z_sum (fun k => y_w S (36 + k)) 6
def o_count (S : yS) (what : Int32) : Int32 := match z_ix what 17 with
  | none => -1
  | some k => o_cnt S k
section M23
variable {G : sm_G} {d : Nat} {I : sm_I} {ρ : sm_R}
theorem s_sumNow (hm : md ρ) (f n : Nat) (hfn : f + n ≤ 70) : sm_M G xX10_sumNow d [.ref mM, .int (nI f), .int (nI n)] I ρ (sm_Qe (some (.int (z_sum (fun k => I m_now (f + k)) n))) I ρ) := by
  show sm_V G xX10_sumNow d 0 [.ref mM, .int (nI f), .int (nI n), .retAddr 0, .retAddr 0] [] I ρ _
  refine wp_iconst (nI 0) 1 rfl dX10_sumNow_0 (by decide) ?_
  refine wp_istore3 2 rfl dX10_sumNow_1 (by decide) rfl ?_
  refine wp_iload1 3 rfl dX10_sumNow_2 ?_
  refine wp_istore4 5 rfl dX10_sumNow_3 (by decide) rfl ?_
  refine sm_for (P := fun k => sm_V G xX10_sumNow d 5 [.ref mM, .int (nI f), .int (nI n), .int (z_sum (fun k => I m_now (f + k)) k), .int (nI (f + k))] [] I ρ _) 0 n (Nat.zero_le _) ?_ (fun k _ hk ih => ?_)
  · refine wp_iload4 7 rfl dX10_sumNow_5 ?_
    refine wp_iload1 8 rfl dX10_sumNow_7 ?_
    refine wp_iload2 9 rfl dX10_sumNow_8 ?_
    refine wp_iadd 10 rfl dX10_sumNow_9 ?_
    refine wp_icmp_ge 13 29 rfl rfl dX10_sumNow_10 (fun c10 => ?_) (fun c10 => absurd (by rw [nI_add]; exact nI_le (Nat.le_refl _) (by omega)) c10)
    refine wp_iload3 30 rfl dX10_sumNow_29 ?_
    refine wp_iret dX10_sumNow_30 rfl ?_
    exact sm_ei rfl
  · refine wp_iload4 7 rfl dX10_sumNow_5 ?_
    refine wp_iload1 8 rfl dX10_sumNow_7 ?_
    refine wp_iload2 9 rfl dX10_sumNow_8 ?_
    refine wp_iadd 10 rfl dX10_sumNow_9 ?_
    refine wp_icmp_ge 13 29 rfl rfl dX10_sumNow_10 (fun c10 => absurd c10 (by rw [nI_add]; exact nI_ge (by omega) (by omega))) (fun c10 => ?_)
    refine wp_iload3 14 rfl dX10_sumNow_13 ?_
    refine wp_aload0 15 rfl dX10_sumNow_14 ?_
    refine wp_getr 18 rfl dX10_sumNow_15 fX10_119_10 (md_M hm) (mp_now hm) ?_
    refine wp_iload4 20 rfl dX10_sumNow_18 ?_
    refine wp_iald 21 rfl dX10_sumNow_20 (ms_now hm) (f + k) (by first | rfl | simp only [pk_mul, nI_add]) (⟨by omega, by decide⟩) ?_
    refine wp_iadd 22 rfl dX10_sumNow_21 ?_
    refine wp_istore3 23 rfl dX10_sumNow_22 (by decide) rfl ?_
    refine wp_iincN4 26 rfl dX10_sumNow_23 (by decide) rfl ?_
    refine wp_goto 5 rfl dX10_sumNow_26 ?_
    exact ih
theorem q_count (hm : md ρ) (lv : Nat) (S : yS) (hZ : mZ I lv S) (what : Int32) : sm_M G xX10_count (d + 3) [.ref mM, .int what] I ρ (mPost I ρ (o_count S what)) := by
  show sm_V G xX10_count (d + 3) 0 [.ref mM, .int what, .retAddr 0, .retAddr 0] [] I ρ _
  have hS := hZ.1
  have h1 := hS.2.1.1
  have hq := cp_q hS
  have hrow := cp_row hS
  have h53 := cp_53 hS
  have hT : mT (M_cp I lv) lv (y_T S) := hS.1.kept hq.1 (by decide) (by decide)
  have hZJ := hZ.q hq
  refine wp_aload0 1 rfl dX10_count_0 ?_
  refine wp_Ve0 4 rfl dX10_count_1 kX10_copies lX10_323 (md_M hm) (nl rfl) (nl rfl) (s_copies hm lv hS.1.1.1 hS.1.1.2) ?_
  generalize M_cp I lv = J at hq hrow h53 hT hZJ ⊢
  have en : J m_now = y_w S := hZJ.1.2.2.1
  unfold o_count
  by_cases hk : nI 0 ≤ what ∧ what ≤ nI 17 - nI 1
  · obtain ⟨k, hk17, rfl⟩ := (z_in_iff (by omega)).mp hk
    rw [z_ix_n hk17 (by omega)]
    show sm_V G xX10_count (d + 3) 4 _ _ J ρ (mPost I ρ (o_cnt S k))
    match k, hk17 with
    | 0, _ =>
      refine wp_iconst (nI 0) 5 rfl dX10_count_4 (by decide) ?_
      refine wp_istore2 6 rfl dX10_count_5 (by decide) rfl ?_
      refine wp_iload1 7 rfl dX10_count_6 ?_
      refine wp_tableIn (off := 81) 88 dX10_count_7 (by decide) (by decide) (by decide) rfl ?_
      refine wp_aload0 89 rfl dX10_count_88 ?_
      refine wp_getr 92 rfl dX10_count_89 fX10_46_10 (md_M hm) (mp_doors hm) ?_
      refine wp_aload0 93 rfl dX10_count_92 ?_
      refine wp_geti 96 rfl dX10_count_93 fX10_233_10 (md_M hm) ?_
      refine wp_iald 97 rfl dX10_count_96 (ms_doors hm) (lv) (hT.1.1) (⟨hT.1.2, by decide⟩) ?_
      refine wp_iret dX10_count_97 rfl ?_
      exact sm_qi hq hT.2.1.1
    | 1, _ =>
      refine wp_iconst (nI 0) 5 rfl dX10_count_4 (by decide) ?_
      refine wp_istore2 6 rfl dX10_count_5 (by decide) rfl ?_
      refine wp_iload1 7 rfl dX10_count_6 ?_
      refine wp_tableIn (off := 91) 98 dX10_count_7 (by decide) (by decide) (by decide) rfl ?_
      refine wp_aload0 99 rfl dX10_count_98 ?_
      refine wp_getr 102 rfl dX10_count_99 fX10_52_10 (md_M hm) (mp_callers hm) ?_
      refine wp_aload0 103 rfl dX10_count_102 ?_
      refine wp_geti 106 rfl dX10_count_103 fX10_233_10 (md_M hm) ?_
      refine wp_iald 107 rfl dX10_count_106 (ms_callers hm) (lv) (hT.1.1) (⟨hT.1.2, by decide⟩) ?_
      refine wp_iret dX10_count_107 rfl ?_
      exact sm_qi hq hT.2.1.2.1
    | 2, _ =>
      refine wp_iconst (nI 0) 5 rfl dX10_count_4 (by decide) ?_
      refine wp_istore2 6 rfl dX10_count_5 (by decide) rfl ?_
      refine wp_iload1 7 rfl dX10_count_6 ?_
      refine wp_tableIn (off := 101) 108 dX10_count_7 (by decide) (by decide) (by decide) rfl ?_
      refine wp_aload0 109 rfl dX10_count_108 ?_
      refine wp_getr 112 rfl dX10_count_109 fX10_58_10 (md_M hm) (mp_rounds hm) ?_
      refine wp_aload0 113 rfl dX10_count_112 ?_
      refine wp_geti 116 rfl dX10_count_113 fX10_233_10 (md_M hm) ?_
      refine wp_iald 117 rfl dX10_count_116 (ms_rounds hm) (lv) (hT.1.1) (⟨hT.1.2, by decide⟩) ?_
      refine wp_iret dX10_count_117 rfl ?_
      exact sm_qi hq hT.2.1.2.2
    | 3, _ =>
      refine wp_iconst (nI 0) 5 rfl dX10_count_4 (by decide) ?_
      refine wp_istore2 6 rfl dX10_count_5 (by decide) rfl ?_
      refine wp_iload1 7 rfl dX10_count_6 ?_
      refine wp_tableIn (off := 111) 118 dX10_count_7 (by decide) (by decide) (by decide) rfl ?_
      refine wp_aload0 119 rfl dX10_count_118 ?_
      refine wp_getr 122 rfl dX10_count_119 fX10_122_10 (md_M hm) (mp_row hm) ?_
      refine wp_bipush (nI 69) 124 rfl dX10_count_122 (by decide) ?_
      refine wp_iald 125 rfl dX10_count_124 (ms_row hm) (69) (by first | rfl | simp only [pk_mul, nI_add]) (⟨by omega, by decide⟩) ?_
      refine wp_iret dX10_count_125 rfl ?_
      exact sm_qi hq (by rw [hrow]; rfl)
    | 4, _ =>
      refine wp_iconst (nI 0) 5 rfl dX10_count_4 (by decide) ?_
      refine wp_istore2 6 rfl dX10_count_5 (by decide) rfl ?_
      refine wp_iload1 7 rfl dX10_count_6 ?_
      refine wp_tableIn (off := 119) 126 dX10_count_7 (by decide) (by decide) (by decide) rfl ?_
      refine wp_iconst (nI 0) 127 rfl dX10_count_126 (by decide) ?_
      refine wp_istore3 128 rfl dX10_count_127 (by decide) rfl ?_
      refine sm_for (P := fun p => sm_V G xX10_count (d + 3) 128 [.ref mM, .int (nI 4), .int (z_set (fun d => ¬ r_known (y_T S) (y_w S) d < 0) p), .int (nI p)] [] J ρ _) 0 (tx_D (y_T S)) (Nat.zero_le _) ?_ (fun p _ hp ih => ?_)
      · refine wp_iload3 129 rfl dX10_count_128 ?_
        refine wp_aload0 130 rfl dX10_count_129 ?_
        refine wp_getr 133 rfl dX10_count_130 fX10_46_10 (md_M hm) (mp_doors hm) ?_
        refine wp_aload0 134 rfl dX10_count_133 ?_
        refine wp_geti 137 rfl dX10_count_134 fX10_233_10 (md_M hm) ?_
        refine wp_iald 138 rfl dX10_count_137 (ms_doors hm) (lv) (hT.1.1) (⟨hT.1.2, by decide⟩) ?_
        refine wp_icmp_ge 141 161 rfl rfl dX10_count_138 (fun c138 => ?_) (fun c138 => absurd (by rw [hT.2.1.1]; exact nI_le (Nat.le_refl _) (by omega)) c138)
        refine wp_iload2 162 rfl dX10_count_161 ?_
        refine wp_iret dX10_count_162 rfl ?_
        exact sm_qi hq rfl
      · have es : z_set (fun d => ¬ r_known (y_T S) (y_w S) d < 0) (p + 1) = if ¬ r_known (y_T S) (y_w S) p < 0 then z_set (fun d => ¬ r_known (y_T S) (y_w S) d < 0) p ||| nI 1 <<< (nI p &&& 31) else z_set (fun d => ¬ r_known (y_T S) (y_w S) d < 0) p := rfl
        rw [es] at ih
        refine wp_iload3 129 rfl dX10_count_128 ?_
        refine wp_aload0 130 rfl dX10_count_129 ?_
        refine wp_getr 133 rfl dX10_count_130 fX10_46_10 (md_M hm) (mp_doors hm) ?_
        refine wp_aload0 134 rfl dX10_count_133 ?_
        refine wp_geti 137 rfl dX10_count_134 fX10_233_10 (md_M hm) ?_
        refine wp_iald 138 rfl dX10_count_137 (ms_doors hm) (lv) (hT.1.1) (⟨hT.1.2, by decide⟩) ?_
        refine wp_icmp_ge 141 161 rfl rfl dX10_count_138 (fun c138 => absurd c138 (by rw [hT.2.1.1]; exact nI_ge hp (by omega))) (fun c138 => ?_)
        refine wp_aload0 142 rfl dX10_count_141 ?_
        refine wp_iload3 143 rfl dX10_count_142 ?_
        refine wp_Ve1 146 rfl dX10_count_143 kX10_knownBy lX10_390 (md_M hm) (nl rfl) (nl rfl) (s_knownBy hm lv p (tx_C (y_T S)) hT.1.1 hT.1.2 (by omega) hT.2.1.2.1 h1.2.1) ?_
        rw [k_by_r hT, hrow]
        refine wp_if_lt 149 155 rfl rfl dX10_count_146 (fun c146 => ?_) (fun c146 => ?_)
        · rw [if_neg (fun h => h c146)] at ih
          refine wp_iincN3 158 rfl dX10_count_155 (by decide) rfl ?_
          refine wp_goto 128 rfl dX10_count_158 ?_
          exact ih
        · rw [if_pos c146] at ih
          refine wp_iload2 150 rfl dX10_count_149 ?_
          refine wp_iconst (nI 1) 151 rfl dX10_count_150 (by decide) ?_
          refine wp_iload3 152 rfl dX10_count_151 ?_
          refine wp_ishl 153 rfl dX10_count_152 ?_
          refine wp_ior 154 rfl dX10_count_153 ?_
          refine wp_istore2 155 rfl dX10_count_154 (by decide) rfl ?_
          refine wp_iincN3 158 rfl dX10_count_155 (by decide) rfl ?_
          refine wp_goto 128 rfl dX10_count_158 ?_
          exact ih
    | 5, _ =>
      refine wp_iconst (nI 0) 5 rfl dX10_count_4 (by decide) ?_
      refine wp_istore2 6 rfl dX10_count_5 (by decide) rfl ?_
      refine wp_iload1 7 rfl dX10_count_6 ?_
      refine wp_tableIn (off := 156) 163 dX10_count_7 (by decide) (by decide) (by decide) rfl ?_
      refine wp_aload0 164 rfl dX10_count_163 ?_
      refine wp_bipush (nI 24) 166 rfl dX10_count_164 (by decide) ?_
      refine wp_bipush (nI 6) 168 rfl dX10_count_166 (by decide) ?_
      refine wp_Ve2 171 rfl dX10_count_168 kX10_sumNow lX10_463 (md_M hm) (nl rfl) (nl rfl) (s_sumNow hm 24 6 (by decide)) ?_
      refine wp_iret dX10_count_171 rfl ?_
      exact sm_qi hq (by rw [en]; rfl)
    | 6, _ =>
      refine wp_iconst (nI 0) 5 rfl dX10_count_4 (by decide) ?_
      refine wp_istore2 6 rfl dX10_count_5 (by decide) rfl ?_
      refine wp_iload1 7 rfl dX10_count_6 ?_
      refine wp_tableIn (off := 165) 172 dX10_count_7 (by decide) (by decide) (by decide) rfl ?_
      refine wp_aload0 173 rfl dX10_count_172 ?_
      refine wp_bipush (nI 42) 175 rfl dX10_count_173 (by decide) ?_
      refine wp_bipush (nI 6) 177 rfl dX10_count_175 (by decide) ?_
      refine wp_Ve2 180 rfl dX10_count_177 kX10_sumNow lX10_463 (md_M hm) (nl rfl) (nl rfl) (s_sumNow hm 42 6 (by decide)) ?_
      refine wp_iret dX10_count_180 rfl ?_
      exact sm_qi hq (by rw [en]; rfl)
    | 7, _ =>
      refine wp_iconst (nI 0) 5 rfl dX10_count_4 (by decide) ?_
      refine wp_istore2 6 rfl dX10_count_5 (by decide) rfl ?_
      refine wp_iload1 7 rfl dX10_count_6 ?_
      refine wp_tableIn (off := 174) 181 dX10_count_7 (by decide) (by decide) (by decide) rfl ?_
      refine wp_iconst (nI 0) 182 rfl dX10_count_181 (by decide) ?_
      refine wp_istore3 183 rfl dX10_count_182 (by decide) rfl ?_
      refine sm_for (P := fun p => sm_V G xX10_count (d + 3) 183 [.ref mM, .int (nI 7), .int (z_kept (y_w S) p), .int (nI p)] [] J ρ _) 0 (tx_R (y_T S)) (Nat.zero_le _) ?_ (fun p _ hp ih => ?_)
      · refine wp_iload3 184 rfl dX10_count_183 ?_
        refine wp_aload0 185 rfl dX10_count_184 ?_
        refine wp_getr 188 rfl dX10_count_185 fX10_58_10 (md_M hm) (mp_rounds hm) ?_
        refine wp_aload0 189 rfl dX10_count_188 ?_
        refine wp_geti 192 rfl dX10_count_189 fX10_233_10 (md_M hm) ?_
        refine wp_iald 193 rfl dX10_count_192 (ms_rounds hm) (lv) (hT.1.1) (⟨hT.1.2, by decide⟩) ?_
        refine wp_icmp_ge 196 216 rfl rfl dX10_count_193 (fun c193 => ?_) (fun c193 => absurd (by rw [hT.2.1.2.2]; exact nI_le (Nat.le_refl _) (by omega)) c193)
        refine wp_iload2 217 rfl dX10_count_216 ?_
        refine wp_iret dX10_count_217 rfl ?_
        exact sm_qi hq rfl
      · refine wp_iload3 184 rfl dX10_count_183 ?_
        refine wp_aload0 185 rfl dX10_count_184 ?_
        refine wp_getr 188 rfl dX10_count_185 fX10_58_10 (md_M hm) (mp_rounds hm) ?_
        refine wp_aload0 189 rfl dX10_count_188 ?_
        refine wp_geti 192 rfl dX10_count_189 fX10_233_10 (md_M hm) ?_
        refine wp_iald 193 rfl dX10_count_192 (ms_rounds hm) (lv) (hT.1.1) (⟨hT.1.2, by decide⟩) ?_
        refine wp_icmp_ge 196 216 rfl rfl dX10_count_193 (fun c193 => absurd c193 (by rw [hT.2.1.2.2]; exact nI_ge hp (by omega))) (fun c193 => ?_)
        refine wp_iload2 197 rfl dX10_count_196 ?_
        refine wp_aload0 198 rfl dX10_count_197 ?_
        refine wp_getr 201 rfl dX10_count_198 fX10_122_10 (md_M hm) (mp_row hm) ?_
        refine wp_bipush (nI 54) 203 rfl dX10_count_201 (by decide) ?_
        refine wp_iload3 204 rfl dX10_count_203 ?_
        refine wp_iadd 205 rfl dX10_count_204 ?_
        refine wp_iald 206 rfl dX10_count_205 (ms_row hm) (54 + p) (by first | rfl | simp only [pk_mul, nI_add]) (⟨by omega, by decide⟩) ?_
        rw [hrow]
        refine wp_iload3 207 rfl dX10_count_206 ?_
        refine wp_ishl 208 rfl dX10_count_207 ?_
        refine wp_ior 209 rfl dX10_count_208 ?_
        refine wp_istore2 210 rfl dX10_count_209 (by decide) rfl ?_
        refine wp_iincN3 213 rfl dX10_count_210 (by decide) rfl ?_
        refine wp_goto 183 rfl dX10_count_213 ?_
        exact ih
    | 8, _ =>
      refine wp_iconst (nI 0) 5 rfl dX10_count_4 (by decide) ?_
      refine wp_istore2 6 rfl dX10_count_5 (by decide) rfl ?_
      refine wp_iload1 7 rfl dX10_count_6 ?_
      refine wp_tableIn (off := 211) 218 dX10_count_7 (by decide) (by decide) (by decide) rfl ?_
      refine wp_aload0 219 rfl dX10_count_218 ?_
      refine wp_geti 222 rfl dX10_count_219 fX10_166_10 (md_M hm) ?_
      refine wp_iret dX10_count_222 rfl ?_
      exact sm_qi hq hZJ.2.2.2.2.1.1
    | 9, _ =>
      refine wp_iconst (nI 0) 5 rfl dX10_count_4 (by decide) ?_
      refine wp_istore2 6 rfl dX10_count_5 (by decide) rfl ?_
      refine wp_iload1 7 rfl dX10_count_6 ?_
      refine wp_tableIn (off := 216) 223 dX10_count_7 (by decide) (by decide) (by decide) rfl ?_
      refine wp_aload0 224 rfl dX10_count_223 ?_
      refine wp_geti 227 rfl dX10_count_224 fX10_251_10 (md_M hm) ?_
      refine wp_iret dX10_count_227 rfl ?_
      exact sm_qi hq hZJ.2.1.1
    | 10, _ =>
      refine wp_iconst (nI 0) 5 rfl dX10_count_4 (by decide) ?_
      refine wp_istore2 6 rfl dX10_count_5 (by decide) rfl ?_
      refine wp_iload1 7 rfl dX10_count_6 ?_
      refine wp_tableIn (off := 221) 228 dX10_count_7 (by decide) (by decide) (by decide) rfl ?_
      refine wp_aload0 229 rfl dX10_count_228 ?_
      refine wp_geti 232 rfl dX10_count_229 fX10_254_10 (md_M hm) ?_
      refine wp_iret dX10_count_232 rfl ?_
      exact sm_qi hq hZJ.2.2.1.1
    | 11, _ =>
      have hh : ∀ s, s < 3 → J m_isHeld s = z_some (y_K S s) := fun s hs => by
        obtain ⟨a, b⟩ := hZJ.2.2.2.1 s hs
        cases hK : y_K S s with
        | none => exact a hK
        | some r => exact (b r hK).1
      have hz : ∀ s, z_some (y_K S s) = nI 0 ∨ z_some (y_K S s) = nI 1 := fun s => by
        cases y_K S s with
        | none => exact Or.inl rfl
        | some r => exact Or.inr rfl
      show sm_V G xX10_count (d + 3) 4 _ _ J ρ (mPost I ρ (z_some (y_K S 0) + z_some (y_K S 1) + z_some (y_K S 2)))
      refine wp_iconst (nI 0) 5 rfl dX10_count_4 (by decide) ?_
      refine wp_istore2 6 rfl dX10_count_5 (by decide) rfl ?_
      refine wp_iload1 7 rfl dX10_count_6 ?_
      refine wp_tableIn (off := 226) 233 dX10_count_7 (by decide) (by decide) (by decide) rfl ?_
      refine wp_aload0 234 rfl dX10_count_233 ?_
      refine wp_getr 237 rfl dX10_count_234 fX10_146_10 (md_M hm) (mp_isHeld hm) ?_
      refine wp_iconst (nI 0) 238 rfl dX10_count_237 (by decide) ?_
      refine wp_zald 239 rfl dX10_count_238 (ms_isHeld hm) (0) (by first | rfl | simp only [pk_mul, nI_add]) (⟨by omega, by decide⟩) ?_
      rw [hh 0 (by decide)]
      have key2 : ∀ a b : Int32, sm_V G xX10_count (d + 3) 276 [.ref mM, .int (nI 11), .int (nI 0), .retAddr 0] [.int a, .int b] J ρ (mPost I ρ (b + a)) := fun a b => by
        refine wp_iadd 277 rfl dX10_count_276 ?_
        refine wp_iret dX10_count_277 rfl ?_
        exact sm_qi hq rfl
      have key1 : ∀ a b : Int32, sm_V G xX10_count (d + 3) 261 [.ref mM, .int (nI 11), .int (nI 0), .retAddr 0] [.int a, .int b] J ρ (mPost I ρ (b + a + z_some (y_K S 2))) := fun a b => by
        refine wp_iadd 262 rfl dX10_count_261 ?_
        refine wp_aload0 263 rfl dX10_count_262 ?_
        refine wp_getr 266 rfl dX10_count_263 fX10_146_10 (md_M hm) (mp_isHeld hm) ?_
        refine wp_iconst (nI 2) 267 rfl dX10_count_266 (by decide) ?_
        refine wp_zald 268 rfl dX10_count_267 (ms_isHeld hm) (2) (by first | rfl | simp only [pk_mul, nI_add]) (⟨by omega, by decide⟩) ?_
        rw [hh 2 (by decide)]
        rcases hz 2 with e | e
        · rw [e]
          refine wp_if_eq 271 275 rfl rfl dX10_count_268 (fun c268 => ?_) (fun c268 => absurd (rfl) c268)
          refine wp_iconst (nI 0) 276 rfl dX10_count_275 (by decide) ?_
          exact key2 _ _
        · rw [e]
          refine wp_if_eq 271 275 rfl rfl dX10_count_268 (fun c268 => absurd c268 (by decide)) (fun c268 => ?_)
          refine wp_iconst (nI 1) 272 rfl dX10_count_271 (by decide) ?_
          refine wp_goto 276 rfl dX10_count_272 ?_
          exact key2 _ _
      have key0 : ∀ a : Int32, sm_V G xX10_count (d + 3) 247 [.ref mM, .int (nI 11), .int (nI 0), .retAddr 0] [.int a] J ρ (mPost I ρ (a + z_some (y_K S 1) + z_some (y_K S 2))) := fun a => by
        refine wp_aload0 248 rfl dX10_count_247 ?_
        refine wp_getr 251 rfl dX10_count_248 fX10_146_10 (md_M hm) (mp_isHeld hm) ?_
        refine wp_iconst (nI 1) 252 rfl dX10_count_251 (by decide) ?_
        refine wp_zald 253 rfl dX10_count_252 (ms_isHeld hm) (1) (by first | rfl | simp only [pk_mul, nI_add]) (⟨by omega, by decide⟩) ?_
        rw [hh 1 (by decide)]
        rcases hz 1 with e | e
        · rw [e]
          refine wp_if_eq 256 260 rfl rfl dX10_count_253 (fun c253 => ?_) (fun c253 => absurd (rfl) c253)
          refine wp_iconst (nI 0) 261 rfl dX10_count_260 (by decide) ?_
          exact key1 _ _
        · rw [e]
          refine wp_if_eq 256 260 rfl rfl dX10_count_253 (fun c253 => absurd c253 (by decide)) (fun c253 => ?_)
          refine wp_iconst (nI 1) 257 rfl dX10_count_256 (by decide) ?_
          refine wp_goto 261 rfl dX10_count_257 ?_
          exact key1 _ _
      rcases hz 0 with e | e
      · rw [e]
        refine wp_if_eq 242 246 rfl rfl dX10_count_239 (fun c239 => ?_) (fun c239 => absurd (rfl) c239)
        refine wp_iconst (nI 0) 247 rfl dX10_count_246 (by decide) ?_
        exact key0 _
      · rw [e]
        refine wp_if_eq 242 246 rfl rfl dX10_count_239 (fun c239 => absurd c239 (by decide)) (fun c239 => ?_)
        refine wp_iconst (nI 1) 243 rfl dX10_count_242 (by decide) ?_
        refine wp_goto 247 rfl dX10_count_243 ?_
        exact key0 _
    | 12, _ =>
      refine wp_iconst (nI 0) 5 rfl dX10_count_4 (by decide) ?_
      refine wp_istore2 6 rfl dX10_count_5 (by decide) rfl ?_
      refine wp_iload1 7 rfl dX10_count_6 ?_
      refine wp_tableIn (off := 271) 278 dX10_count_7 (by decide) (by decide) (by decide) rfl ?_
      refine wp_aload0 279 rfl dX10_count_278 ?_
      refine wp_Ve0 282 rfl dX10_count_279 kX10_isWind lX10_377 (md_M hm) (nl rfl) (nl rfl) (s_isWind hm lv hT.1.1 hT.1.2) ?_
      rw [hrow, h53, hT.2.2.2.2.2.1.1]
      refine wp_if_eq 285 289 rfl rfl dX10_count_282 (fun c282 => ?_) (fun c282 => ?_)
      · refine wp_iconst (nI 0) 290 rfl dX10_count_289 (by decide) ?_
        refine wp_iret dX10_count_290 rfl ?_
        exact sm_qi hq (z_bf (z_b_eq.mp c282)).symm
      · refine wp_iconst (nI 1) 286 rfl dX10_count_285 (by decide) ?_
        refine wp_goto 290 rfl dX10_count_286 ?_
        refine wp_iret dX10_count_290 rfl ?_
        exact sm_qi hq (z_bt (z_b_ne.mp c282)).symm
    | 13, _ =>
      refine wp_iconst (nI 0) 5 rfl dX10_count_4 (by decide) ?_
      refine wp_istore2 6 rfl dX10_count_5 (by decide) rfl ?_
      refine wp_iload1 7 rfl dX10_count_6 ?_
      refine wp_tableIn (off := 284) 291 dX10_count_7 (by decide) (by decide) (by decide) rfl ?_
      refine wp_iconst (nI 0) 292 rfl dX10_count_291 (by decide) ?_
      refine wp_istore3 293 rfl dX10_count_292 (by decide) rfl ?_
      refine sm_for (P := fun p => sm_V G xX10_count (d + 3) 293 [.ref mM, .int (nI 13), .int (r_by (y_T S) (y_w S) p), .int (nI p)] [] J ρ _) 0 (tx_D (y_T S)) (Nat.zero_le _) ?_ (fun p _ hp ih => ?_)
      · refine wp_iload3 294 rfl dX10_count_293 ?_
        refine wp_aload0 295 rfl dX10_count_294 ?_
        refine wp_getr 298 rfl dX10_count_295 fX10_46_10 (md_M hm) (mp_doors hm) ?_
        refine wp_aload0 299 rfl dX10_count_298 ?_
        refine wp_geti 302 rfl dX10_count_299 fX10_233_10 (md_M hm) ?_
        refine wp_iald 303 rfl dX10_count_302 (ms_doors hm) (lv) (hT.1.1) (⟨hT.1.2, by decide⟩) ?_
        refine wp_icmp_ge 306 330 rfl rfl dX10_count_303 (fun c303 => ?_) (fun c303 => absurd (by rw [hT.2.1.1]; exact nI_le (Nat.le_refl _) (by omega)) c303)
        refine wp_iload2 331 rfl dX10_count_330 ?_
        refine wp_Se1 334 rfl dX10_count_331 kX10_bits lX10_457 (nl rfl) (nl rfl) (s_bits _) ?_
        refine wp_iret dX10_count_334 rfl ?_
        exact sm_qi hq rfl
      · have es : r_by (y_T S) (y_w S) (p + 1) = if r_known (y_T S) (y_w S) p < 0 then r_by (y_T S) (y_w S) p else r_by (y_T S) (y_w S) p ||| nI 1 <<< (r_known (y_T S) (y_w S) p &&& 31) := rfl
        rw [es] at ih
        refine wp_iload3 294 rfl dX10_count_293 ?_
        refine wp_aload0 295 rfl dX10_count_294 ?_
        refine wp_getr 298 rfl dX10_count_295 fX10_46_10 (md_M hm) (mp_doors hm) ?_
        refine wp_aload0 299 rfl dX10_count_298 ?_
        refine wp_geti 302 rfl dX10_count_299 fX10_233_10 (md_M hm) ?_
        refine wp_iald 303 rfl dX10_count_302 (ms_doors hm) (lv) (hT.1.1) (⟨hT.1.2, by decide⟩) ?_
        refine wp_icmp_ge 306 330 rfl rfl dX10_count_303 (fun c303 => absurd c303 (by rw [hT.2.1.1]; exact nI_ge hp (by omega))) (fun c303 => ?_)
        refine wp_aload0 307 rfl dX10_count_306 ?_
        refine wp_iload3 308 rfl dX10_count_307 ?_
        refine wp_Ve1 311 rfl dX10_count_308 kX10_knownBy lX10_390 (md_M hm) (nl rfl) (nl rfl) (s_knownBy hm lv p (tx_C (y_T S)) hT.1.1 hT.1.2 (by omega) hT.2.1.2.1 h1.2.1) ?_
        rw [k_by_r hT, hrow]
        refine wp_if_lt 314 324 rfl rfl dX10_count_311 (fun c311 => ?_) (fun c311 => ?_)
        · rw [if_pos c311] at ih
          refine wp_iincN3 327 rfl dX10_count_324 (by decide) rfl ?_
          refine wp_goto 293 rfl dX10_count_327 ?_
          exact ih
        · rw [if_neg c311] at ih
          refine wp_iload2 315 rfl dX10_count_314 ?_
          refine wp_iconst (nI 1) 316 rfl dX10_count_315 (by decide) ?_
          refine wp_aload0 317 rfl dX10_count_316 ?_
          refine wp_iload3 318 rfl dX10_count_317 ?_
          refine wp_Ve1 321 rfl dX10_count_318 kX10_knownBy lX10_390 (md_M hm) (nl rfl) (nl rfl) (s_knownBy hm lv p (tx_C (y_T S)) hT.1.1 hT.1.2 (by omega) hT.2.1.2.1 h1.2.1) ?_
          rw [k_by_r hT, hrow]
          refine wp_ishl 322 rfl dX10_count_321 ?_
          refine wp_ior 323 rfl dX10_count_322 ?_
          refine wp_istore2 324 rfl dX10_count_323 (by decide) rfl ?_
          refine wp_iincN3 327 rfl dX10_count_324 (by decide) rfl ?_
          refine wp_goto 293 rfl dX10_count_327 ?_
          exact ih
    | 14, _ =>
      refine wp_iconst (nI 0) 5 rfl dX10_count_4 (by decide) ?_
      refine wp_istore2 6 rfl dX10_count_5 (by decide) rfl ?_
      refine wp_iload1 7 rfl dX10_count_6 ?_
      refine wp_tableIn (off := 328) 335 dX10_count_7 (by decide) (by decide) (by decide) rfl ?_
      refine wp_iconst (nI 0) 336 rfl dX10_count_335 (by decide) ?_
      refine wp_istore3 337 rfl dX10_count_336 (by decide) rfl ?_
      refine sm_for (P := fun p => sm_V G xX10_count (d + 3) 337 [.ref mM, .int (nI 14), .int (z_set (fun d => r_unf (y_T S) (y_w S) d = 0) p), .int (nI p)] [] J ρ _) 0 (tx_D (y_T S)) (Nat.zero_le _) ?_ (fun p _ hp ih => ?_)
      · refine wp_iload3 338 rfl dX10_count_337 ?_
        refine wp_aload0 339 rfl dX10_count_338 ?_
        refine wp_getr 342 rfl dX10_count_339 fX10_46_10 (md_M hm) (mp_doors hm) ?_
        refine wp_aload0 343 rfl dX10_count_342 ?_
        refine wp_geti 346 rfl dX10_count_343 fX10_233_10 (md_M hm) ?_
        refine wp_iald 347 rfl dX10_count_346 (ms_doors hm) (lv) (hT.1.1) (⟨hT.1.2, by decide⟩) ?_
        refine wp_icmp_ge 350 370 rfl rfl dX10_count_347 (fun c347 => ?_) (fun c347 => absurd (by rw [hT.2.1.1]; exact nI_le (Nat.le_refl _) (by omega)) c347)
        refine wp_iload2 371 rfl dX10_count_370 ?_
        refine wp_iret dX10_count_371 rfl ?_
        exact sm_qi hq rfl
      · have es : z_set (fun d => r_unf (y_T S) (y_w S) d = 0) (p + 1) = if r_unf (y_T S) (y_w S) p = 0 then z_set (fun d => r_unf (y_T S) (y_w S) d = 0) p ||| nI 1 <<< (nI p &&& 31) else z_set (fun d => r_unf (y_T S) (y_w S) d = 0) p := rfl
        rw [es] at ih
        refine wp_iload3 338 rfl dX10_count_337 ?_
        refine wp_aload0 339 rfl dX10_count_338 ?_
        refine wp_getr 342 rfl dX10_count_339 fX10_46_10 (md_M hm) (mp_doors hm) ?_
        refine wp_aload0 343 rfl dX10_count_342 ?_
        refine wp_geti 346 rfl dX10_count_343 fX10_233_10 (md_M hm) ?_
        refine wp_iald 347 rfl dX10_count_346 (ms_doors hm) (lv) (hT.1.1) (⟨hT.1.2, by decide⟩) ?_
        refine wp_icmp_ge 350 370 rfl rfl dX10_count_347 (fun c347 => absurd c347 (by rw [hT.2.1.1]; exact nI_ge hp (by omega))) (fun c347 => ?_)
        refine wp_aload0 351 rfl dX10_count_350 ?_
        refine wp_iload3 352 rfl dX10_count_351 ?_
        refine wp_Ve1 355 rfl dX10_count_352 kX10_unlikeFirst lX10_357 (md_M hm) (nl rfl) (nl rfl) (s_unlikeFirst hm lv p hT.1.1 hT.1.2 (by omega)) ?_
        rw [u_fi_r hT hp, hrow]
        refine wp_if_ne 358 364 rfl rfl dX10_count_355 (fun c355 => ?_) (fun c355 => ?_)
        · rw [if_neg c355] at ih
          refine wp_iincN3 367 rfl dX10_count_364 (by decide) rfl ?_
          refine wp_goto 337 rfl dX10_count_367 ?_
          exact ih
        · rw [if_pos c355] at ih
          refine wp_iload2 359 rfl dX10_count_358 ?_
          refine wp_iconst (nI 1) 360 rfl dX10_count_359 (by decide) ?_
          refine wp_iload3 361 rfl dX10_count_360 ?_
          refine wp_ishl 362 rfl dX10_count_361 ?_
          refine wp_ior 363 rfl dX10_count_362 ?_
          refine wp_istore2 364 rfl dX10_count_363 (by decide) rfl ?_
          refine wp_iincN3 367 rfl dX10_count_364 (by decide) rfl ?_
          refine wp_goto 337 rfl dX10_count_367 ?_
          exact ih
    | 15, _ =>
      refine wp_iconst (nI 0) 5 rfl dX10_count_4 (by decide) ?_
      refine wp_istore2 6 rfl dX10_count_5 (by decide) rfl ?_
      refine wp_iload1 7 rfl dX10_count_6 ?_
      refine wp_tableIn (off := 365) 372 dX10_count_7 (by decide) (by decide) (by decide) rfl ?_
      refine wp_iconst (nI 0) 373 rfl dX10_count_372 (by decide) ?_
      refine wp_istore3 374 rfl dX10_count_373 (by decide) rfl ?_
      refine sm_for (P := fun p => sm_V G xX10_count (d + 3) 374 [.ref mM, .int (nI 15), .int (z_set (fun d => ¬ y_w S (30 + d) ≤ 0) p), .int (nI p)] [] J ρ _) 0 (tx_D (y_T S)) (Nat.zero_le _) ?_ (fun p _ hp ih => ?_)
      · refine wp_iload3 375 rfl dX10_count_374 ?_
        refine wp_aload0 376 rfl dX10_count_375 ?_
        refine wp_getr 379 rfl dX10_count_376 fX10_46_10 (md_M hm) (mp_doors hm) ?_
        refine wp_aload0 380 rfl dX10_count_379 ?_
        refine wp_geti 383 rfl dX10_count_380 fX10_233_10 (md_M hm) ?_
        refine wp_iald 384 rfl dX10_count_383 (ms_doors hm) (lv) (hT.1.1) (⟨hT.1.2, by decide⟩) ?_
        refine wp_icmp_ge 387 411 rfl rfl dX10_count_384 (fun c384 => ?_) (fun c384 => absurd (by rw [hT.2.1.1]; exact nI_le (Nat.le_refl _) (by omega)) c384)
        refine wp_iload2 412 rfl dX10_count_411 ?_
        refine wp_iret dX10_count_412 rfl ?_
        exact sm_qi hq rfl
      · have es : z_set (fun d => ¬ y_w S (30 + d) ≤ 0) (p + 1) = if ¬ y_w S (30 + p) ≤ 0 then z_set (fun d => ¬ y_w S (30 + d) ≤ 0) p ||| nI 1 <<< (nI p &&& 31) else z_set (fun d => ¬ y_w S (30 + d) ≤ 0) p := rfl
        rw [es] at ih
        refine wp_iload3 375 rfl dX10_count_374 ?_
        refine wp_aload0 376 rfl dX10_count_375 ?_
        refine wp_getr 379 rfl dX10_count_376 fX10_46_10 (md_M hm) (mp_doors hm) ?_
        refine wp_aload0 380 rfl dX10_count_379 ?_
        refine wp_geti 383 rfl dX10_count_380 fX10_233_10 (md_M hm) ?_
        refine wp_iald 384 rfl dX10_count_383 (ms_doors hm) (lv) (hT.1.1) (⟨hT.1.2, by decide⟩) ?_
        refine wp_icmp_ge 387 411 rfl rfl dX10_count_384 (fun c384 => absurd c384 (by rw [hT.2.1.1]; exact nI_ge hp (by omega))) (fun c384 => ?_)
        refine wp_aload0 388 rfl dX10_count_387 ?_
        refine wp_getr 391 rfl dX10_count_388 fX10_122_10 (md_M hm) (mp_row hm) ?_
        refine wp_bipush (nI 30) 393 rfl dX10_count_391 (by decide) ?_
        refine wp_iload3 394 rfl dX10_count_393 ?_
        refine wp_iadd 395 rfl dX10_count_394 ?_
        refine wp_iald 396 rfl dX10_count_395 (ms_row hm) (30 + p) (by first | rfl | simp only [pk_mul, nI_add]) (⟨by omega, by decide⟩) ?_
        rw [hrow]
        refine wp_if_le 399 405 rfl rfl dX10_count_396 (fun c396 => ?_) (fun c396 => ?_)
        · rw [if_neg (fun h => h c396)] at ih
          refine wp_iincN3 408 rfl dX10_count_405 (by decide) rfl ?_
          refine wp_goto 374 rfl dX10_count_408 ?_
          exact ih
        · rw [if_pos c396] at ih
          refine wp_iload2 400 rfl dX10_count_399 ?_
          refine wp_iconst (nI 1) 401 rfl dX10_count_400 (by decide) ?_
          refine wp_iload3 402 rfl dX10_count_401 ?_
          refine wp_ishl 403 rfl dX10_count_402 ?_
          refine wp_ior 404 rfl dX10_count_403 ?_
          refine wp_istore2 405 rfl dX10_count_404 (by decide) rfl ?_
          refine wp_iincN3 408 rfl dX10_count_405 (by decide) rfl ?_
          refine wp_goto 374 rfl dX10_count_408 ?_
          exact ih
    | 16, _ =>
      refine wp_iconst (nI 0) 5 rfl dX10_count_4 (by decide) ?_
      refine wp_istore2 6 rfl dX10_count_5 (by decide) rfl ?_
      refine wp_iload1 7 rfl dX10_count_6 ?_
      refine wp_tableIn (off := 406) 413 dX10_count_7 (by decide) (by decide) (by decide) rfl ?_
      refine wp_aload0 414 rfl dX10_count_413 ?_
      refine wp_bipush (nI 36) 416 rfl dX10_count_414 (by decide) ?_
      refine wp_bipush (nI 6) 418 rfl dX10_count_416 (by decide) ?_
      refine wp_Ve2 421 rfl dX10_count_418 kX10_sumNow lX10_463 (md_M hm) (nl rfl) (nl rfl) (s_sumNow hm 36 6 (by decide)) ?_
      refine wp_iret dX10_count_421 rfl ?_
      exact sm_qi hq (by rw [en]; rfl)
    | n + 17, h => omega
  · have hk0 := hk
    have hout : what.toInt < 0 ∨ 16 < what.toInt := by
      rw [pk_sub (by decide), Int32.le_iff_toInt_le, Int32.le_iff_toInt_le, nI_toInt (by decide), nI_toInt (by decide)] at hk
      omega
    refine wp_iconst (nI 0) 5 rfl dX10_count_4 (by decide) ?_
    refine wp_istore2 6 rfl dX10_count_5 (by decide) rfl ?_
    refine wp_iload1 7 rfl dX10_count_6 ?_
    refine wp_tableOut 422 dX10_count_7 (hout) rfl ?_
    refine wp_iconst (-1) 423 rfl dX10_count_422 (by decide) ?_
    refine wp_iret dX10_count_423 rfl ?_
    refine sm_qi hq ?_
    rw [z_ix_o hk0]
end M23
