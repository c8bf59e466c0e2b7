/-! ===== tokens: what a tape comes to ===== -/
set_option maxRecDepth 100000
def ky_c (n : Nat) (b : Nat → Int32) (i : Nat) : Nat := if i < n then (b i).toBitVec.toNat % 2 ^ 8 else 0
def ky_run (P : Nat → Prop) [DecidablePred P] : Nat → Nat → Nat
  | 0, i => i
  | f + 1, i => if P i then ky_run P f (i + 1) else i
abbrev ky_L (c : Nat) : Prop := 97 ≤ c ∧ c ≤ 122
abbrev ky_D (c : Nat) : Prop := 48 ≤ c ∧ c ≤ 57
abbrev ky_W (c : Nat) : Prop := c = 9 ∨ c = 10 ∨ c = 13 ∨ c = 32
def ky_sg (c : Nat) : Nat := if c = 60 then 13 else if c = 47 then 15 else if c = 42 then 10 else if c = 45 then 9 else if c = 43 then 8 else if c = 59 then 4 else if c = 61 then 5 else if c = 40 then 6 else if c = 41 then 7 else 3
def ky_key (k : Nat) : Nat := [90090, 43823259, 9876874, 3913426, 12322792, 316351, 459652, 279252, 377761, 249, 399641, 107681, 847604, 316163, 6559372, 180392, 2968, 118913, 309010280, 12387257, 269481550].getD k 0
def ky_find (nm : Nat) : Nat → Nat
  | 0 => 1
  | k + 1 => if ky_key k = nm then 20 + k else ky_find nm k
def ky_nm (c : Nat → Nat) (i : Nat) : Nat → Nat
  | 0 => 0
  | m + 1 => if m < 8 then 27 * ky_nm c i m + (c (i + m) - 96) else ky_nm c i m
def ky_nu (c : Nat → Nat) (i : Nat) : Nat → Nat
  | 0 => 0
  | m + 1 => if m < 4 then 10 * ky_nu c i m + (c (i + m) - 48) else ky_nu c i m
def ky_le (c : Nat → Nat) (i : Nat) : Nat := ky_run (fun j => ky_L (c j)) 2001 i
def ky_de (c : Nat → Nat) (i : Nat) : Nat := ky_run (fun j => ky_D (c j)) 2001 i
/-- the token that begins at i: its end; sort, place, number, name -/
def ky_end (n : Nat) (c : Nat → Nat) (i : Nat) : Nat := if n ≤ i then i else if ky_L (c i) then ky_le c i else if ky_D (c i) then ky_de c i else i + 1
def ky_at (n : Nat) (c : Nat → Nat) (i : Nat) : Nat × Nat × Nat × Nat :=
  if n ≤ i then (0, n, 0, 0)
  else if ky_L (c i) then (if 8 < ky_le c i - i then 3 else ky_find (ky_nm c i (ky_le c i - i)) 21, i, 0, ky_nm c i (ky_le c i - i))
  else if ky_D (c i) then (if 4 < ky_de c i - i then 3 else 2, i, ky_nu c i (ky_de c i - i), 0)
  else (ky_sg (c i), i, 0, 0)
def ky_sk (c : Nat → Nat) (i : Nat) : Nat := ky_run (fun j => ky_W (c j)) 2001 i
def ky_pos (n : Nat) (c : Nat → Nat) : Nat → Nat
  | 0 => ky_sk c 0
  | k + 1 => ky_sk c (ky_end n c (ky_pos n c k))
def ky_tk (n : Nat) (b : Nat → Int32) (k : Nat) : Nat × Nat × Nat × Nat := ky_at n (ky_c n b) (ky_pos n (ky_c n b) k)
theorem ky_run_ge {P : Nat → Prop} [DecidablePred P] : ∀ {f i : Nat}, i ≤ ky_run P f i
  | 0, _ => Nat.le_refl _
  | f + 1, i => by
    unfold ky_run
    split
    · exact Nat.le_trans (Nat.le_succ i) ky_run_ge
    · exact Nat.le_refl _
theorem ky_run_in {P : Nat → Prop} [DecidablePred P] : ∀ {f i j : Nat}, i ≤ j → j < ky_run P f i → P j
  | 0, i, j, h1, h2 => absurd h2 (Nat.not_lt.mpr h1)
  | f + 1, i, j, h1, h2 => by
    unfold ky_run at h2
    by_cases hp : P i
    · rw [if_pos hp] at h2
      by_cases e : j = i
      · rw [e]; exact hp
      · exact ky_run_in (by omega) h2
    · rw [if_neg hp] at h2
      omega
theorem ky_run_end {P : Nat → Prop} [DecidablePred P] {n : Nat} (hP : ∀ j, P j → j < n) : ∀ {f i : Nat}, n < f + i → ¬ P (ky_run P f i)
  | 0, i, h => fun hp => by
    have := hP i hp
    omega
  | f + 1, i, h => by
    unfold ky_run
    by_cases hp : P i
    · rw [if_pos hp]
      exact ky_run_end hP (by omega)
    · rw [if_neg hp]
      exact hp
theorem ky_run_le {P : Nat → Prop} [DecidablePred P] {n : Nat} (hP : ∀ j, P j → j < n) : ∀ {f i : Nat}, i ≤ n → ky_run P f i ≤ n
  | 0, _, h => h
  | f + 1, i, h => by
    unfold ky_run
    by_cases hp : P i
    · rw [if_pos hp]
      exact ky_run_le hP (hP i hp)
    · rw [if_neg hp]
      exact h
theorem ky_c_lt {n : Nat} {b : Nat → Int32} {j : Nat} (h : 0 < ky_c n b j) : j < n := by
  unfold ky_c at h
  by_cases hj : j < n
  · exact hj
  · rw [if_neg hj] at h
    omega
theorem ky_c_256 (n : Nat) (b : Nat → Int32) (j : Nat) : ky_c n b j < 256 := by
  unfold ky_c
  split
  · exact Nat.mod_lt _ (by decide)
  · decide
/-- a run that goes on by one -/
theorem ky_run_s {P : Nat → Prop} [DecidablePred P] {n : Nat} (hP : ∀ j, P j → j < n) {f i : Nat} (hf : n < f + i) (hp : P i) : ky_run P f i = ky_run P f (i + 1) := by
  have key : ∀ f i, n < f + i → ky_run P f i = ky_run P (f + 1) i := by
    intro f
    induction f with
    | zero =>
      intro i h
      unfold ky_run
      rw [if_neg (fun hp => by have := hP i hp; omega)]
    | succ f ih =>
      intro i h
      show (if P i then ky_run P f (i + 1) else i) = (if P i then ky_run P (f + 1) (i + 1) else i)
      rw [ih (i + 1) (by omega)]
  rw [key f i hf]
  show (if P i then ky_run P f (i + 1) else i) = _
  rw [if_pos hp]
theorem ky_sk_s {n : Nat} {b : Nat → Int32} (hn : n ≤ 2000) {i : Nat} (h : ky_W (ky_c n b i)) : ky_sk (ky_c n b) i = ky_sk (ky_c n b) (i + 1) := ky_run_s (P := fun j => ky_W (ky_c n b j)) (n := n) (f := 2001) (fun j (hj : ky_W (ky_c n b j)) => ky_c_lt (b := b) (by unfold ky_W at hj; omega)) (by omega) h
theorem ky_sk_o {c : Nat → Nat} {i : Nat} (h : ¬ ky_W (c i)) : ky_sk c i = i := by
  unfold ky_sk ky_run
  rw [if_neg h]
section M24
variable {G : sm_G} {d : Nat} {I : sm_I} {ρ : sm_R}
theorem s_byteAt (hm : md ρ) (n : Nat) (b : Nat → Int32) (h4 : I mM 4 = nI n) (hn : n ≤ 2000) (hb : ∀ j, j < n → I m_text j = b j) (i : Nat) (hi : i < 100000) : sm_M G xX10_byteAt d [.ref mM, .int (nI i)] I ρ (sm_Qe (some (.int (nI (ky_c n b i)))) I ρ) := by
  show sm_V G xX10_byteAt d 0 [.ref mM, .int (nI i)] [] I ρ _
  unfold ky_c
  refine wp_iload1 1 rfl dX10_byteAt_0 ?_
  refine wp_aload0 2 rfl dX10_byteAt_1 ?_
  refine wp_geti 5 rfl dX10_byteAt_2 fX10_172_10 (md_M hm) ?_
  rw [h4]
  by_cases h : i < n
  · rw [if_pos h]
    refine wp_icmp_ge 8 21 rfl rfl dX10_byteAt_5 (fun c5 => absurd c5 (nI_ge h (by omega))) (fun c5 => ?_)
    refine wp_aload0 9 rfl dX10_byteAt_8 ?_
    refine wp_getr 12 rfl dX10_byteAt_9 fX10_17_10 (md_M hm) (mp_text hm) ?_
    refine wp_iload1 13 rfl dX10_byteAt_12 ?_
    refine wp_bald 14 rfl dX10_byteAt_13 (ms_text hm) (i) (by first | rfl | simp only [pk_mul, nI_add]) (⟨by omega, by decide⟩) ?_
    refine wp_sipush (nI 255) 17 rfl dX10_byteAt_14 (by decide) ?_
    refine wp_iand 18 rfl dX10_byteAt_17 ?_
    refine wp_goto 22 rfl dX10_byteAt_18 ?_
    refine wp_iret dX10_byteAt_22 rfl ?_
    rw [hb i h]
    exact sm_ei (pk_and _ 8 (by decide))
  · rw [if_neg h]
    refine wp_icmp_ge 8 21 rfl rfl dX10_byteAt_5 (fun c5 => ?_) (fun c5 => absurd (nI_le (by omega) (by omega)) c5)
    refine wp_iconst (nI 0) 22 rfl dX10_byteAt_21 (by decide) ?_
    refine wp_iret dX10_byteAt_22 rfl ?_
    exact sm_ei rfl
theorem s_isLetter (c : Nat) (hc : c < 256) : sm_M G xX10_isLetter d [.int (nI c)] I ρ (sm_Qe (some (.int (z_b (ky_L c)))) I ρ) := by
  show sm_V G xX10_isLetter d 0 [.int (nI c)] [] I ρ _
  by_cases h1 : 97 ≤ c
  · by_cases h2 : c ≤ 122
    · refine wp_iload0 1 rfl dX10_isLetter_0 ?_
      refine wp_bipush (nI 97) 3 rfl dX10_isLetter_1 (by decide) ?_
      refine wp_icmp_lt 6 16 rfl rfl dX10_isLetter_3 (fun c3 => absurd c3 (nI_nlt h1 (by omega))) (fun c3 => ?_)
      refine wp_iload0 7 rfl dX10_isLetter_6 ?_
      refine wp_bipush (nI 122) 9 rfl dX10_isLetter_7 (by decide) ?_
      refine wp_icmp_gt 12 16 rfl rfl dX10_isLetter_9 (fun c9 => absurd c9 (nI_nlt h2 (by omega))) (fun c9 => ?_)
      refine wp_iconst (nI 1) 13 rfl dX10_isLetter_12 (by decide) ?_
      refine wp_goto 17 rfl dX10_isLetter_13 ?_
      refine wp_zret dX10_isLetter_17 rfl (rfl) ?_
      exact sm_ei (z_bt ⟨h1, h2⟩).symm
    · refine wp_iload0 1 rfl dX10_isLetter_0 ?_
      refine wp_bipush (nI 97) 3 rfl dX10_isLetter_1 (by decide) ?_
      refine wp_icmp_lt 6 16 rfl rfl dX10_isLetter_3 (fun c3 => absurd c3 (nI_nlt h1 (by omega))) (fun c3 => ?_)
      refine wp_iload0 7 rfl dX10_isLetter_6 ?_
      refine wp_bipush (nI 122) 9 rfl dX10_isLetter_7 (by decide) ?_
      refine wp_icmp_gt 12 16 rfl rfl dX10_isLetter_9 (fun c9 => ?_) (fun c9 => absurd (nI_lt (by omega) (by omega)) c9)
      refine wp_iconst (nI 0) 17 rfl dX10_isLetter_16 (by decide) ?_
      refine wp_zret dX10_isLetter_17 rfl (rfl) ?_
      exact sm_ei (z_bf (fun h => h2 h.2)).symm
  · refine wp_iload0 1 rfl dX10_isLetter_0 ?_
    refine wp_bipush (nI 97) 3 rfl dX10_isLetter_1 (by decide) ?_
    refine wp_icmp_lt 6 16 rfl rfl dX10_isLetter_3 (fun c3 => ?_) (fun c3 => absurd (nI_lt (by omega) (by omega)) c3)
    refine wp_iconst (nI 0) 17 rfl dX10_isLetter_16 (by decide) ?_
    refine wp_zret dX10_isLetter_17 rfl (rfl) ?_
    exact sm_ei (z_bf (fun h => h1 h.1)).symm
theorem s_isDigit (c : Nat) (hc : c < 256) : sm_M G xX10_isDigit d [.int (nI c)] I ρ (sm_Qe (some (.int (z_b (ky_D c)))) I ρ) := by
  show sm_V G xX10_isDigit d 0 [.int (nI c)] [] I ρ _
  by_cases h1 : 48 ≤ c
  · by_cases h2 : c ≤ 57
    · refine wp_iload0 1 rfl dX10_isDigit_0 ?_
      refine wp_bipush (nI 48) 3 rfl dX10_isDigit_1 (by decide) ?_
      refine wp_icmp_lt 6 16 rfl rfl dX10_isDigit_3 (fun c3 => absurd c3 (nI_nlt h1 (by omega))) (fun c3 => ?_)
      refine wp_iload0 7 rfl dX10_isDigit_6 ?_
      refine wp_bipush (nI 57) 9 rfl dX10_isDigit_7 (by decide) ?_
      refine wp_icmp_gt 12 16 rfl rfl dX10_isDigit_9 (fun c9 => absurd c9 (nI_nlt h2 (by omega))) (fun c9 => ?_)
      refine wp_iconst (nI 1) 13 rfl dX10_isDigit_12 (by decide) ?_
      refine wp_goto 17 rfl dX10_isDigit_13 ?_
      refine wp_zret dX10_isDigit_17 rfl (rfl) ?_
      exact sm_ei (z_bt ⟨h1, h2⟩).symm
    · refine wp_iload0 1 rfl dX10_isDigit_0 ?_
      refine wp_bipush (nI 48) 3 rfl dX10_isDigit_1 (by decide) ?_
      refine wp_icmp_lt 6 16 rfl rfl dX10_isDigit_3 (fun c3 => absurd c3 (nI_nlt h1 (by omega))) (fun c3 => ?_)
      refine wp_iload0 7 rfl dX10_isDigit_6 ?_
      refine wp_bipush (nI 57) 9 rfl dX10_isDigit_7 (by decide) ?_
      refine wp_icmp_gt 12 16 rfl rfl dX10_isDigit_9 (fun c9 => ?_) (fun c9 => absurd (nI_lt (by omega) (by omega)) c9)
      refine wp_iconst (nI 0) 17 rfl dX10_isDigit_16 (by decide) ?_
      refine wp_zret dX10_isDigit_17 rfl (rfl) ?_
      exact sm_ei (z_bf (fun h => h2 h.2)).symm
  · refine wp_iload0 1 rfl dX10_isDigit_0 ?_
    refine wp_bipush (nI 48) 3 rfl dX10_isDigit_1 (by decide) ?_
    refine wp_icmp_lt 6 16 rfl rfl dX10_isDigit_3 (fun c3 => ?_) (fun c3 => absurd (nI_lt (by omega) (by omega)) c3)
    refine wp_iconst (nI 0) 17 rfl dX10_isDigit_16 (by decide) ?_
    refine wp_zret dX10_isDigit_17 rfl (rfl) ?_
    exact sm_ei (z_bf (fun h => h1 h.1)).symm
theorem s_appends (x c : Nat) (hc : 97 ≤ c) (hc2 : c < 256) : sm_M G xX10_appends d [.long (lN x), .int (nI c)] I ρ (sm_Qe (some (.long (lN (27 * x + (c - 96))))) I ρ) := by
  show sm_V G xX10_appends d 0 [.long (lN x), .retAddr 1, .int (nI c)] [] I ρ _
  refine wp_iload2 1 rfl dX10_appends_0 ?_
  refine wp_if_ne 4 8 rfl rfl dX10_appends_1 (fun c1 => ?_) (fun c1 => absurd c1 (nI_ne0 (by omega) (by omega)))
  refine wp_ldc2 11 rfl dX10_appends_8 q1507 ?_
  refine wp_lload0 12 rfl dX10_appends_11 ?_
  refine wp_lmul 13 rfl dX10_appends_12 ?_
  refine wp_iload2 14 rfl dX10_appends_13 ?_
  refine wp_bipush (nI 97) 16 rfl dX10_appends_14 (by decide) ?_
  refine wp_isub 17 rfl dX10_appends_16 ?_
  refine wp_iconst (nI 1) 18 rfl dX10_appends_17 (by decide) ?_
  refine wp_iadd 19 rfl dX10_appends_18 ?_
  rw [pk_sub hc, nI_add, show c - 97 + 1 = c - 96 by omega]
  refine wp_i2l 20 rfl dX10_appends_19 ?_
  refine wp_ladd 21 rfl dX10_appends_20 ?_
  refine wp_lret dX10_appends_21 rfl ?_
  rw [nI_l (by omega), show (27 : Int64) = lN 27 from rfl, lN_mul, lN_add]
  exact ⟨rfl, rfl, rfl⟩
theorem s_token (hm : md ρ) (k : Nat) (hk : I mM 10 = nI k) (h403 : k < 403) (a b c : Int32) (x : Int64) : sm_M G xX10_token d [.ref mM, .int a, .int b, .int c, .long x] I ρ (sm_Qe none (sm_u (sm_u (sm_u (sm_u I m_tKind k a) m_tPlace k b) m_tValue k c) mM 10 (nI (k + 1))) (sm_ul ρ.1 m_tName k x, ρ.2)) := by
  show sm_V G xX10_token d 0 [.ref mM, .int a, .int b, .int c, .long x, .retAddr 1] [] I ρ _
  refine wp_aload0 1 rfl dX10_token_0 ?_
  refine wp_getr 4 rfl dX10_token_1 fX10_20_10 (md_M hm) (mp_tKind hm) ?_
  refine wp_aload0 5 rfl dX10_token_4 ?_
  refine wp_geti 8 rfl dX10_token_5 fX10_181_10 (md_M hm) ?_
  refine wp_iload1 9 rfl dX10_token_8 ?_
  refine wp_iast 10 rfl dX10_token_9 (ms_tKind hm) (k) (hk) (⟨by omega, by decide⟩) ?_
  refine wp_aload0 11 rfl dX10_token_10 ?_
  refine wp_getr 14 rfl dX10_token_11 fX10_24_10 (md_M hm) (mp_tPlace hm) ?_
  refine wp_aload0 15 rfl dX10_token_14 ?_
  refine wp_geti 18 rfl dX10_token_15 fX10_181_10 (md_M hm) ?_
  refine wp_iload2 19 rfl dX10_token_18 ?_
  refine wp_iast 20 rfl dX10_token_19 (ms_tPlace hm) (k) (hk) (⟨by omega, by decide⟩) ?_
  refine wp_aload0 21 rfl dX10_token_20 ?_
  refine wp_getr 24 rfl dX10_token_21 fX10_27_10 (md_M hm) (mp_tValue hm) ?_
  refine wp_aload0 25 rfl dX10_token_24 ?_
  refine wp_geti 28 rfl dX10_token_25 fX10_181_10 (md_M hm) ?_
  refine wp_iload3 29 rfl dX10_token_28 ?_
  refine wp_iast 30 rfl dX10_token_29 (ms_tValue hm) (k) (hk) (⟨by omega, by decide⟩) ?_
  refine wp_aload0 31 rfl dX10_token_30 ?_
  refine wp_getr 34 rfl dX10_token_31 fX10_30_10 (md_M hm) (mp_tName hm) ?_
  refine wp_aload0 35 rfl dX10_token_34 ?_
  refine wp_geti 38 rfl dX10_token_35 fX10_181_10 (md_M hm) ?_
  refine wp_lload4 40 rfl dX10_token_38 ?_
  refine wp_last 41 rfl dX10_token_40 (ms_tName hm) (k) (hk) (⟨by omega, by decide⟩) ?_
  refine wp_aload0 42 rfl dX10_token_41 ?_
  refine wp_dup 43 rfl dX10_token_42 rfl ?_
  refine wp_geti 46 rfl dX10_token_43 fX10_181_10 (md_M hm) ?_
  refine wp_iconst (nI 1) 47 rfl dX10_token_46 (by decide) ?_
  refine wp_iadd 48 rfl dX10_token_47 ?_
  refine wp_puti 51 rfl dX10_token_48 pX10_181_10 (md_M hm) ⟨rfl, rfl⟩ ?_
  refine wp_vret dX10_token_51 rfl ?_
  have e : I mM 10 + nI 1 = nI (k + 1) := by rw [hk]; exact nI_add k 1
  rw [← e]
  exact ⟨rfl, rfl, rfl⟩
end M24
