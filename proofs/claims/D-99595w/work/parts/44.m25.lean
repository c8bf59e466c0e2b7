/-! ===== cutting into tokens ===== -/
set_option maxRecDepth 100000
def M_tok (I : sm_I) (k : Nat) (a b c : Int32) : sm_I := sm_u (sm_u (sm_u (sm_u I m_tKind k a) m_tPlace k b) m_tValue k c) mM 10 (nI (k + 1))
def kyR (I : sm_I) (ρ : sm_R) (n : Nat) (b : Nat → Int32) (K : Nat) : Prop := I mM 10 = nI K ∧ ∀ k, k < K → I m_tKind k = nI (ky_tk n b k).1 ∧ I m_tPlace k = nI (ky_tk n b k).2.1 ∧ I m_tValue k = nI (ky_tk n b k).2.2.1 ∧ ρ.1 m_tName k = lN (ky_tk n b k).2.2.2
def kyF (A : List Nat) (ρ ρ1 : sm_R) : Prop := ρ1.2 = ρ.2 ∧ ∀ a, a ∉ A → ρ1.1 a = ρ.1 a
theorem kyF.rf {A : List Nat} {ρ : sm_R} : kyF A ρ ρ := ⟨rfl, fun _ _ => rfl⟩
theorem kyF.tr {A : List Nat} {ρ ρ1 ρ2 : sm_R} (h : kyF A ρ ρ1) (h2 : kyF A ρ1 ρ2) : kyF A ρ ρ2 := ⟨h2.1.trans h.1, fun a ha => (h2.2 a ha).trans (h.2 a ha)⟩
theorem kyF.u {A : List Nat} {ρ : sm_R} {a k : Nat} {v : Int64} (ha : a ∈ A) : kyF A ρ (sm_ul ρ.1 a k v, ρ.2) := ⟨rfl, fun b hb => if_neg (fun e => hb (by rw [e]; exact ha))⟩
theorem kyF.mdl {A : List Nat} {ρ ρ1 : sm_R} (h : kyF A ρ ρ1) (hm : md ρ) : md ρ1 := by
  unfold md at hm ⊢
  rw [h.1]
  exact hm
def mKy (ρ : sm_R) : Prop := ∀ k, k < 21 → ρ.1 m_keys k = lN (ky_key k)
abbrev mTk : List Nat := [m_tKind, m_tPlace, m_tValue]
theorem kyR.add {I : sm_I} {ρ : sm_R} {n : Nat} {b : Nat → Int32} {K a p v x : Nat} (h : kyR I ρ n b K) (e : ky_tk n b K = (a, p, v, x)) : kyR (M_tok I K (nI a) (nI p) (nI v)) (sm_ul ρ.1 m_tName K (lN x), ρ.2) n b (K + 1) := by
  have g0 : M_tok I K (nI a) (nI p) (nI v) mM 10 = nI (K + 1) := by
    unfold M_tok
    rw [sm_u_eq, pk_us]
  have g1 : M_tok I K (nI a) (nI p) (nI v) m_tKind = upd (I m_tKind) K (nI a) := rfl
  have g2 : M_tok I K (nI a) (nI p) (nI v) m_tPlace = upd (I m_tPlace) K (nI p) := rfl
  have g3 : M_tok I K (nI a) (nI p) (nI v) m_tValue = upd (I m_tValue) K (nI v) := rfl
  have g4 : (sm_ul ρ.1 m_tName K (lN x), ρ.2).1 m_tName = vp_updL (ρ.1 m_tName) K (lN x) := by
    show sm_ul ρ.1 m_tName K (lN x) m_tName = _
    exact if_pos rfl
  refine ⟨g0, fun k hk => ?_⟩
  rw [g1, g2, g3, g4]
  by_cases ek : k = K
  · rw [ek, pk_us, pk_us, pk_us, pk_uLs, e]
    exact ⟨rfl, rfl, rfl, rfl⟩
  · rw [pk_un ek, pk_un ek, pk_un ek, pk_uLn ek]
    exact h.2 k (by omega)
theorem M_tok_f {I : sm_I} {k : Nat} {a b c : Int32} : mf mTk [10] I (M_tok I k a b c) := (((mf.u (by decide) (by decide)).tr (mf.u (by decide) (by decide))).tr (mf.u (by decide) (by decide))).tr (mf.uM (by decide))
theorem ky_le_s {n : Nat} {b : Nat → Int32} {i : Nat} (hn : n ≤ 2000) (hi : i ≤ n) (h : ky_L (ky_c n b i)) : i < ky_le (ky_c n b) i ∧ ky_le (ky_c n b) i ≤ n ∧ ¬ ky_L (ky_c n b (ky_le (ky_c n b) i)) ∧ ∀ j, i ≤ j → j < ky_le (ky_c n b) i → ky_L (ky_c n b j) := by
  have hP : ∀ j, ky_L (ky_c n b j) → j < n := fun j hj => ky_c_lt (b := b) (by unfold ky_L at hj; omega)
  refine ⟨?_, ky_run_le hP hi, ky_run_end hP (by omega), fun j h1 h2 => ky_run_in (P := fun j => ky_L (ky_c n b j)) (f := 2001) h1 h2⟩
  unfold ky_le ky_run
  rw [if_pos h]
  exact ky_run_ge
theorem ky_de_s {n : Nat} {b : Nat → Int32} {i : Nat} (hn : n ≤ 2000) (hi : i ≤ n) (h : ky_D (ky_c n b i)) : i < ky_de (ky_c n b) i ∧ ky_de (ky_c n b) i ≤ n ∧ ¬ ky_D (ky_c n b (ky_de (ky_c n b) i)) ∧ ∀ j, i ≤ j → j < ky_de (ky_c n b) i → ky_D (ky_c n b j) := by
  have hP : ∀ j, ky_D (ky_c n b j) → j < n := fun j hj => ky_c_lt (b := b) (by unfold ky_D at hj; omega)
  refine ⟨?_, ky_run_le hP hi, ky_run_end hP (by omega), fun j h1 h2 => ky_run_in (P := fun j => ky_D (ky_c n b j)) (f := 2001) h1 h2⟩
  unfold ky_de ky_run
  rw [if_pos h]
  exact ky_run_ge
theorem ky_nm_lt {n : Nat} {b : Nat → Int32} {i : Nat} : ∀ m, (∀ j, j < m → ky_L (ky_c n b (i + j))) → ky_nm (ky_c n b) i m < 27 ^ (if m < 8 then m else 8)
  | 0, _ => by
    show 0 < 27 ^ (if (0 : Nat) < 8 then 0 else 8)
    decide
  | m + 1, h => by
    have ih := ky_nm_lt m (fun j hj => h j (by omega))
    have hl := h m (by omega)
    unfold ky_nm
    by_cases h8 : m < 8
    · rw [if_pos h8] at ih ⊢
      have e : 27 ^ (if m + 1 < 8 then m + 1 else 8) = 27 * 27 ^ m := by
        by_cases h7 : m + 1 < 8
        · rw [if_pos h7, Nat.pow_succ, Nat.mul_comm]
        · have : m = 7 := by omega
          rw [if_neg h7, this]
      rw [e]
      unfold ky_L at hl
      omega
    · rw [if_neg h8] at ih ⊢
      rw [if_neg (by omega)]
      exact ih
section M25
variable {G : sm_G} {d : Nat} {I : sm_I} {ρ : sm_R}
theorem s_sign (hm : md ρ) (k : Nat) (hk : I mM 10 = nI k) (h403 : k < 403) (i : Int32) (c : Nat) (hc : c < 256) (z : Int32) : sm_M G xX10_sign (d + 1) [.ref mM, .int i, .int (nI c), .int z] I ρ (sm_Qe (some (.int (nI 1))) (M_tok I k (nI (ky_sg c)) i (nI 0)) (sm_ul ρ.1 m_tName k (lN 0), ρ.2)) := by
  show sm_V G xX10_sign (d + 1) 0 [.ref mM, .int i, .int (nI c), .int z, .retAddr 0] [] I ρ _
  have key : ∀ v : Int32, v = nI (ky_sg c) → sm_V G xX10_sign (d + 1) 95 [.ref mM, .int i, .int (nI c), .int z, .int v] [] I ρ (sm_Qe (some (.int (nI 1))) (M_tok I k (nI (ky_sg c)) i (nI 0)) (sm_ul ρ.1 m_tName k (lN 0), ρ.2)) := by
    intro v hv
    rw [hv]
    refine wp_aload0 96 rfl dX10_sign_95 ?_
    refine wp_iload4 98 rfl dX10_sign_96 ?_
    refine wp_iload1 99 rfl dX10_sign_98 ?_
    refine wp_iconst (nI 0) 100 rfl dX10_sign_99 (by decide) ?_
    refine wp_lconst (lN 0) 101 rfl dX10_sign_100 (by decide) ?_
    refine wp_Ve4 104 rfl dX10_sign_101 kX10_token lX10_188 (md_M hm) (nl rfl) (nl rfl) (s_token hm k hk h403 _ _ _ _) ?_
    refine wp_iconst (nI 1) 105 rfl dX10_sign_104 (by decide) ?_
    refine wp_iret dX10_sign_105 rfl ?_
    exact ⟨rfl, rfl, rfl⟩
  by_cases h59 : c = 59
  · subst h59
    refine wp_iload2 1 rfl dX10_sign_0 ?_
    refine wp_bipush (nI 59) 3 rfl dX10_sign_1 (by decide) ?_
    refine wp_icmp_ne 6 10 rfl rfl dX10_sign_3 (fun c3 => absurd (rfl) c3) (fun c3 => ?_)
    refine wp_iconst (nI 4) 7 rfl dX10_sign_6 (by decide) ?_
    refine wp_goto 43 rfl dX10_sign_7 ?_
    refine wp_istore4 45 rfl dX10_sign_43 (by decide) rfl ?_
    refine wp_iload2 46 rfl dX10_sign_45 ?_
    refine wp_bipush (nI 43) 48 rfl dX10_sign_46 (by decide) ?_
    refine wp_icmp_ne 51 55 rfl rfl dX10_sign_48 (fun c48 => ?_) (fun c48 => absurd c48 (by decide))
    refine wp_iload2 56 rfl dX10_sign_55 ?_
    refine wp_bipush (nI 45) 58 rfl dX10_sign_56 (by decide) ?_
    refine wp_icmp_ne 61 65 rfl rfl dX10_sign_58 (fun c58 => ?_) (fun c58 => absurd c58 (by decide))
    refine wp_iload2 66 rfl dX10_sign_65 ?_
    refine wp_bipush (nI 42) 68 rfl dX10_sign_66 (by decide) ?_
    refine wp_icmp_ne 71 75 rfl rfl dX10_sign_68 (fun c68 => ?_) (fun c68 => absurd c68 (by decide))
    refine wp_iload2 76 rfl dX10_sign_75 ?_
    refine wp_bipush (nI 47) 78 rfl dX10_sign_76 (by decide) ?_
    refine wp_icmp_ne 81 85 rfl rfl dX10_sign_78 (fun c78 => ?_) (fun c78 => absurd c78 (by decide))
    refine wp_iload2 86 rfl dX10_sign_85 ?_
    refine wp_bipush (nI 60) 88 rfl dX10_sign_86 (by decide) ?_
    refine wp_icmp_ne 91 95 rfl rfl dX10_sign_88 (fun c88 => ?_) (fun c88 => absurd c88 (by decide))
    exact key _ rfl
  by_cases h61 : c = 61
  · subst h61
    refine wp_iload2 1 rfl dX10_sign_0 ?_
    refine wp_bipush (nI 59) 3 rfl dX10_sign_1 (by decide) ?_
    refine wp_icmp_ne 6 10 rfl rfl dX10_sign_3 (fun c3 => ?_) (fun c3 => absurd c3 (by decide))
    refine wp_iload2 11 rfl dX10_sign_10 ?_
    refine wp_bipush (nI 61) 13 rfl dX10_sign_11 (by decide) ?_
    refine wp_icmp_ne 16 20 rfl rfl dX10_sign_13 (fun c13 => absurd (rfl) c13) (fun c13 => ?_)
    refine wp_iconst (nI 5) 17 rfl dX10_sign_16 (by decide) ?_
    refine wp_goto 43 rfl dX10_sign_17 ?_
    refine wp_istore4 45 rfl dX10_sign_43 (by decide) rfl ?_
    refine wp_iload2 46 rfl dX10_sign_45 ?_
    refine wp_bipush (nI 43) 48 rfl dX10_sign_46 (by decide) ?_
    refine wp_icmp_ne 51 55 rfl rfl dX10_sign_48 (fun c48 => ?_) (fun c48 => absurd c48 (by decide))
    refine wp_iload2 56 rfl dX10_sign_55 ?_
    refine wp_bipush (nI 45) 58 rfl dX10_sign_56 (by decide) ?_
    refine wp_icmp_ne 61 65 rfl rfl dX10_sign_58 (fun c58 => ?_) (fun c58 => absurd c58 (by decide))
    refine wp_iload2 66 rfl dX10_sign_65 ?_
    refine wp_bipush (nI 42) 68 rfl dX10_sign_66 (by decide) ?_
    refine wp_icmp_ne 71 75 rfl rfl dX10_sign_68 (fun c68 => ?_) (fun c68 => absurd c68 (by decide))
    refine wp_iload2 76 rfl dX10_sign_75 ?_
    refine wp_bipush (nI 47) 78 rfl dX10_sign_76 (by decide) ?_
    refine wp_icmp_ne 81 85 rfl rfl dX10_sign_78 (fun c78 => ?_) (fun c78 => absurd c78 (by decide))
    refine wp_iload2 86 rfl dX10_sign_85 ?_
    refine wp_bipush (nI 60) 88 rfl dX10_sign_86 (by decide) ?_
    refine wp_icmp_ne 91 95 rfl rfl dX10_sign_88 (fun c88 => ?_) (fun c88 => absurd c88 (by decide))
    exact key _ rfl
  by_cases h40 : c = 40
  · subst h40
    refine wp_iload2 1 rfl dX10_sign_0 ?_
    refine wp_bipush (nI 59) 3 rfl dX10_sign_1 (by decide) ?_
    refine wp_icmp_ne 6 10 rfl rfl dX10_sign_3 (fun c3 => ?_) (fun c3 => absurd c3 (by decide))
    refine wp_iload2 11 rfl dX10_sign_10 ?_
    refine wp_bipush (nI 61) 13 rfl dX10_sign_11 (by decide) ?_
    refine wp_icmp_ne 16 20 rfl rfl dX10_sign_13 (fun c13 => ?_) (fun c13 => absurd c13 (by decide))
    refine wp_iload2 21 rfl dX10_sign_20 ?_
    refine wp_bipush (nI 40) 23 rfl dX10_sign_21 (by decide) ?_
    refine wp_icmp_ne 26 31 rfl rfl dX10_sign_23 (fun c23 => absurd (rfl) c23) (fun c23 => ?_)
    refine wp_bipush (nI 6) 28 rfl dX10_sign_26 (by decide) ?_
    refine wp_goto 43 rfl dX10_sign_28 ?_
    refine wp_istore4 45 rfl dX10_sign_43 (by decide) rfl ?_
    refine wp_iload2 46 rfl dX10_sign_45 ?_
    refine wp_bipush (nI 43) 48 rfl dX10_sign_46 (by decide) ?_
    refine wp_icmp_ne 51 55 rfl rfl dX10_sign_48 (fun c48 => ?_) (fun c48 => absurd c48 (by decide))
    refine wp_iload2 56 rfl dX10_sign_55 ?_
    refine wp_bipush (nI 45) 58 rfl dX10_sign_56 (by decide) ?_
    refine wp_icmp_ne 61 65 rfl rfl dX10_sign_58 (fun c58 => ?_) (fun c58 => absurd c58 (by decide))
    refine wp_iload2 66 rfl dX10_sign_65 ?_
    refine wp_bipush (nI 42) 68 rfl dX10_sign_66 (by decide) ?_
    refine wp_icmp_ne 71 75 rfl rfl dX10_sign_68 (fun c68 => ?_) (fun c68 => absurd c68 (by decide))
    refine wp_iload2 76 rfl dX10_sign_75 ?_
    refine wp_bipush (nI 47) 78 rfl dX10_sign_76 (by decide) ?_
    refine wp_icmp_ne 81 85 rfl rfl dX10_sign_78 (fun c78 => ?_) (fun c78 => absurd c78 (by decide))
    refine wp_iload2 86 rfl dX10_sign_85 ?_
    refine wp_bipush (nI 60) 88 rfl dX10_sign_86 (by decide) ?_
    refine wp_icmp_ne 91 95 rfl rfl dX10_sign_88 (fun c88 => ?_) (fun c88 => absurd c88 (by decide))
    exact key _ rfl
  by_cases h41 : c = 41
  · subst h41
    refine wp_iload2 1 rfl dX10_sign_0 ?_
    refine wp_bipush (nI 59) 3 rfl dX10_sign_1 (by decide) ?_
    refine wp_icmp_ne 6 10 rfl rfl dX10_sign_3 (fun c3 => ?_) (fun c3 => absurd c3 (by decide))
    refine wp_iload2 11 rfl dX10_sign_10 ?_
    refine wp_bipush (nI 61) 13 rfl dX10_sign_11 (by decide) ?_
    refine wp_icmp_ne 16 20 rfl rfl dX10_sign_13 (fun c13 => ?_) (fun c13 => absurd c13 (by decide))
    refine wp_iload2 21 rfl dX10_sign_20 ?_
    refine wp_bipush (nI 40) 23 rfl dX10_sign_21 (by decide) ?_
    refine wp_icmp_ne 26 31 rfl rfl dX10_sign_23 (fun c23 => ?_) (fun c23 => absurd c23 (by decide))
    refine wp_iload2 32 rfl dX10_sign_31 ?_
    refine wp_bipush (nI 41) 34 rfl dX10_sign_32 (by decide) ?_
    refine wp_icmp_ne 37 42 rfl rfl dX10_sign_34 (fun c34 => absurd (rfl) c34) (fun c34 => ?_)
    refine wp_bipush (nI 7) 39 rfl dX10_sign_37 (by decide) ?_
    refine wp_goto 43 rfl dX10_sign_39 ?_
    refine wp_istore4 45 rfl dX10_sign_43 (by decide) rfl ?_
    refine wp_iload2 46 rfl dX10_sign_45 ?_
    refine wp_bipush (nI 43) 48 rfl dX10_sign_46 (by decide) ?_
    refine wp_icmp_ne 51 55 rfl rfl dX10_sign_48 (fun c48 => ?_) (fun c48 => absurd c48 (by decide))
    refine wp_iload2 56 rfl dX10_sign_55 ?_
    refine wp_bipush (nI 45) 58 rfl dX10_sign_56 (by decide) ?_
    refine wp_icmp_ne 61 65 rfl rfl dX10_sign_58 (fun c58 => ?_) (fun c58 => absurd c58 (by decide))
    refine wp_iload2 66 rfl dX10_sign_65 ?_
    refine wp_bipush (nI 42) 68 rfl dX10_sign_66 (by decide) ?_
    refine wp_icmp_ne 71 75 rfl rfl dX10_sign_68 (fun c68 => ?_) (fun c68 => absurd c68 (by decide))
    refine wp_iload2 76 rfl dX10_sign_75 ?_
    refine wp_bipush (nI 47) 78 rfl dX10_sign_76 (by decide) ?_
    refine wp_icmp_ne 81 85 rfl rfl dX10_sign_78 (fun c78 => ?_) (fun c78 => absurd c78 (by decide))
    refine wp_iload2 86 rfl dX10_sign_85 ?_
    refine wp_bipush (nI 60) 88 rfl dX10_sign_86 (by decide) ?_
    refine wp_icmp_ne 91 95 rfl rfl dX10_sign_88 (fun c88 => ?_) (fun c88 => absurd c88 (by decide))
    exact key _ rfl
  by_cases h43 : c = 43
  · subst h43
    refine wp_iload2 1 rfl dX10_sign_0 ?_
    refine wp_bipush (nI 59) 3 rfl dX10_sign_1 (by decide) ?_
    refine wp_icmp_ne 6 10 rfl rfl dX10_sign_3 (fun c3 => ?_) (fun c3 => absurd c3 (by decide))
    refine wp_iload2 11 rfl dX10_sign_10 ?_
    refine wp_bipush (nI 61) 13 rfl dX10_sign_11 (by decide) ?_
    refine wp_icmp_ne 16 20 rfl rfl dX10_sign_13 (fun c13 => ?_) (fun c13 => absurd c13 (by decide))
    refine wp_iload2 21 rfl dX10_sign_20 ?_
    refine wp_bipush (nI 40) 23 rfl dX10_sign_21 (by decide) ?_
    refine wp_icmp_ne 26 31 rfl rfl dX10_sign_23 (fun c23 => ?_) (fun c23 => absurd c23 (by decide))
    refine wp_iload2 32 rfl dX10_sign_31 ?_
    refine wp_bipush (nI 41) 34 rfl dX10_sign_32 (by decide) ?_
    refine wp_icmp_ne 37 42 rfl rfl dX10_sign_34 (fun c34 => ?_) (fun c34 => absurd c34 (by decide))
    refine wp_iconst (nI 3) 43 rfl dX10_sign_42 (by decide) ?_
    refine wp_istore4 45 rfl dX10_sign_43 (by decide) rfl ?_
    refine wp_iload2 46 rfl dX10_sign_45 ?_
    refine wp_bipush (nI 43) 48 rfl dX10_sign_46 (by decide) ?_
    refine wp_icmp_ne 51 55 rfl rfl dX10_sign_48 (fun c48 => absurd (rfl) c48) (fun c48 => ?_)
    refine wp_bipush (nI 8) 53 rfl dX10_sign_51 (by decide) ?_
    refine wp_istore4 55 rfl dX10_sign_53 (by decide) rfl ?_
    refine wp_iload2 56 rfl dX10_sign_55 ?_
    refine wp_bipush (nI 45) 58 rfl dX10_sign_56 (by decide) ?_
    refine wp_icmp_ne 61 65 rfl rfl dX10_sign_58 (fun c58 => ?_) (fun c58 => absurd c58 (by decide))
    refine wp_iload2 66 rfl dX10_sign_65 ?_
    refine wp_bipush (nI 42) 68 rfl dX10_sign_66 (by decide) ?_
    refine wp_icmp_ne 71 75 rfl rfl dX10_sign_68 (fun c68 => ?_) (fun c68 => absurd c68 (by decide))
    refine wp_iload2 76 rfl dX10_sign_75 ?_
    refine wp_bipush (nI 47) 78 rfl dX10_sign_76 (by decide) ?_
    refine wp_icmp_ne 81 85 rfl rfl dX10_sign_78 (fun c78 => ?_) (fun c78 => absurd c78 (by decide))
    refine wp_iload2 86 rfl dX10_sign_85 ?_
    refine wp_bipush (nI 60) 88 rfl dX10_sign_86 (by decide) ?_
    refine wp_icmp_ne 91 95 rfl rfl dX10_sign_88 (fun c88 => ?_) (fun c88 => absurd c88 (by decide))
    exact key _ rfl
  by_cases h45 : c = 45
  · subst h45
    refine wp_iload2 1 rfl dX10_sign_0 ?_
    refine wp_bipush (nI 59) 3 rfl dX10_sign_1 (by decide) ?_
    refine wp_icmp_ne 6 10 rfl rfl dX10_sign_3 (fun c3 => ?_) (fun c3 => absurd c3 (by decide))
    refine wp_iload2 11 rfl dX10_sign_10 ?_
    refine wp_bipush (nI 61) 13 rfl dX10_sign_11 (by decide) ?_
    refine wp_icmp_ne 16 20 rfl rfl dX10_sign_13 (fun c13 => ?_) (fun c13 => absurd c13 (by decide))
    refine wp_iload2 21 rfl dX10_sign_20 ?_
    refine wp_bipush (nI 40) 23 rfl dX10_sign_21 (by decide) ?_
    refine wp_icmp_ne 26 31 rfl rfl dX10_sign_23 (fun c23 => ?_) (fun c23 => absurd c23 (by decide))
    refine wp_iload2 32 rfl dX10_sign_31 ?_
    refine wp_bipush (nI 41) 34 rfl dX10_sign_32 (by decide) ?_
    refine wp_icmp_ne 37 42 rfl rfl dX10_sign_34 (fun c34 => ?_) (fun c34 => absurd c34 (by decide))
    refine wp_iconst (nI 3) 43 rfl dX10_sign_42 (by decide) ?_
    refine wp_istore4 45 rfl dX10_sign_43 (by decide) rfl ?_
    refine wp_iload2 46 rfl dX10_sign_45 ?_
    refine wp_bipush (nI 43) 48 rfl dX10_sign_46 (by decide) ?_
    refine wp_icmp_ne 51 55 rfl rfl dX10_sign_48 (fun c48 => ?_) (fun c48 => absurd c48 (by decide))
    refine wp_iload2 56 rfl dX10_sign_55 ?_
    refine wp_bipush (nI 45) 58 rfl dX10_sign_56 (by decide) ?_
    refine wp_icmp_ne 61 65 rfl rfl dX10_sign_58 (fun c58 => absurd (rfl) c58) (fun c58 => ?_)
    refine wp_bipush (nI 9) 63 rfl dX10_sign_61 (by decide) ?_
    refine wp_istore4 65 rfl dX10_sign_63 (by decide) rfl ?_
    refine wp_iload2 66 rfl dX10_sign_65 ?_
    refine wp_bipush (nI 42) 68 rfl dX10_sign_66 (by decide) ?_
    refine wp_icmp_ne 71 75 rfl rfl dX10_sign_68 (fun c68 => ?_) (fun c68 => absurd c68 (by decide))
    refine wp_iload2 76 rfl dX10_sign_75 ?_
    refine wp_bipush (nI 47) 78 rfl dX10_sign_76 (by decide) ?_
    refine wp_icmp_ne 81 85 rfl rfl dX10_sign_78 (fun c78 => ?_) (fun c78 => absurd c78 (by decide))
    refine wp_iload2 86 rfl dX10_sign_85 ?_
    refine wp_bipush (nI 60) 88 rfl dX10_sign_86 (by decide) ?_
    refine wp_icmp_ne 91 95 rfl rfl dX10_sign_88 (fun c88 => ?_) (fun c88 => absurd c88 (by decide))
    exact key _ rfl
  by_cases h42 : c = 42
  · subst h42
    refine wp_iload2 1 rfl dX10_sign_0 ?_
    refine wp_bipush (nI 59) 3 rfl dX10_sign_1 (by decide) ?_
    refine wp_icmp_ne 6 10 rfl rfl dX10_sign_3 (fun c3 => ?_) (fun c3 => absurd c3 (by decide))
    refine wp_iload2 11 rfl dX10_sign_10 ?_
    refine wp_bipush (nI 61) 13 rfl dX10_sign_11 (by decide) ?_
    refine wp_icmp_ne 16 20 rfl rfl dX10_sign_13 (fun c13 => ?_) (fun c13 => absurd c13 (by decide))
    refine wp_iload2 21 rfl dX10_sign_20 ?_
    refine wp_bipush (nI 40) 23 rfl dX10_sign_21 (by decide) ?_
    refine wp_icmp_ne 26 31 rfl rfl dX10_sign_23 (fun c23 => ?_) (fun c23 => absurd c23 (by decide))
    refine wp_iload2 32 rfl dX10_sign_31 ?_
    refine wp_bipush (nI 41) 34 rfl dX10_sign_32 (by decide) ?_
    refine wp_icmp_ne 37 42 rfl rfl dX10_sign_34 (fun c34 => ?_) (fun c34 => absurd c34 (by decide))
    refine wp_iconst (nI 3) 43 rfl dX10_sign_42 (by decide) ?_
    refine wp_istore4 45 rfl dX10_sign_43 (by decide) rfl ?_
    refine wp_iload2 46 rfl dX10_sign_45 ?_
    refine wp_bipush (nI 43) 48 rfl dX10_sign_46 (by decide) ?_
    refine wp_icmp_ne 51 55 rfl rfl dX10_sign_48 (fun c48 => ?_) (fun c48 => absurd c48 (by decide))
    refine wp_iload2 56 rfl dX10_sign_55 ?_
    refine wp_bipush (nI 45) 58 rfl dX10_sign_56 (by decide) ?_
    refine wp_icmp_ne 61 65 rfl rfl dX10_sign_58 (fun c58 => ?_) (fun c58 => absurd c58 (by decide))
    refine wp_iload2 66 rfl dX10_sign_65 ?_
    refine wp_bipush (nI 42) 68 rfl dX10_sign_66 (by decide) ?_
    refine wp_icmp_ne 71 75 rfl rfl dX10_sign_68 (fun c68 => absurd (rfl) c68) (fun c68 => ?_)
    refine wp_bipush (nI 10) 73 rfl dX10_sign_71 (by decide) ?_
    refine wp_istore4 75 rfl dX10_sign_73 (by decide) rfl ?_
    refine wp_iload2 76 rfl dX10_sign_75 ?_
    refine wp_bipush (nI 47) 78 rfl dX10_sign_76 (by decide) ?_
    refine wp_icmp_ne 81 85 rfl rfl dX10_sign_78 (fun c78 => ?_) (fun c78 => absurd c78 (by decide))
    refine wp_iload2 86 rfl dX10_sign_85 ?_
    refine wp_bipush (nI 60) 88 rfl dX10_sign_86 (by decide) ?_
    refine wp_icmp_ne 91 95 rfl rfl dX10_sign_88 (fun c88 => ?_) (fun c88 => absurd c88 (by decide))
    exact key _ rfl
  by_cases h47 : c = 47
  · subst h47
    refine wp_iload2 1 rfl dX10_sign_0 ?_
    refine wp_bipush (nI 59) 3 rfl dX10_sign_1 (by decide) ?_
    refine wp_icmp_ne 6 10 rfl rfl dX10_sign_3 (fun c3 => ?_) (fun c3 => absurd c3 (by decide))
    refine wp_iload2 11 rfl dX10_sign_10 ?_
    refine wp_bipush (nI 61) 13 rfl dX10_sign_11 (by decide) ?_
    refine wp_icmp_ne 16 20 rfl rfl dX10_sign_13 (fun c13 => ?_) (fun c13 => absurd c13 (by decide))
    refine wp_iload2 21 rfl dX10_sign_20 ?_
    refine wp_bipush (nI 40) 23 rfl dX10_sign_21 (by decide) ?_
    refine wp_icmp_ne 26 31 rfl rfl dX10_sign_23 (fun c23 => ?_) (fun c23 => absurd c23 (by decide))
    refine wp_iload2 32 rfl dX10_sign_31 ?_
    refine wp_bipush (nI 41) 34 rfl dX10_sign_32 (by decide) ?_
    refine wp_icmp_ne 37 42 rfl rfl dX10_sign_34 (fun c34 => ?_) (fun c34 => absurd c34 (by decide))
    refine wp_iconst (nI 3) 43 rfl dX10_sign_42 (by decide) ?_
    refine wp_istore4 45 rfl dX10_sign_43 (by decide) rfl ?_
    refine wp_iload2 46 rfl dX10_sign_45 ?_
    refine wp_bipush (nI 43) 48 rfl dX10_sign_46 (by decide) ?_
    refine wp_icmp_ne 51 55 rfl rfl dX10_sign_48 (fun c48 => ?_) (fun c48 => absurd c48 (by decide))
    refine wp_iload2 56 rfl dX10_sign_55 ?_
    refine wp_bipush (nI 45) 58 rfl dX10_sign_56 (by decide) ?_
    refine wp_icmp_ne 61 65 rfl rfl dX10_sign_58 (fun c58 => ?_) (fun c58 => absurd c58 (by decide))
    refine wp_iload2 66 rfl dX10_sign_65 ?_
    refine wp_bipush (nI 42) 68 rfl dX10_sign_66 (by decide) ?_
    refine wp_icmp_ne 71 75 rfl rfl dX10_sign_68 (fun c68 => ?_) (fun c68 => absurd c68 (by decide))
    refine wp_iload2 76 rfl dX10_sign_75 ?_
    refine wp_bipush (nI 47) 78 rfl dX10_sign_76 (by decide) ?_
    refine wp_icmp_ne 81 85 rfl rfl dX10_sign_78 (fun c78 => absurd (rfl) c78) (fun c78 => ?_)
    refine wp_bipush (nI 15) 83 rfl dX10_sign_81 (by decide) ?_
    refine wp_istore4 85 rfl dX10_sign_83 (by decide) rfl ?_
    refine wp_iload2 86 rfl dX10_sign_85 ?_
    refine wp_bipush (nI 60) 88 rfl dX10_sign_86 (by decide) ?_
    refine wp_icmp_ne 91 95 rfl rfl dX10_sign_88 (fun c88 => ?_) (fun c88 => absurd c88 (by decide))
    exact key _ rfl
  by_cases h60 : c = 60
  · subst h60
    refine wp_iload2 1 rfl dX10_sign_0 ?_
    refine wp_bipush (nI 59) 3 rfl dX10_sign_1 (by decide) ?_
    refine wp_icmp_ne 6 10 rfl rfl dX10_sign_3 (fun c3 => ?_) (fun c3 => absurd c3 (by decide))
    refine wp_iload2 11 rfl dX10_sign_10 ?_
    refine wp_bipush (nI 61) 13 rfl dX10_sign_11 (by decide) ?_
    refine wp_icmp_ne 16 20 rfl rfl dX10_sign_13 (fun c13 => ?_) (fun c13 => absurd c13 (by decide))
    refine wp_iload2 21 rfl dX10_sign_20 ?_
    refine wp_bipush (nI 40) 23 rfl dX10_sign_21 (by decide) ?_
    refine wp_icmp_ne 26 31 rfl rfl dX10_sign_23 (fun c23 => ?_) (fun c23 => absurd c23 (by decide))
    refine wp_iload2 32 rfl dX10_sign_31 ?_
    refine wp_bipush (nI 41) 34 rfl dX10_sign_32 (by decide) ?_
    refine wp_icmp_ne 37 42 rfl rfl dX10_sign_34 (fun c34 => ?_) (fun c34 => absurd c34 (by decide))
    refine wp_iconst (nI 3) 43 rfl dX10_sign_42 (by decide) ?_
    refine wp_istore4 45 rfl dX10_sign_43 (by decide) rfl ?_
    refine wp_iload2 46 rfl dX10_sign_45 ?_
    refine wp_bipush (nI 43) 48 rfl dX10_sign_46 (by decide) ?_
    refine wp_icmp_ne 51 55 rfl rfl dX10_sign_48 (fun c48 => ?_) (fun c48 => absurd c48 (by decide))
    refine wp_iload2 56 rfl dX10_sign_55 ?_
    refine wp_bipush (nI 45) 58 rfl dX10_sign_56 (by decide) ?_
    refine wp_icmp_ne 61 65 rfl rfl dX10_sign_58 (fun c58 => ?_) (fun c58 => absurd c58 (by decide))
    refine wp_iload2 66 rfl dX10_sign_65 ?_
    refine wp_bipush (nI 42) 68 rfl dX10_sign_66 (by decide) ?_
    refine wp_icmp_ne 71 75 rfl rfl dX10_sign_68 (fun c68 => ?_) (fun c68 => absurd c68 (by decide))
    refine wp_iload2 76 rfl dX10_sign_75 ?_
    refine wp_bipush (nI 47) 78 rfl dX10_sign_76 (by decide) ?_
    refine wp_icmp_ne 81 85 rfl rfl dX10_sign_78 (fun c78 => ?_) (fun c78 => absurd c78 (by decide))
    refine wp_iload2 86 rfl dX10_sign_85 ?_
    refine wp_bipush (nI 60) 88 rfl dX10_sign_86 (by decide) ?_
    refine wp_icmp_ne 91 95 rfl rfl dX10_sign_88 (fun c88 => absurd (rfl) c88) (fun c88 => ?_)
    refine wp_bipush (nI 13) 93 rfl dX10_sign_91 (by decide) ?_
    refine wp_istore4 95 rfl dX10_sign_93 (by decide) rfl ?_
    exact key _ rfl
  refine wp_iload2 1 rfl dX10_sign_0 ?_
  refine wp_bipush (nI 59) 3 rfl dX10_sign_1 (by decide) ?_
  refine wp_icmp_ne 6 10 rfl rfl dX10_sign_3 (fun c3 => ?_) (fun c3 => absurd c3 (fun h => h59 ((nI_eq (by omega) (by decide)).mp h)))
  refine wp_iload2 11 rfl dX10_sign_10 ?_
  refine wp_bipush (nI 61) 13 rfl dX10_sign_11 (by decide) ?_
  refine wp_icmp_ne 16 20 rfl rfl dX10_sign_13 (fun c13 => ?_) (fun c13 => absurd c13 (fun h => h61 ((nI_eq (by omega) (by decide)).mp h)))
  refine wp_iload2 21 rfl dX10_sign_20 ?_
  refine wp_bipush (nI 40) 23 rfl dX10_sign_21 (by decide) ?_
  refine wp_icmp_ne 26 31 rfl rfl dX10_sign_23 (fun c23 => ?_) (fun c23 => absurd c23 (fun h => h40 ((nI_eq (by omega) (by decide)).mp h)))
  refine wp_iload2 32 rfl dX10_sign_31 ?_
  refine wp_bipush (nI 41) 34 rfl dX10_sign_32 (by decide) ?_
  refine wp_icmp_ne 37 42 rfl rfl dX10_sign_34 (fun c34 => ?_) (fun c34 => absurd c34 (fun h => h41 ((nI_eq (by omega) (by decide)).mp h)))
  refine wp_iconst (nI 3) 43 rfl dX10_sign_42 (by decide) ?_
  refine wp_istore4 45 rfl dX10_sign_43 (by decide) rfl ?_
  refine wp_iload2 46 rfl dX10_sign_45 ?_
  refine wp_bipush (nI 43) 48 rfl dX10_sign_46 (by decide) ?_
  refine wp_icmp_ne 51 55 rfl rfl dX10_sign_48 (fun c48 => ?_) (fun c48 => absurd c48 (fun h => h43 ((nI_eq (by omega) (by decide)).mp h)))
  refine wp_iload2 56 rfl dX10_sign_55 ?_
  refine wp_bipush (nI 45) 58 rfl dX10_sign_56 (by decide) ?_
  refine wp_icmp_ne 61 65 rfl rfl dX10_sign_58 (fun c58 => ?_) (fun c58 => absurd c58 (fun h => h45 ((nI_eq (by omega) (by decide)).mp h)))
  refine wp_iload2 66 rfl dX10_sign_65 ?_
  refine wp_bipush (nI 42) 68 rfl dX10_sign_66 (by decide) ?_
  refine wp_icmp_ne 71 75 rfl rfl dX10_sign_68 (fun c68 => ?_) (fun c68 => absurd c68 (fun h => h42 ((nI_eq (by omega) (by decide)).mp h)))
  refine wp_iload2 76 rfl dX10_sign_75 ?_
  refine wp_bipush (nI 47) 78 rfl dX10_sign_76 (by decide) ?_
  refine wp_icmp_ne 81 85 rfl rfl dX10_sign_78 (fun c78 => ?_) (fun c78 => absurd c78 (fun h => h47 ((nI_eq (by omega) (by decide)).mp h)))
  refine wp_iload2 86 rfl dX10_sign_85 ?_
  refine wp_bipush (nI 60) 88 rfl dX10_sign_86 (by decide) ?_
  refine wp_icmp_ne 91 95 rfl rfl dX10_sign_88 (fun c88 => ?_) (fun c88 => absurd c88 (fun h => h60 ((nI_eq (by omega) (by decide)).mp h)))
  refine key _ ?_
  unfold ky_sg
  rw [if_neg h60, if_neg h47, if_neg h42, if_neg h45, if_neg h43, if_neg h59, if_neg h61, if_neg h40, if_neg h41]
end M25
