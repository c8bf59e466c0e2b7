/-! ===== the model's constructor ===== -/
set_option maxRecDepth 100000
def wd (x c : Nat) : Nat := if c = 0 then x else 27 * x + (c - 96)
/-- the state at the start -/
def y_0 : yS := (x_0, r_beg x_0, [], [], (fun _ => none), (0, fun _ => 0), -1)
def mi_L : List (Nat × Nat × Nat) := [(1, 101, 2000), (3, 101, 2000), (5, 100, 403), (6, 100, 403), (7, 100, 403), (8, 104, 403), (9, 104, 21), (21, 104, 11), (22, 100, 11), (23, 100, 2), (24, 100, 48), (25, 100, 2), (26, 100, 40), (27, 100, 2), (28, 100, 20), (29, 100, 20), (30, 100, 20), (31, 100, 20), (32, 100, 2), (33, 100, 2), (34, 100, 2), (35, 100, 6), (36, 100, 6), (38, 103, 260), (39, 100, 260), (40, 100, 260), (41, 100, 260), (42, 100, 260), (44, 100, 840), (45, 100, 840), (46, 100, 64), (48, 100, 9), (49, 100, 400), (51, 100, 70), (52, 100, 70), (55, 100, 4), (57, 100, 2800), (58, 100, 224), (59, 100, 5), (61, 100, 20), (62, 100, 20), (63, 100, 20), (64, 103, 3), (65, 100, 210)]
theorem mi_L_ok : ∀ e ∈ md_L, mi_L[e.2.1 - 899]? = some (e.1, e.2.2) ∧ 899 ≤ e.2.1 := by decide +kernel
section M53
variable {G : sm_G} {d : Nat} {I : sm_I} {ρ : sm_R}
theorem s_app (x c : Nat) (hc : c = 0 ∨ 97 ≤ c ∧ c < 256) : sm_M G xX10_appends d [.long (lN x), .int (nI c)] I ρ (sm_Qe (some (.long (lN (wd x c)))) I ρ) := by
  rcases hc with e | ⟨h1, h2⟩
  · subst e
    show sm_V G xX10_appends d 0 [.long (lN x), .retAddr 1, .int (nI 0)] [] I ρ _
    refine wp_iload2 1 rfl dX10_appends_0 ?_
    refine wp_if_ne 4 8 rfl rfl dX10_appends_1 (fun c1 => absurd (rfl) c1) (fun c1 => ?_)
    refine wp_lload0 5 rfl dX10_appends_4 ?_
    refine wp_goto 21 rfl dX10_appends_5 ?_
    refine wp_lret dX10_appends_21 rfl ?_
    exact ⟨rfl, rfl, rfl⟩
  · have e : wd x c = 27 * x + (c - 96) := if_neg (by omega)
    rw [e]
    exact s_appends x c h1 h2
theorem s_word (a b c e f g h : Nat) (ha : a = 0 ∨ 97 ≤ a ∧ a < 256) (hb : b = 0 ∨ 97 ≤ b ∧ b < 256) (hc : c = 0 ∨ 97 ≤ c ∧ c < 256) (he : e = 0 ∨ 97 ≤ e ∧ e < 256) (hf : f = 0 ∨ 97 ≤ f ∧ f < 256) (hg : g = 0 ∨ 97 ≤ g ∧ g < 256) (hh : h = 0 ∨ 97 ≤ h ∧ h < 256) : sm_M G xX10_word (d + 1) [.int (nI a), .int (nI b), .int (nI c), .int (nI e), .int (nI f), .int (nI g), .int (nI h)] I ρ (sm_Qe (some (.long (lN (wd (wd (wd (wd (wd (wd (wd 0 a) b) c) e) f) g) h)))) I ρ) := by
  show sm_V G xX10_word (d + 1) 0 [.int (nI a), .int (nI b), .int (nI c), .int (nI e), .int (nI f), .int (nI g), .int (nI h)] [] I ρ _
  refine wp_lconst (lN 0) 1 rfl dX10_word_0 (by decide) ?_
  refine wp_iload0 2 rfl dX10_word_1 ?_
  refine wp_Se2 5 rfl dX10_word_2 kX10_appends lX10_177 (nl rfl) (nl rfl) (s_app 0 a ha) ?_
  refine wp_iload1 6 rfl dX10_word_5 ?_
  refine wp_Se2 9 rfl dX10_word_6 kX10_appends lX10_177 (nl rfl) (nl rfl) (s_app _ b hb) ?_
  refine wp_iload2 10 rfl dX10_word_9 ?_
  refine wp_Se2 13 rfl dX10_word_10 kX10_appends lX10_177 (nl rfl) (nl rfl) (s_app _ c hc) ?_
  refine wp_iload3 14 rfl dX10_word_13 ?_
  refine wp_Se2 17 rfl dX10_word_14 kX10_appends lX10_177 (nl rfl) (nl rfl) (s_app _ e he) ?_
  refine wp_iload4 19 rfl dX10_word_17 ?_
  refine wp_Se2 22 rfl dX10_word_19 kX10_appends lX10_177 (nl rfl) (nl rfl) (s_app _ f hf) ?_
  refine wp_iload5 24 rfl dX10_word_22 ?_
  refine wp_Se2 27 rfl dX10_word_24 kX10_appends lX10_177 (nl rfl) (nl rfl) (s_app _ g hg) ?_
  refine wp_iload6 29 rfl dX10_word_27 ?_
  refine wp_Se2 32 rfl dX10_word_29 kX10_appends lX10_177 (nl rfl) (nl rfl) (s_app _ h hh) ?_
  refine wp_lret dX10_word_32 rfl ?_
  exact ⟨rfl, rfl, rfl⟩
/-- so many keys are laid -/
def mi_K (ρ ρ1 : sm_R) (j : Nat) : Prop := kyF [m_keys] ρ ρ1 ∧ ∀ k, k < j → ρ1.1 m_keys k = lN (ky_key k)
theorem mi_K.s {ρ ρ1 : sm_R} {j n : Nat} (h : mi_K ρ ρ1 j) (e : n = ky_key j) : mi_K ρ (sm_ul ρ1.1 m_keys j (lN n), ρ1.2) (j + 1) := by
  refine ⟨h.1.tr (kyF.u List.mem_cons_self), fun k hk => ?_⟩
  show sm_ul ρ1.1 m_keys j (lN n) m_keys k = _
  rw [sm_ul_eq]
  unfold vp_updL
  by_cases q : k = j
  · rw [if_pos q, q, e]
  · rw [if_neg q]
    exact h.2 k (by omega)
/-- one key more -/
theorem wp_key {X : sm_X} {pc : Nat} {lv st : List Value} {J : sm_I} {ρ ρ1 : sm_R} {Q : sm_O → sm_I → sm_R → Prop} {j m : Nat} (n : Nat) (hn : pc + 1 = n) (hd : decode X.2.1 pc = .ok (.lastore, 1)) (hm : md ρ1) (hj : j < 21) (h : mi_K ρ ρ1 j) (e : m = ky_key j) (k : ∀ ρ2, md ρ2 → mi_K ρ ρ2 (j + 1) → sm_V G X d n lv st J ρ2 Q) : sm_V G X d pc lv (.long (lN m) :: .int (nI j) :: .ref m_keys :: st) J ρ1 Q :=
  wp_last n hn hd (ms_keys hm) j rfl ⟨hj, by decide⟩ (k _ (kyF.mdl (A := [m_keys]) (kyF.u List.mem_cons_self) hm) (h.s e))
theorem mi_arr (h0 : ρ.2.2.2.1 + 64 = 899) (hM : ρ.2.2.1 mM = (10, 0)) (hI : I mM = fun _ => 0) {Q : sm_O → sm_I → sm_R → Prop} (kk : ∀ I1 ρ1, cx mM 899 I ρ (upd (I mM) 17 (-1)) mi_L I1 ρ1 → sm_V G xX10_init (d + 1) 369 [.ref mM] [] I1 ρ1 Q) : sm_V G xX10_init (d + 1) 0 [.ref mM] [] I ρ Q := by
  refine wp_aload0 1 rfl dX10_init_0 ?_
  refine wp_objInit 4 rfl dX10_init_1 q1496 (nl rfl) ?_
  have hx := cx_0 (o := mM) (c0 := 899) (I := I) (ρ := ρ) h0
  refine wp_aload0 5 rfl dX10_init_4 ?_
  refine wp_sipush (nI 2000) 8 rfl dX10_init_5 (by decide) ?_
  refine wp_cx (t := 1) (N := 2000) 10 13 rfl rfl dX10_init_8 dX10_init_10 rfl rfl (by decide) q234 rfl (by decide) rfl pX10_13_10 hM (fun q => ⟨rfl, rfl⟩) hx (by decide) (by decide) ?_
  clear hx
  intro I1 ρ1 hx
  refine wp_aload0 14 rfl dX10_init_13 ?_
  refine wp_sipush (nI 2000) 17 rfl dX10_init_14 (by decide) ?_
  refine wp_cx (t := 1) (N := 2000) 19 22 rfl rfl dX10_init_17 dX10_init_19 rfl rfl (by decide) q234 rfl (by decide) rfl pX10_17_10 hM (fun q => ⟨rfl, rfl⟩) hx (by decide) (by decide) ?_
  clear hx
  intro I1 ρ1 hx
  refine wp_aload0 23 rfl dX10_init_22 ?_
  refine wp_sipush (nI 403) 26 rfl dX10_init_23 (by decide) ?_
  refine wp_cx (t := 0) (N := 403) 28 31 rfl rfl dX10_init_26 dX10_init_28 rfl rfl (by decide) q420 rfl (by decide) rfl pX10_20_10 hM (fun q => ⟨rfl, rfl⟩) hx (by decide) (by decide) ?_
  clear hx
  intro I1 ρ1 hx
  refine wp_aload0 32 rfl dX10_init_31 ?_
  refine wp_sipush (nI 403) 35 rfl dX10_init_32 (by decide) ?_
  refine wp_cx (t := 0) (N := 403) 37 40 rfl rfl dX10_init_35 dX10_init_37 rfl rfl (by decide) q420 rfl (by decide) rfl pX10_24_10 hM (fun q => ⟨rfl, rfl⟩) hx (by decide) (by decide) ?_
  clear hx
  intro I1 ρ1 hx
  refine wp_aload0 41 rfl dX10_init_40 ?_
  refine wp_sipush (nI 403) 44 rfl dX10_init_41 (by decide) ?_
  refine wp_cx (t := 0) (N := 403) 46 49 rfl rfl dX10_init_44 dX10_init_46 rfl rfl (by decide) q420 rfl (by decide) rfl pX10_27_10 hM (fun q => ⟨rfl, rfl⟩) hx (by decide) (by decide) ?_
  clear hx
  intro I1 ρ1 hx
  refine wp_aload0 50 rfl dX10_init_49 ?_
  refine wp_sipush (nI 403) 53 rfl dX10_init_50 (by decide) ?_
  refine wp_cx (t := 4) (N := 403) 55 58 rfl rfl dX10_init_53 dX10_init_55 rfl rfl (by decide) q1714 rfl (by decide) rfl pX10_30_10 hM (fun q => ⟨rfl, rfl⟩) hx (by decide) (by decide) ?_
  clear hx
  intro I1 ρ1 hx
  refine wp_aload0 59 rfl dX10_init_58 ?_
  refine wp_bipush (nI 21) 61 rfl dX10_init_59 (by decide) ?_
  refine wp_cx (t := 4) (N := 21) 63 66 rfl rfl dX10_init_61 dX10_init_63 rfl rfl (by decide) q1714 rfl (by decide) rfl pX10_34_10 hM (fun q => ⟨rfl, rfl⟩) hx (by decide) (by decide) ?_
  clear hx
  intro I1 ρ1 hx
  refine wp_aload0 67 rfl dX10_init_66 ?_
  refine wp_iconst (-1) 68 rfl dX10_init_67 (by decide) ?_
  refine wp_puti 71 rfl dX10_init_68 pX10_37_10 (hx.2.2.2.2.2.1.trans hM) ⟨rfl, rfl⟩ ?_
  replace hx := cx_i hx (by decide) 17 (-1)
  refine wp_aload0 72 rfl dX10_init_71 ?_
  refine wp_bipush (nI 11) 74 rfl dX10_init_72 (by decide) ?_
  refine wp_cx (t := 4) (N := 11) 76 79 rfl rfl dX10_init_74 dX10_init_76 rfl rfl (by decide) q1714 rfl (by decide) rfl pX10_40_10 hM (fun q => ⟨rfl, rfl⟩) hx (by decide) (by decide) ?_
  clear hx
  intro I1 ρ1 hx
  refine wp_aload0 80 rfl dX10_init_79 ?_
  refine wp_bipush (nI 11) 82 rfl dX10_init_80 (by decide) ?_
  refine wp_cx (t := 0) (N := 11) 84 87 rfl rfl dX10_init_82 dX10_init_84 rfl rfl (by decide) q420 rfl (by decide) rfl pX10_43_10 hM (fun q => ⟨rfl, rfl⟩) hx (by decide) (by decide) ?_
  clear hx
  intro I1 ρ1 hx
  refine wp_aload0 88 rfl dX10_init_87 ?_
  refine wp_iconst (nI 2) 89 rfl dX10_init_88 (by decide) ?_
  refine wp_cx (t := 0) (N := 2) 91 94 rfl rfl dX10_init_89 dX10_init_91 rfl rfl (by decide) q420 rfl (by decide) rfl pX10_46_10 hM (fun q => ⟨rfl, rfl⟩) hx (by decide) (by decide) ?_
  clear hx
  intro I1 ρ1 hx
  refine wp_aload0 95 rfl dX10_init_94 ?_
  refine wp_bipush (nI 48) 97 rfl dX10_init_95 (by decide) ?_
  refine wp_cx (t := 0) (N := 48) 99 102 rfl rfl dX10_init_97 dX10_init_99 rfl rfl (by decide) q420 rfl (by decide) rfl pX10_49_10 hM (fun q => ⟨rfl, rfl⟩) hx (by decide) (by decide) ?_
  clear hx
  intro I1 ρ1 hx
  refine wp_aload0 103 rfl dX10_init_102 ?_
  refine wp_iconst (nI 2) 104 rfl dX10_init_103 (by decide) ?_
  refine wp_cx (t := 0) (N := 2) 106 109 rfl rfl dX10_init_104 dX10_init_106 rfl rfl (by decide) q420 rfl (by decide) rfl pX10_52_10 hM (fun q => ⟨rfl, rfl⟩) hx (by decide) (by decide) ?_
  clear hx
  intro I1 ρ1 hx
  refine wp_aload0 110 rfl dX10_init_109 ?_
  refine wp_bipush (nI 40) 112 rfl dX10_init_110 (by decide) ?_
  refine wp_cx (t := 0) (N := 40) 114 117 rfl rfl dX10_init_112 dX10_init_114 rfl rfl (by decide) q420 rfl (by decide) rfl pX10_55_10 hM (fun q => ⟨rfl, rfl⟩) hx (by decide) (by decide) ?_
  clear hx
  intro I1 ρ1 hx
  refine wp_aload0 118 rfl dX10_init_117 ?_
  refine wp_iconst (nI 2) 119 rfl dX10_init_118 (by decide) ?_
  refine wp_cx (t := 0) (N := 2) 121 124 rfl rfl dX10_init_119 dX10_init_121 rfl rfl (by decide) q420 rfl (by decide) rfl pX10_58_10 hM (fun q => ⟨rfl, rfl⟩) hx (by decide) (by decide) ?_
  clear hx
  intro I1 ρ1 hx
  refine wp_aload0 125 rfl dX10_init_124 ?_
  refine wp_bipush (nI 20) 127 rfl dX10_init_125 (by decide) ?_
  refine wp_cx (t := 0) (N := 20) 129 132 rfl rfl dX10_init_127 dX10_init_129 rfl rfl (by decide) q420 rfl (by decide) rfl pX10_61_10 hM (fun q => ⟨rfl, rfl⟩) hx (by decide) (by decide) ?_
  clear hx
  intro I1 ρ1 hx
  refine wp_aload0 133 rfl dX10_init_132 ?_
  refine wp_bipush (nI 20) 135 rfl dX10_init_133 (by decide) ?_
  refine wp_cx (t := 0) (N := 20) 137 140 rfl rfl dX10_init_135 dX10_init_137 rfl rfl (by decide) q420 rfl (by decide) rfl pX10_64_10 hM (fun q => ⟨rfl, rfl⟩) hx (by decide) (by decide) ?_
  clear hx
  intro I1 ρ1 hx
  refine wp_aload0 141 rfl dX10_init_140 ?_
  refine wp_bipush (nI 20) 143 rfl dX10_init_141 (by decide) ?_
  refine wp_cx (t := 0) (N := 20) 145 148 rfl rfl dX10_init_143 dX10_init_145 rfl rfl (by decide) q420 rfl (by decide) rfl pX10_67_10 hM (fun q => ⟨rfl, rfl⟩) hx (by decide) (by decide) ?_
  clear hx
  intro I1 ρ1 hx
  refine wp_aload0 149 rfl dX10_init_148 ?_
  refine wp_bipush (nI 20) 151 rfl dX10_init_149 (by decide) ?_
  refine wp_cx (t := 0) (N := 20) 153 156 rfl rfl dX10_init_151 dX10_init_153 rfl rfl (by decide) q420 rfl (by decide) rfl pX10_70_10 hM (fun q => ⟨rfl, rfl⟩) hx (by decide) (by decide) ?_
  clear hx
  intro I1 ρ1 hx
  refine wp_aload0 157 rfl dX10_init_156 ?_
  refine wp_iconst (nI 2) 158 rfl dX10_init_157 (by decide) ?_
  refine wp_cx (t := 0) (N := 2) 160 163 rfl rfl dX10_init_158 dX10_init_160 rfl rfl (by decide) q420 rfl (by decide) rfl pX10_73_10 hM (fun q => ⟨rfl, rfl⟩) hx (by decide) (by decide) ?_
  clear hx
  intro I1 ρ1 hx
  refine wp_aload0 164 rfl dX10_init_163 ?_
  refine wp_iconst (nI 2) 165 rfl dX10_init_164 (by decide) ?_
  refine wp_cx (t := 0) (N := 2) 167 170 rfl rfl dX10_init_165 dX10_init_167 rfl rfl (by decide) q420 rfl (by decide) rfl pX10_76_10 hM (fun q => ⟨rfl, rfl⟩) hx (by decide) (by decide) ?_
  clear hx
  intro I1 ρ1 hx
  refine wp_aload0 171 rfl dX10_init_170 ?_
  refine wp_iconst (nI 2) 172 rfl dX10_init_171 (by decide) ?_
  refine wp_cx (t := 0) (N := 2) 174 177 rfl rfl dX10_init_172 dX10_init_174 rfl rfl (by decide) q420 rfl (by decide) rfl pX10_79_10 hM (fun q => ⟨rfl, rfl⟩) hx (by decide) (by decide) ?_
  clear hx
  intro I1 ρ1 hx
  refine wp_aload0 178 rfl dX10_init_177 ?_
  refine wp_bipush (nI 6) 180 rfl dX10_init_178 (by decide) ?_
  refine wp_cx (t := 0) (N := 6) 182 185 rfl rfl dX10_init_180 dX10_init_182 rfl rfl (by decide) q420 rfl (by decide) rfl pX10_82_10 hM (fun q => ⟨rfl, rfl⟩) hx (by decide) (by decide) ?_
  clear hx
  intro I1 ρ1 hx
  refine wp_aload0 186 rfl dX10_init_185 ?_
  refine wp_bipush (nI 6) 188 rfl dX10_init_186 (by decide) ?_
  refine wp_cx (t := 0) (N := 6) 190 193 rfl rfl dX10_init_188 dX10_init_190 rfl rfl (by decide) q420 rfl (by decide) rfl pX10_85_10 hM (fun q => ⟨rfl, rfl⟩) hx (by decide) (by decide) ?_
  clear hx
  intro I1 ρ1 hx
  refine wp_aload0 194 rfl dX10_init_193 ?_
  refine wp_sipush (nI 260) 197 rfl dX10_init_194 (by decide) ?_
  refine wp_cx (t := 3) (N := 260) 199 202 rfl rfl dX10_init_197 dX10_init_199 rfl rfl (by decide) q579 rfl (by decide) rfl pX10_88_10 hM (fun q => ⟨rfl, rfl⟩) hx (by decide) (by decide) ?_
  clear hx
  intro I1 ρ1 hx
  refine wp_aload0 203 rfl dX10_init_202 ?_
  refine wp_sipush (nI 260) 206 rfl dX10_init_203 (by decide) ?_
  refine wp_cx (t := 0) (N := 260) 208 211 rfl rfl dX10_init_206 dX10_init_208 rfl rfl (by decide) q420 rfl (by decide) rfl pX10_92_10 hM (fun q => ⟨rfl, rfl⟩) hx (by decide) (by decide) ?_
  clear hx
  intro I1 ρ1 hx
  refine wp_aload0 212 rfl dX10_init_211 ?_
  refine wp_sipush (nI 260) 215 rfl dX10_init_212 (by decide) ?_
  refine wp_cx (t := 0) (N := 260) 217 220 rfl rfl dX10_init_215 dX10_init_217 rfl rfl (by decide) q420 rfl (by decide) rfl pX10_95_10 hM (fun q => ⟨rfl, rfl⟩) hx (by decide) (by decide) ?_
  clear hx
  intro I1 ρ1 hx
  refine wp_aload0 221 rfl dX10_init_220 ?_
  refine wp_sipush (nI 260) 224 rfl dX10_init_221 (by decide) ?_
  refine wp_cx (t := 0) (N := 260) 226 229 rfl rfl dX10_init_224 dX10_init_226 rfl rfl (by decide) q420 rfl (by decide) rfl pX10_98_10 hM (fun q => ⟨rfl, rfl⟩) hx (by decide) (by decide) ?_
  clear hx
  intro I1 ρ1 hx
  refine wp_aload0 230 rfl dX10_init_229 ?_
  refine wp_sipush (nI 260) 233 rfl dX10_init_230 (by decide) ?_
  refine wp_cx (t := 0) (N := 260) 235 238 rfl rfl dX10_init_233 dX10_init_235 rfl rfl (by decide) q420 rfl (by decide) rfl pX10_101_10 hM (fun q => ⟨rfl, rfl⟩) hx (by decide) (by decide) ?_
  clear hx
  intro I1 ρ1 hx
  refine wp_aload0 239 rfl dX10_init_238 ?_
  refine wp_sipush (nI 840) 242 rfl dX10_init_239 (by decide) ?_
  refine wp_cx (t := 0) (N := 840) 244 247 rfl rfl dX10_init_242 dX10_init_244 rfl rfl (by decide) q420 rfl (by decide) rfl pX10_104_10 hM (fun q => ⟨rfl, rfl⟩) hx (by decide) (by decide) ?_
  clear hx
  intro I1 ρ1 hx
  refine wp_aload0 248 rfl dX10_init_247 ?_
  refine wp_sipush (nI 840) 251 rfl dX10_init_248 (by decide) ?_
  refine wp_cx (t := 0) (N := 840) 253 256 rfl rfl dX10_init_251 dX10_init_253 rfl rfl (by decide) q420 rfl (by decide) rfl pX10_107_10 hM (fun q => ⟨rfl, rfl⟩) hx (by decide) (by decide) ?_
  clear hx
  intro I1 ρ1 hx
  refine wp_aload0 257 rfl dX10_init_256 ?_
  refine wp_bipush (nI 64) 259 rfl dX10_init_257 (by decide) ?_
  refine wp_cx (t := 0) (N := 64) 261 264 rfl rfl dX10_init_259 dX10_init_261 rfl rfl (by decide) q420 rfl (by decide) rfl pX10_110_10 hM (fun q => ⟨rfl, rfl⟩) hx (by decide) (by decide) ?_
  clear hx
  intro I1 ρ1 hx
  refine wp_aload0 265 rfl dX10_init_264 ?_
  refine wp_bipush (nI 9) 267 rfl dX10_init_265 (by decide) ?_
  refine wp_cx (t := 0) (N := 9) 269 272 rfl rfl dX10_init_267 dX10_init_269 rfl rfl (by decide) q420 rfl (by decide) rfl pX10_113_10 hM (fun q => ⟨rfl, rfl⟩) hx (by decide) (by decide) ?_
  clear hx
  intro I1 ρ1 hx
  refine wp_aload0 273 rfl dX10_init_272 ?_
  refine wp_sipush (nI 400) 276 rfl dX10_init_273 (by decide) ?_
  refine wp_cx (t := 0) (N := 400) 278 281 rfl rfl dX10_init_276 dX10_init_278 rfl rfl (by decide) q420 rfl (by decide) rfl pX10_116_10 hM (fun q => ⟨rfl, rfl⟩) hx (by decide) (by decide) ?_
  clear hx
  intro I1 ρ1 hx
  refine wp_aload0 282 rfl dX10_init_281 ?_
  refine wp_bipush (nI 70) 284 rfl dX10_init_282 (by decide) ?_
  refine wp_cx (t := 0) (N := 70) 286 289 rfl rfl dX10_init_284 dX10_init_286 rfl rfl (by decide) q420 rfl (by decide) rfl pX10_119_10 hM (fun q => ⟨rfl, rfl⟩) hx (by decide) (by decide) ?_
  clear hx
  intro I1 ρ1 hx
  refine wp_aload0 290 rfl dX10_init_289 ?_
  refine wp_bipush (nI 70) 292 rfl dX10_init_290 (by decide) ?_
  refine wp_cx (t := 0) (N := 70) 294 297 rfl rfl dX10_init_292 dX10_init_294 rfl rfl (by decide) q420 rfl (by decide) rfl pX10_122_10 hM (fun q => ⟨rfl, rfl⟩) hx (by decide) (by decide) ?_
  clear hx
  intro I1 ρ1 hx
  refine wp_aload0 298 rfl dX10_init_297 ?_
  refine wp_iconst (nI 4) 299 rfl dX10_init_298 (by decide) ?_
  refine wp_cx (t := 0) (N := 4) 301 304 rfl rfl dX10_init_299 dX10_init_301 rfl rfl (by decide) q420 rfl (by decide) rfl pX10_125_10 hM (fun q => ⟨rfl, rfl⟩) hx (by decide) (by decide) ?_
  clear hx
  intro I1 ρ1 hx
  refine wp_aload0 305 rfl dX10_init_304 ?_
  refine wp_sipush (nI 2800) 308 rfl dX10_init_305 (by decide) ?_
  refine wp_cx (t := 0) (N := 2800) 310 313 rfl rfl dX10_init_308 dX10_init_310 rfl rfl (by decide) q420 rfl (by decide) rfl pX10_128_10 hM (fun q => ⟨rfl, rfl⟩) hx (by decide) (by decide) ?_
  clear hx
  intro I1 ρ1 hx
  refine wp_aload0 314 rfl dX10_init_313 ?_
  refine wp_sipush (nI 224) 317 rfl dX10_init_314 (by decide) ?_
  refine wp_cx (t := 0) (N := 224) 319 322 rfl rfl dX10_init_317 dX10_init_319 rfl rfl (by decide) q420 rfl (by decide) rfl pX10_131_10 hM (fun q => ⟨rfl, rfl⟩) hx (by decide) (by decide) ?_
  clear hx
  intro I1 ρ1 hx
  refine wp_aload0 323 rfl dX10_init_322 ?_
  refine wp_iconst (nI 5) 324 rfl dX10_init_323 (by decide) ?_
  refine wp_cx (t := 0) (N := 5) 326 329 rfl rfl dX10_init_324 dX10_init_326 rfl rfl (by decide) q420 rfl (by decide) rfl pX10_134_10 hM (fun q => ⟨rfl, rfl⟩) hx (by decide) (by decide) ?_
  clear hx
  intro I1 ρ1 hx
  refine wp_aload0 330 rfl dX10_init_329 ?_
  refine wp_bipush (nI 20) 332 rfl dX10_init_330 (by decide) ?_
  refine wp_cx (t := 0) (N := 20) 334 337 rfl rfl dX10_init_332 dX10_init_334 rfl rfl (by decide) q420 rfl (by decide) rfl pX10_137_10 hM (fun q => ⟨rfl, rfl⟩) hx (by decide) (by decide) ?_
  clear hx
  intro I1 ρ1 hx
  refine wp_aload0 338 rfl dX10_init_337 ?_
  refine wp_bipush (nI 20) 340 rfl dX10_init_338 (by decide) ?_
  refine wp_cx (t := 0) (N := 20) 342 345 rfl rfl dX10_init_340 dX10_init_342 rfl rfl (by decide) q420 rfl (by decide) rfl pX10_140_10 hM (fun q => ⟨rfl, rfl⟩) hx (by decide) (by decide) ?_
  clear hx
  intro I1 ρ1 hx
  refine wp_aload0 346 rfl dX10_init_345 ?_
  refine wp_bipush (nI 20) 348 rfl dX10_init_346 (by decide) ?_
  refine wp_cx (t := 0) (N := 20) 350 353 rfl rfl dX10_init_348 dX10_init_350 rfl rfl (by decide) q420 rfl (by decide) rfl pX10_143_10 hM (fun q => ⟨rfl, rfl⟩) hx (by decide) (by decide) ?_
  clear hx
  intro I1 ρ1 hx
  refine wp_aload0 354 rfl dX10_init_353 ?_
  refine wp_iconst (nI 3) 355 rfl dX10_init_354 (by decide) ?_
  refine wp_cx (t := 3) (N := 3) 357 360 rfl rfl dX10_init_355 dX10_init_357 rfl rfl (by decide) q579 rfl (by decide) rfl pX10_146_10 hM (fun q => ⟨rfl, rfl⟩) hx (by decide) (by decide) ?_
  clear hx
  intro I1 ρ1 hx
  refine wp_aload0 361 rfl dX10_init_360 ?_
  refine wp_sipush (nI 210) 364 rfl dX10_init_361 (by decide) ?_
  refine wp_cx (t := 0) (N := 210) 366 369 rfl rfl dX10_init_364 dX10_init_366 rfl rfl (by decide) q420 rfl (by decide) rfl pX10_149_10 hM (fun q => ⟨rfl, rfl⟩) hx (by decide) (by decide) ?_
  clear hx
  intro I1 ρ1 hx
  exact kk _ _ hx
theorem s_minit (h0 : ρ.2.2.2.1 + 64 = 899) (hM : ρ.2.2.1 mM = (10, 0)) (hI : I mM = fun _ => 0) : sm_M G xX10_init (d + 2) [.ref mM] I ρ (sm_Qv (fun I1 ρ1 => (ρ1.2.2.2.1 = 879 ∧ ρ1.2.2.2.2 = ρ.2.2.2.2 + 12746) ∧ md ρ1 ∧ mKy ρ1 ∧ mZ I1 0 y_0 ∧ ∀ a, a < 898 → I1 a = I a ∧ ρ1.1 a = ρ.1 a ∧ ρ1.2.1 a = ρ.2.1 a ∧ ρ1.2.2.1 a = ρ.2.2.1 a)) := by
  show sm_V G xX10_init (d + 2) 0 [.ref mM] [] I ρ _
  refine mi_arr h0 hM hI (fun K ρ1 hx => ?_)
  have hm : md ρ1 := by
    refine ⟨hx.2.2.2.2.2.1.trans hM, fun e he => ?_⟩
    obtain ⟨h1, h2⟩ := mi_L_ok e he
    obtain ⟨k1, k2, -⟩ := hx.2.1 _ _ h1
    rw [show 899 + (e.2.1 - 899) = e.2.1 by omega] at k1 k2
    exact ⟨k1, k2⟩
  have hz : ∀ e ∈ md_L, K e.2.1 = fun _ => 0 := fun e he => by
    obtain ⟨h1, h2⟩ := mi_L_ok e he
    obtain ⟨-, -, k3, -⟩ := hx.2.1 _ _ h1
    rw [show 899 + (e.2.1 - 899) = e.2.1 by omega] at k3
    exact k3
  have hKM : K mM = upd (fun _ => 0) 17 (-1) := by
    rw [hx.2.2.2.1, hI]
  have hfr := hx.2.2.1
  obtain ⟨hc1, hc2⟩ := hx.1
  have hc2 : ρ1.2.2.2.2 = ρ.2.2.2.2 + 12746 := hc2
  have hc1 : ρ1.2.2.2.1 = 879 := by
    have : ρ1.2.2.2.1 + 64 = 899 + 44 := hc1
    omega
  clear hx
  refine wp_aload0 370 rfl dX10_init_369 ?_
  refine wp_iconst (nI 0) 371 rfl dX10_init_370 (by decide) ?_
  refine wp_Vv1 374 rfl dX10_init_371 kX10_plain lX10_152 (md_M hm) (nl rfl) (nl rfl) (s_plain hm 0 (by decide)) (fun J1 ρx ⟨ex, f1, q1, q2, q3, q4⟩ => ?_)
  have ex := ex.symm
  subst ex
  refine wp_aload0 375 rfl dX10_init_374 ?_
  refine wp_iconst (nI 1) 376 rfl dX10_init_375 (by decide) ?_
  refine wp_Vv1 379 rfl dX10_init_376 kX10_plain lX10_152 (md_M hm) (nl rfl) (nl rfl) (s_plain hm 1 (by decide)) (fun J2 ρx ⟨ex, f2, u1, u2, u3, u4⟩ => ?_)
  have ex := ex.symm
  subst ex
  have hk0 : mi_K ρ1 ρ1 0 := ⟨kyF.rf, fun k h => absurd h (Nat.not_lt_zero _)⟩
  obtain ⟨ρ2, eρ⟩ : ∃ ρ2, ρ2 = ρ1 := ⟨_, rfl⟩
  have hm2 : md ρ2 := by rw [eρ]; exact hm
  have hk : mi_K ρ1 ρ2 0 := by rw [eρ]; exact hk0
  show sm_V G xX10_init (d + 2) 379 [.ref mM] [] J2 ρ1 _
  rw [show sm_V G xX10_init (d + 2) 379 [.ref mM] [] J2 ρ1 = sm_V G xX10_init (d + 2) 379 [.ref mM] [] J2 ρ2 by rw [eρ]]
  clear eρ hk0
  refine wp_aload0 380 rfl dX10_init_379 ?_
  refine wp_getr 383 rfl dX10_init_380 fX10_34_10 (md_M hm2) (mp_keys hm2) ?_
  refine wp_iconst (nI 0) 384 rfl dX10_init_383 (by decide) ?_
  refine wp_bipush (nI 100) 386 rfl dX10_init_384 (by decide) ?_
  refine wp_bipush (nI 111) 388 rfl dX10_init_386 (by decide) ?_
  refine wp_bipush (nI 111) 390 rfl dX10_init_388 (by decide) ?_
  refine wp_bipush (nI 114) 392 rfl dX10_init_390 (by decide) ?_
  refine wp_iconst (nI 0) 393 rfl dX10_init_392 (by decide) ?_
  refine wp_iconst (nI 0) 394 rfl dX10_init_393 (by decide) ?_
  refine wp_iconst (nI 0) 395 rfl dX10_init_394 (by decide) ?_
  refine wp_Se7 398 rfl dX10_init_395 kX10_word lX10_156 (nl rfl) (nl rfl) (s_word 100 111 111 114 0 0 0 (by decide) (by decide) (by decide) (by decide) (by decide) (by decide) (by decide)) ?_
  refine wp_key 399 rfl dX10_init_398 hm2 (by decide) hk (by decide) ?_
  clear hm2 hk
  intro ρ2 hm2 hk
  refine wp_aload0 400 rfl dX10_init_399 ?_
  refine wp_getr 403 rfl dX10_init_400 fX10_34_10 (md_M hm2) (mp_keys hm2) ?_
  refine wp_iconst (nI 1) 404 rfl dX10_init_403 (by decide) ?_
  refine wp_bipush (nI 99) 406 rfl dX10_init_404 (by decide) ?_
  refine wp_bipush (nI 97) 408 rfl dX10_init_406 (by decide) ?_
  refine wp_bipush (nI 108) 410 rfl dX10_init_408 (by decide) ?_
  refine wp_bipush (nI 108) 412 rfl dX10_init_410 (by decide) ?_
  refine wp_bipush (nI 101) 414 rfl dX10_init_412 (by decide) ?_
  refine wp_bipush (nI 114) 416 rfl dX10_init_414 (by decide) ?_
  refine wp_iconst (nI 0) 417 rfl dX10_init_416 (by decide) ?_
  refine wp_Se7 420 rfl dX10_init_417 kX10_word lX10_156 (nl rfl) (nl rfl) (s_word 99 97 108 108 101 114 0 (by decide) (by decide) (by decide) (by decide) (by decide) (by decide) (by decide)) ?_
  refine wp_key 421 rfl dX10_init_420 hm2 (by decide) hk (by decide) ?_
  clear hm2 hk
  intro ρ2 hm2 hk
  refine wp_aload0 422 rfl dX10_init_421 ?_
  refine wp_getr 425 rfl dX10_init_422 fX10_34_10 (md_M hm2) (mp_keys hm2) ?_
  refine wp_iconst (nI 2) 426 rfl dX10_init_425 (by decide) ?_
  refine wp_bipush (nI 114) 428 rfl dX10_init_426 (by decide) ?_
  refine wp_bipush (nI 111) 430 rfl dX10_init_428 (by decide) ?_
  refine wp_bipush (nI 117) 432 rfl dX10_init_430 (by decide) ?_
  refine wp_bipush (nI 110) 434 rfl dX10_init_432 (by decide) ?_
  refine wp_bipush (nI 100) 436 rfl dX10_init_434 (by decide) ?_
  refine wp_iconst (nI 0) 437 rfl dX10_init_436 (by decide) ?_
  refine wp_iconst (nI 0) 438 rfl dX10_init_437 (by decide) ?_
  refine wp_Se7 441 rfl dX10_init_438 kX10_word lX10_156 (nl rfl) (nl rfl) (s_word 114 111 117 110 100 0 0 (by decide) (by decide) (by decide) (by decide) (by decide) (by decide) (by decide)) ?_
  refine wp_key 442 rfl dX10_init_441 hm2 (by decide) hk (by decide) ?_
  clear hm2 hk
  intro ρ2 hm2 hk
  refine wp_aload0 443 rfl dX10_init_442 ?_
  refine wp_getr 446 rfl dX10_init_443 fX10_34_10 (md_M hm2) (mp_keys hm2) ?_
  refine wp_iconst (nI 3) 447 rfl dX10_init_446 (by decide) ?_
  refine wp_bipush (nI 103) 449 rfl dX10_init_447 (by decide) ?_
  refine wp_bipush (nI 105) 451 rfl dX10_init_449 (by decide) ?_
  refine wp_bipush (nI 118) 453 rfl dX10_init_451 (by decide) ?_
  refine wp_bipush (nI 101) 455 rfl dX10_init_453 (by decide) ?_
  refine wp_bipush (nI 115) 457 rfl dX10_init_455 (by decide) ?_
  refine wp_iconst (nI 0) 458 rfl dX10_init_457 (by decide) ?_
  refine wp_iconst (nI 0) 459 rfl dX10_init_458 (by decide) ?_
  refine wp_Se7 462 rfl dX10_init_459 kX10_word lX10_156 (nl rfl) (nl rfl) (s_word 103 105 118 101 115 0 0 (by decide) (by decide) (by decide) (by decide) (by decide) (by decide) (by decide)) ?_
  refine wp_key 463 rfl dX10_init_462 hm2 (by decide) hk (by decide) ?_
  clear hm2 hk
  intro ρ2 hm2 hk
  refine wp_aload0 464 rfl dX10_init_463 ?_
  refine wp_getr 467 rfl dX10_init_464 fX10_34_10 (md_M hm2) (mp_keys hm2) ?_
  refine wp_iconst (nI 4) 468 rfl dX10_init_467 (by decide) ?_
  refine wp_bipush (nI 119) 470 rfl dX10_init_468 (by decide) ?_
  refine wp_bipush (nI 101) 472 rfl dX10_init_470 (by decide) ?_
  refine wp_bipush (nI 97) 474 rfl dX10_init_472 (by decide) ?_
  refine wp_bipush (nI 114) 476 rfl dX10_init_474 (by decide) ?_
  refine wp_bipush (nI 115) 478 rfl dX10_init_476 (by decide) ?_
  refine wp_iconst (nI 0) 479 rfl dX10_init_478 (by decide) ?_
  refine wp_iconst (nI 0) 480 rfl dX10_init_479 (by decide) ?_
  refine wp_Se7 483 rfl dX10_init_480 kX10_word lX10_156 (nl rfl) (nl rfl) (s_word 119 101 97 114 115 0 0 (by decide) (by decide) (by decide) (by decide) (by decide) (by decide) (by decide)) ?_
  refine wp_key 484 rfl dX10_init_483 hm2 (by decide) hk (by decide) ?_
  clear hm2 hk
  intro ρ2 hm2 hk
  refine wp_aload0 485 rfl dX10_init_484 ?_
  refine wp_getr 488 rfl dX10_init_485 fX10_34_10 (md_M hm2) (mp_keys hm2) ?_
  refine wp_iconst (nI 5) 489 rfl dX10_init_488 (by decide) ?_
  refine wp_bipush (nI 112) 491 rfl dX10_init_489 (by decide) ?_
  refine wp_bipush (nI 97) 493 rfl dX10_init_491 (by decide) ?_
  refine wp_bipush (nI 121) 495 rfl dX10_init_493 (by decide) ?_
  refine wp_bipush (nI 115) 497 rfl dX10_init_495 (by decide) ?_
  refine wp_iconst (nI 0) 498 rfl dX10_init_497 (by decide) ?_
  refine wp_iconst (nI 0) 499 rfl dX10_init_498 (by decide) ?_
  refine wp_iconst (nI 0) 500 rfl dX10_init_499 (by decide) ?_
  refine wp_Se7 503 rfl dX10_init_500 kX10_word lX10_156 (nl rfl) (nl rfl) (s_word 112 97 121 115 0 0 0 (by decide) (by decide) (by decide) (by decide) (by decide) (by decide) (by decide)) ?_
  refine wp_key 504 rfl dX10_init_503 hm2 (by decide) hk (by decide) ?_
  clear hm2 hk
  intro ρ2 hm2 hk
  refine wp_aload0 505 rfl dX10_init_504 ?_
  refine wp_getr 508 rfl dX10_init_505 fX10_34_10 (md_M hm2) (mp_keys hm2) ?_
  refine wp_bipush (nI 6) 510 rfl dX10_init_508 (by decide) ?_
  refine wp_bipush (nI 119) 512 rfl dX10_init_510 (by decide) ?_
  refine wp_bipush (nI 105) 514 rfl dX10_init_512 (by decide) ?_
  refine wp_bipush (nI 110) 516 rfl dX10_init_514 (by decide) ?_
  refine wp_bipush (nI 100) 518 rfl dX10_init_516 (by decide) ?_
  refine wp_iconst (nI 0) 519 rfl dX10_init_518 (by decide) ?_
  refine wp_iconst (nI 0) 520 rfl dX10_init_519 (by decide) ?_
  refine wp_iconst (nI 0) 521 rfl dX10_init_520 (by decide) ?_
  refine wp_Se7 524 rfl dX10_init_521 kX10_word lX10_156 (nl rfl) (nl rfl) (s_word 119 105 110 100 0 0 0 (by decide) (by decide) (by decide) (by decide) (by decide) (by decide) (by decide)) ?_
  refine wp_key 525 rfl dX10_init_524 hm2 (by decide) hk (by decide) ?_
  clear hm2 hk
  intro ρ2 hm2 hk
  refine wp_aload0 526 rfl dX10_init_525 ?_
  refine wp_getr 529 rfl dX10_init_526 fX10_34_10 (md_M hm2) (mp_keys hm2) ?_
  refine wp_bipush (nI 7) 531 rfl dX10_init_529 (by decide) ?_
  refine wp_bipush (nI 110) 533 rfl dX10_init_531 (by decide) ?_
  refine wp_bipush (nI 101) 535 rfl dX10_init_533 (by decide) ?_
  refine wp_bipush (nI 97) 537 rfl dX10_init_535 (by decide) ?_
  refine wp_bipush (nI 114) 539 rfl dX10_init_537 (by decide) ?_
  refine wp_iconst (nI 0) 540 rfl dX10_init_539 (by decide) ?_
  refine wp_iconst (nI 0) 541 rfl dX10_init_540 (by decide) ?_
  refine wp_iconst (nI 0) 542 rfl dX10_init_541 (by decide) ?_
  refine wp_Se7 545 rfl dX10_init_542 kX10_word lX10_156 (nl rfl) (nl rfl) (s_word 110 101 97 114 0 0 0 (by decide) (by decide) (by decide) (by decide) (by decide) (by decide) (by decide)) ?_
  refine wp_key 546 rfl dX10_init_545 hm2 (by decide) hk (by decide) ?_
  clear hm2 hk
  intro ρ2 hm2 hk
  refine wp_aload0 547 rfl dX10_init_546 ?_
  refine wp_getr 550 rfl dX10_init_547 fX10_34_10 (md_M hm2) (mp_keys hm2) ?_
  refine wp_bipush (nI 8) 552 rfl dX10_init_550 (by decide) ?_
  refine wp_bipush (nI 115) 554 rfl dX10_init_552 (by decide) ?_
  refine wp_bipush (nI 101) 556 rfl dX10_init_554 (by decide) ?_
  refine wp_bipush (nI 101) 558 rfl dX10_init_556 (by decide) ?_
  refine wp_bipush (nI 100) 560 rfl dX10_init_558 (by decide) ?_
  refine wp_iconst (nI 0) 561 rfl dX10_init_560 (by decide) ?_
  refine wp_iconst (nI 0) 562 rfl dX10_init_561 (by decide) ?_
  refine wp_iconst (nI 0) 563 rfl dX10_init_562 (by decide) ?_
  refine wp_Se7 566 rfl dX10_init_563 kX10_word lX10_156 (nl rfl) (nl rfl) (s_word 115 101 101 100 0 0 0 (by decide) (by decide) (by decide) (by decide) (by decide) (by decide) (by decide)) ?_
  refine wp_key 567 rfl dX10_init_566 hm2 (by decide) hk (by decide) ?_
  clear hm2 hk
  intro ρ2 hm2 hk
  refine wp_aload0 568 rfl dX10_init_567 ?_
  refine wp_getr 571 rfl dX10_init_568 fX10_34_10 (md_M hm2) (mp_keys hm2) ?_
  refine wp_bipush (nI 9) 573 rfl dX10_init_571 (by decide) ?_
  refine wp_bipush (nI 105) 575 rfl dX10_init_573 (by decide) ?_
  refine wp_bipush (nI 102) 577 rfl dX10_init_575 (by decide) ?_
  refine wp_iconst (nI 0) 578 rfl dX10_init_577 (by decide) ?_
  refine wp_iconst (nI 0) 579 rfl dX10_init_578 (by decide) ?_
  refine wp_iconst (nI 0) 580 rfl dX10_init_579 (by decide) ?_
  refine wp_iconst (nI 0) 581 rfl dX10_init_580 (by decide) ?_
  refine wp_iconst (nI 0) 582 rfl dX10_init_581 (by decide) ?_
  refine wp_Se7 585 rfl dX10_init_582 kX10_word lX10_156 (nl rfl) (nl rfl) (s_word 105 102 0 0 0 0 0 (by decide) (by decide) (by decide) (by decide) (by decide) (by decide) (by decide)) ?_
  refine wp_key 586 rfl dX10_init_585 hm2 (by decide) hk (by decide) ?_
  clear hm2 hk
  intro ρ2 hm2 hk
  refine wp_aload0 587 rfl dX10_init_586 ?_
  refine wp_getr 590 rfl dX10_init_587 fX10_34_10 (md_M hm2) (mp_keys hm2) ?_
  refine wp_bipush (nI 10) 592 rfl dX10_init_590 (by decide) ?_
  refine wp_bipush (nI 116) 594 rfl dX10_init_592 (by decide) ?_
  refine wp_bipush (nI 104) 596 rfl dX10_init_594 (by decide) ?_
  refine wp_bipush (nI 101) 598 rfl dX10_init_596 (by decide) ?_
  refine wp_bipush (nI 110) 600 rfl dX10_init_598 (by decide) ?_
  refine wp_iconst (nI 0) 601 rfl dX10_init_600 (by decide) ?_
  refine wp_iconst (nI 0) 602 rfl dX10_init_601 (by decide) ?_
  refine wp_iconst (nI 0) 603 rfl dX10_init_602 (by decide) ?_
  refine wp_Se7 606 rfl dX10_init_603 kX10_word lX10_156 (nl rfl) (nl rfl) (s_word 116 104 101 110 0 0 0 (by decide) (by decide) (by decide) (by decide) (by decide) (by decide) (by decide)) ?_
  refine wp_key 607 rfl dX10_init_606 hm2 (by decide) hk (by decide) ?_
  clear hm2 hk
  intro ρ2 hm2 hk
  refine wp_aload0 608 rfl dX10_init_607 ?_
  refine wp_getr 611 rfl dX10_init_608 fX10_34_10 (md_M hm2) (mp_keys hm2) ?_
  refine wp_bipush (nI 11) 613 rfl dX10_init_611 (by decide) ?_
  refine wp_bipush (nI 101) 615 rfl dX10_init_613 (by decide) ?_
  refine wp_bipush (nI 108) 617 rfl dX10_init_615 (by decide) ?_
  refine wp_bipush (nI 115) 619 rfl dX10_init_617 (by decide) ?_
  refine wp_bipush (nI 101) 621 rfl dX10_init_619 (by decide) ?_
  refine wp_iconst (nI 0) 622 rfl dX10_init_621 (by decide) ?_
  refine wp_iconst (nI 0) 623 rfl dX10_init_622 (by decide) ?_
  refine wp_iconst (nI 0) 624 rfl dX10_init_623 (by decide) ?_
  refine wp_Se7 627 rfl dX10_init_624 kX10_word lX10_156 (nl rfl) (nl rfl) (s_word 101 108 115 101 0 0 0 (by decide) (by decide) (by decide) (by decide) (by decide) (by decide) (by decide)) ?_
  refine wp_key 628 rfl dX10_init_627 hm2 (by decide) hk (by decide) ?_
  clear hm2 hk
  intro ρ2 hm2 hk
  refine wp_aload0 629 rfl dX10_init_628 ?_
  refine wp_getr 632 rfl dX10_init_629 fX10_34_10 (md_M hm2) (mp_keys hm2) ?_
  refine wp_bipush (nI 12) 634 rfl dX10_init_632 (by decide) ?_
  refine wp_bipush (nI 97) 636 rfl dX10_init_634 (by decide) ?_
  refine wp_bipush (nI 112) 638 rfl dX10_init_636 (by decide) ?_
  refine wp_bipush (nI 97) 640 rfl dX10_init_638 (by decide) ?_
  refine wp_bipush (nI 114) 642 rfl dX10_init_640 (by decide) ?_
  refine wp_bipush (nI 116) 644 rfl dX10_init_642 (by decide) ?_
  refine wp_iconst (nI 0) 645 rfl dX10_init_644 (by decide) ?_
  refine wp_iconst (nI 0) 646 rfl dX10_init_645 (by decide) ?_
  refine wp_Se7 649 rfl dX10_init_646 kX10_word lX10_156 (nl rfl) (nl rfl) (s_word 97 112 97 114 116 0 0 (by decide) (by decide) (by decide) (by decide) (by decide) (by decide) (by decide)) ?_
  refine wp_key 650 rfl dX10_init_649 hm2 (by decide) hk (by decide) ?_
  clear hm2 hk
  intro ρ2 hm2 hk
  refine wp_aload0 651 rfl dX10_init_650 ?_
  refine wp_getr 654 rfl dX10_init_651 fX10_34_10 (md_M hm2) (mp_keys hm2) ?_
  refine wp_bipush (nI 13) 656 rfl dX10_init_654 (by decide) ?_
  refine wp_bipush (nI 112) 658 rfl dX10_init_656 (by decide) ?_
  refine wp_bipush (nI 97) 660 rfl dX10_init_658 (by decide) ?_
  refine wp_bipush (nI 114) 662 rfl dX10_init_660 (by decide) ?_
  refine wp_bipush (nI 116) 664 rfl dX10_init_662 (by decide) ?_
  refine wp_iconst (nI 0) 665 rfl dX10_init_664 (by decide) ?_
  refine wp_iconst (nI 0) 666 rfl dX10_init_665 (by decide) ?_
  refine wp_iconst (nI 0) 667 rfl dX10_init_666 (by decide) ?_
  refine wp_Se7 670 rfl dX10_init_667 kX10_word lX10_156 (nl rfl) (nl rfl) (s_word 112 97 114 116 0 0 0 (by decide) (by decide) (by decide) (by decide) (by decide) (by decide) (by decide)) ?_
  refine wp_key 671 rfl dX10_init_670 hm2 (by decide) hk (by decide) ?_
  clear hm2 hk
  intro ρ2 hm2 hk
  refine wp_aload0 672 rfl dX10_init_671 ?_
  refine wp_getr 675 rfl dX10_init_672 fX10_34_10 (md_M hm2) (mp_keys hm2) ?_
  refine wp_bipush (nI 14) 677 rfl dX10_init_675 (by decide) ?_
  refine wp_bipush (nI 108) 679 rfl dX10_init_677 (by decide) ?_
  refine wp_bipush (nI 105) 681 rfl dX10_init_679 (by decide) ?_
  refine wp_bipush (nI 102) 683 rfl dX10_init_681 (by decide) ?_
  refine wp_bipush (nI 116) 685 rfl dX10_init_683 (by decide) ?_
  refine wp_bipush (nI 115) 687 rfl dX10_init_685 (by decide) ?_
  refine wp_iconst (nI 0) 688 rfl dX10_init_687 (by decide) ?_
  refine wp_iconst (nI 0) 689 rfl dX10_init_688 (by decide) ?_
  refine wp_Se7 692 rfl dX10_init_689 kX10_word lX10_156 (nl rfl) (nl rfl) (s_word 108 105 102 116 115 0 0 (by decide) (by decide) (by decide) (by decide) (by decide) (by decide) (by decide)) ?_
  refine wp_key 693 rfl dX10_init_692 hm2 (by decide) hk (by decide) ?_
  clear hm2 hk
  intro ρ2 hm2 hk
  refine wp_aload0 694 rfl dX10_init_693 ?_
  refine wp_getr 697 rfl dX10_init_694 fX10_34_10 (md_M hm2) (mp_keys hm2) ?_
  refine wp_bipush (nI 15) 699 rfl dX10_init_697 (by decide) ?_
  refine wp_bipush (nI 105) 701 rfl dX10_init_699 (by decide) ?_
  refine wp_bipush (nI 100) 703 rfl dX10_init_701 (by decide) ?_
  refine wp_bipush (nI 108) 705 rfl dX10_init_703 (by decide) ?_
  refine wp_bipush (nI 101) 707 rfl dX10_init_705 (by decide) ?_
  refine wp_iconst (nI 0) 708 rfl dX10_init_707 (by decide) ?_
  refine wp_iconst (nI 0) 709 rfl dX10_init_708 (by decide) ?_
  refine wp_iconst (nI 0) 710 rfl dX10_init_709 (by decide) ?_
  refine wp_Se7 713 rfl dX10_init_710 kX10_word lX10_156 (nl rfl) (nl rfl) (s_word 105 100 108 101 0 0 0 (by decide) (by decide) (by decide) (by decide) (by decide) (by decide) (by decide)) ?_
  refine wp_key 714 rfl dX10_init_713 hm2 (by decide) hk (by decide) ?_
  clear hm2 hk
  intro ρ2 hm2 hk
  refine wp_aload0 715 rfl dX10_init_714 ?_
  refine wp_getr 718 rfl dX10_init_715 fX10_34_10 (md_M hm2) (mp_keys hm2) ?_
  refine wp_bipush (nI 16) 720 rfl dX10_init_718 (by decide) ?_
  refine wp_bipush (nI 100) 722 rfl dX10_init_720 (by decide) ?_
  refine wp_bipush (nI 97) 724 rfl dX10_init_722 (by decide) ?_
  refine wp_bipush (nI 121) 726 rfl dX10_init_724 (by decide) ?_
  refine wp_iconst (nI 0) 727 rfl dX10_init_726 (by decide) ?_
  refine wp_iconst (nI 0) 728 rfl dX10_init_727 (by decide) ?_
  refine wp_iconst (nI 0) 729 rfl dX10_init_728 (by decide) ?_
  refine wp_iconst (nI 0) 730 rfl dX10_init_729 (by decide) ?_
  refine wp_Se7 733 rfl dX10_init_730 kX10_word lX10_156 (nl rfl) (nl rfl) (s_word 100 97 121 0 0 0 0 (by decide) (by decide) (by decide) (by decide) (by decide) (by decide) (by decide)) ?_
  refine wp_key 734 rfl dX10_init_733 hm2 (by decide) hk (by decide) ?_
  clear hm2 hk
  intro ρ2 hm2 hk
  refine wp_aload0 735 rfl dX10_init_734 ?_
  refine wp_getr 738 rfl dX10_init_735 fX10_34_10 (md_M hm2) (mp_keys hm2) ?_
  refine wp_bipush (nI 17) 740 rfl dX10_init_738 (by decide) ?_
  refine wp_bipush (nI 102) 742 rfl dX10_init_740 (by decide) ?_
  refine wp_bipush (nI 97) 744 rfl dX10_init_742 (by decide) ?_
  refine wp_bipush (nI 99) 746 rfl dX10_init_744 (by decide) ?_
  refine wp_bipush (nI 101) 748 rfl dX10_init_746 (by decide) ?_
  refine wp_iconst (nI 0) 749 rfl dX10_init_748 (by decide) ?_
  refine wp_iconst (nI 0) 750 rfl dX10_init_749 (by decide) ?_
  refine wp_iconst (nI 0) 751 rfl dX10_init_750 (by decide) ?_
  refine wp_Se7 754 rfl dX10_init_751 kX10_word lX10_156 (nl rfl) (nl rfl) (s_word 102 97 99 101 0 0 0 (by decide) (by decide) (by decide) (by decide) (by decide) (by decide) (by decide)) ?_
  refine wp_key 755 rfl dX10_init_754 hm2 (by decide) hk (by decide) ?_
  clear hm2 hk
  intro ρ2 hm2 hk
  refine wp_aload0 756 rfl dX10_init_755 ?_
  refine wp_getr 759 rfl dX10_init_756 fX10_34_10 (md_M hm2) (mp_keys hm2) ?_
  refine wp_bipush (nI 18) 761 rfl dX10_init_759 (by decide) ?_
  refine wp_bipush (nI 117) 763 rfl dX10_init_761 (by decide) ?_
  refine wp_bipush (nI 110) 765 rfl dX10_init_763 (by decide) ?_
  refine wp_bipush (nI 108) 767 rfl dX10_init_765 (by decide) ?_
  refine wp_bipush (nI 105) 769 rfl dX10_init_767 (by decide) ?_
  refine wp_bipush (nI 107) 771 rfl dX10_init_769 (by decide) ?_
  refine wp_bipush (nI 101) 773 rfl dX10_init_771 (by decide) ?_
  refine wp_iconst (nI 0) 774 rfl dX10_init_773 (by decide) ?_
  refine wp_Se7 777 rfl dX10_init_774 kX10_word lX10_156 (nl rfl) (nl rfl) (s_word 117 110 108 105 107 101 0 (by decide) (by decide) (by decide) (by decide) (by decide) (by decide) (by decide)) ?_
  refine wp_key 778 rfl dX10_init_777 hm2 (by decide) hk (by decide) ?_
  clear hm2 hk
  intro ρ2 hm2 hk
  refine wp_aload0 779 rfl dX10_init_778 ?_
  refine wp_getr 782 rfl dX10_init_779 fX10_34_10 (md_M hm2) (mp_keys hm2) ?_
  refine wp_bipush (nI 19) 784 rfl dX10_init_782 (by decide) ?_
  refine wp_bipush (nI 119) 786 rfl dX10_init_784 (by decide) ?_
  refine wp_bipush (nI 104) 788 rfl dX10_init_786 (by decide) ?_
  refine wp_bipush (nI 105) 790 rfl dX10_init_788 (by decide) ?_
  refine wp_bipush (nI 99) 792 rfl dX10_init_790 (by decide) ?_
  refine wp_bipush (nI 104) 794 rfl dX10_init_792 (by decide) ?_
  refine wp_iconst (nI 0) 795 rfl dX10_init_794 (by decide) ?_
  refine wp_iconst (nI 0) 796 rfl dX10_init_795 (by decide) ?_
  refine wp_Se7 799 rfl dX10_init_796 kX10_word lX10_156 (nl rfl) (nl rfl) (s_word 119 104 105 99 104 0 0 (by decide) (by decide) (by decide) (by decide) (by decide) (by decide) (by decide)) ?_
  refine wp_key 800 rfl dX10_init_799 hm2 (by decide) hk (by decide) ?_
  clear hm2 hk
  intro ρ2 hm2 hk
  refine wp_aload0 801 rfl dX10_init_800 ?_
  refine wp_getr 804 rfl dX10_init_801 fX10_34_10 (md_M hm2) (mp_keys hm2) ?_
  refine wp_bipush (nI 20) 806 rfl dX10_init_804 (by decide) ?_
  refine wp_bipush (nI 114) 808 rfl dX10_init_806 (by decide) ?_
  refine wp_bipush (nI 117) 810 rfl dX10_init_808 (by decide) ?_
  refine wp_bipush (nI 98) 812 rfl dX10_init_810 (by decide) ?_
  refine wp_bipush (nI 98) 814 rfl dX10_init_812 (by decide) ?_
  refine wp_bipush (nI 101) 816 rfl dX10_init_814 (by decide) ?_
  refine wp_bipush (nI 100) 818 rfl dX10_init_816 (by decide) ?_
  refine wp_iconst (nI 0) 819 rfl dX10_init_818 (by decide) ?_
  refine wp_Se7 822 rfl dX10_init_819 kX10_word lX10_156 (nl rfl) (nl rfl) (s_word 114 117 98 98 101 100 0 (by decide) (by decide) (by decide) (by decide) (by decide) (by decide) (by decide)) ?_
  refine wp_key 823 rfl dX10_init_822 hm2 (by decide) hk (by decide) ?_
  clear hm2 hk
  intro ρ2 hm2 hk
  have fz : mf plA [] K J2 := f1.tr f2
  have hkf := hk.1
  have hy : mKy ρ2 := hk.2
  have z2 : ∀ e ∈ md_L, e.2.1 ∉ plA → J2 e.2.1 = fun _ => 0 := fun e he hn => by
    have nM : ∀ e ∈ md_L, e.2.1 ≠ mM := by decide
    rw [fz.1 _ hn (nM e he)]
    exact hz e he
  have hf0 : ∀ f, ¬ f = 17 → J2 mM f = nI 0 := fun f hf => by
    rw [fz.2 f List.not_mem_nil, hKM, pk_un hf]
    rfl
  have h17 : J2 mM 17 = -1 := by rw [fz.2 17 List.not_mem_nil, hKM, pk_us]
  have hT : mT J2 0 x_0 := by
    obtain ⟨a1, a2, a3, a4, a5, a6⟩ := u2 0 (by decide)
    refine ⟨⟨hf0 18 (by decide), by decide⟩, ⟨a1.trans q1.1, a2.trans q1.2.1, a3.trans q1.2.2.1⟩, fun j hj => ?_, fun j hj => ?_, fun r hr => ?_, ⟨a4.trans q1.2.2.2.1, a5.trans q1.2.2.2.2.1, a6.trans q1.2.2.2.2.2⟩, fun k hk => ?_⟩
    · have hj : j < 4 * 0 := hj
      omega
    · have hj : j < 4 * 0 := hj
      omega
    · have hr : r < 0 := hr
      omega
    · show J2 m_lawFirst (3 * 0 + k) = J2 m_lawLast (3 * 0 + k)
      rw [(u4 (3 * 0 + k) (by omega)).1, (u4 (3 * 0 + k) (by omega)).2, (q3 k hk).1, (q3 k hk).2]
  have zrow : J2 m_row = fun _ => 0 := z2 (52, m_row, 100, 70) (by decide) (by decide)
  have znow : J2 m_now = fun _ => 0 := z2 (51, m_now, 100, 70) (by decide) (by decide)
  have w0 : w70 (J2 m_row) := fun j _ => by rw [zrow]; rfl
  have wb : w70 (r_beg x_0) := fun j hj => by
    show (if j < 4 * 0 then tx_ff x_0 j else if 54 ≤ j ∧ j < 54 + 0 then nI 1 else nI 0) = nI 0
    rw [if_neg (by omega), if_neg (by omega)]
  refine wp_aload0 824 rfl dX10_init_823 ?_
  refine wp_Vv0 827 rfl dX10_init_824 kX10_begins lX10_160 (md_M hm2) (nl rfl) (nl rfl) (s_begins hm2 0 x_0 hT tok_0 w0) (fun J3 ρx2 ⟨ex, f3, hrow⟩ => ?_)
  have ex := ex.symm
  subst ex
  refine wp_aload0 828 rfl dX10_init_827 ?_
  refine wp_Ve0 831 rfl dX10_init_828 kX10_keepsRow lX10_163 (md_M hm2) (nl rfl) (nl rfl) (s_keepsRow hm2) ?_
  refine wp_vret dX10_init_831 rfl ?_
  have f4 : mf [m_now] [] J3 (sm_a J3 m_now (z_cpy (J3 m_row) (J3 m_now) 70)) := mf.a (by decide) (by decide)
  obtain ⟨J4, hJ4⟩ : ∃ J4, J4 = sm_a J3 m_now (z_cpy (J3 m_row) (J3 m_now) 70) := ⟨_, rfl⟩
  rw [← hJ4] at f4 ⊢
  have hnow : J4 m_now = r_beg x_0 := by
    rw [hJ4, sm_a_eq, hrow]
    refine w70_cpy wb (fun j hj => ?_)
    rw [f3.1 m_now (by decide) (by decide), znow]
    rfl
  have hrow4 : J4 m_row = r_beg x_0 := by rw [f4.1 m_row (by decide) (by decide), hrow]
  have hz4 : ∀ e ∈ md_L, e.2.1 ∉ plA → e.2.1 ≠ m_now → e.2.1 ≠ m_row → J4 e.2.1 = fun _ => 0 := fun e he hn h1 h2 => by
    have nM : ∀ e ∈ md_L, e.2.1 ≠ mM := by decide
    rw [f4.1 _ (by simpa using h1) (nM e he), f3.1 _ (by simpa using h2) (nM e he)]
    exact z2 e he hn
  have hf4 : ∀ f, ¬ f = 17 → ¬ f = 53 → ¬ f = 54 → J4 mM f = nI 0 := fun f h1 h2 h3 => by
    rw [f4.2 f List.not_mem_nil, f3.2 f (by
      intro q
      have : f = 53 ∨ f = 54 := by simpa using q
      omega)]
    exact hf0 f h1
  have hp : J4 mM 17 = -1 := by rw [f4.2 17 List.not_mem_nil, f3.2 17 (by decide)]; exact h17
  refine ⟨rfl, ⟨by rw [hkf.1]; exact hc1, by rw [hkf.1]; exact hc2⟩, hm2, hy, ⟨⟨(hT.kept f3 (by decide) (by decide)).kept f4 (by decide) (by decide), tok_0, hnow, wb, by rw [hrow4]; exact wb⟩, ⟨hf4 56 (by decide) (by decide) (by decide), Nat.zero_le _, fun i r h => by cases h⟩, ⟨hf4 60 (by decide) (by decide) (by decide), Nat.zero_le _, fun i a b v h => by cases h⟩, fun q hq => ⟨fun _ => ?_, fun r h => by cases h⟩, ⟨hf4 2 (by decide) (by decide) (by decide), Nat.zero_le _, fun j hj => absurd hj (Nat.not_lt_zero _)⟩, hp⟩, fun a ha => ?_⟩
  · rw [hz4 (64, m_isHeld, 103, 3) (by decide) (by decide) (by decide) (by decide)]
    rfl
  · obtain ⟨k1, k2, k3, k4⟩ := hfr a (by omega) (by show a ≠ 898; omega)
    have nA : ∀ b ∈ plA ++ [m_row, m_now], 898 < b := by decide
    have n1 : a ∉ plA := fun q => by have := nA a (List.mem_append_left _ q); omega
    have n2 : a ∉ [m_row] := fun q => by
      have e : a = m_row := by simpa using q
      rw [e] at ha
      exact absurd ha (by decide)
    have n3 : a ∉ [m_now] := fun q => by
      have e : a = m_now := by simpa using q
      rw [e] at ha
      exact absurd ha (by decide)
    have nk : a ∉ [m_keys] := fun q => by
      have e : a = m_keys := by simpa using q
      rw [e] at ha
      exact absurd ha (by decide)
    have nM : a ≠ mM := by show a ≠ 898; omega
    refine ⟨?_, (hkf.2 a nk).trans k2, ?_, ?_⟩
    · rw [f4.1 a n3 nM, f3.1 a n2 nM, fz.1 a n1 nM]
      exact k1
    · rw [show ρ2.2.1 = ρ1.2.1 by rw [hkf.1]]
      exact k3
    · rw [show ρ2.2.2.1 = ρ1.2.2.1 by rw [hkf.1]]
      exact k4
end M53
