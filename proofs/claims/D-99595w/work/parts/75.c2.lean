/-! ===== the JDK: lists that are read, signum, bitCount ===== -/
set_option maxRecDepth 100000
section C2
variable {G : sm_G} {d : Nat} {I : sm_I} {ρ : sm_R}
section C2a
variable {X : sm_X} {pc : Nat} {lv st : List Value} {Q : sm_O → sm_I → sm_R → Prop}
theorem wp_anull0 {r : List Value} (n : Nat) (hn : pc + 1 = n) (hd : decode X.2.1 pc = .ok (.aload_n 0, 1)) (k : sm_V G X d n (.null :: r) (.null :: st) I ρ Q) : sm_V G X d pc (.null :: r) st I ρ Q := wp_aloadN_nG (i := 0) rfl n hn hd rfl k
theorem wp_anull1 {a0 : Value} {r : List Value} (n : Nat) (hn : pc + 1 = n) (hd : decode X.2.1 pc = .ok (.aload_n 1, 1)) (k : sm_V G X d n (a0 :: .null :: r) (.null :: st) I ρ Q) : sm_V G X d pc (a0 :: .null :: r) st I ρ Q := wp_aloadN_nG (i := 1) rfl n hn hd rfl k
theorem wp_anull2 {a0 a1 : Value} {r : List Value} (n : Nat) (hn : pc + 1 = n) (hd : decode X.2.1 pc = .ok (.aload_n 2, 1)) (k : sm_V G X d n (a0 :: a1 :: .null :: r) (.null :: st) I ρ Q) : sm_V G X d pc (a0 :: a1 :: .null :: r) st I ρ Q := wp_aloadN_nG (i := 2) rfl n hn hd rfl k
end C2a
theorem s_size {l n : Nat} {f : Nat → Nat} (h : cLs I ρ l n f) : sm_M G xJ5_size d [.ref l] I ρ (sm_Qe (some (.int (nI n))) I ρ) := by
  show sm_V G xJ5_size d 0 [.ref l] [] I ρ _
  refine wp_aload0 1 rfl dJ5_size_0 ?_
  refine wp_geti 4 rfl dJ5_size_1 fJ5_48_18 (o18 h) ?_
  refine wp_iret dJ5_size_4 rfl ?_
  exact sm_ei h.2.1
theorem s_pci (i n : Nat) (hi : i < n) (hn : n < 1000000) (v : Value) (hv : v = .null ∨ ∃ k, v = .ref k) : sm_M G xJ7_checkIndex d [.int (nI i), .int (nI n), v] I ρ (sm_Qe (some (.int (nI i))) I ρ) := by
  have e : sm_en 3 [.int (nI i), .int (nI n), v] = [.int (nI i), .int (nI n), v] := by
    rcases hv with e | ⟨k, e⟩
    · subst e; rfl
    · subst e; rfl
  show sm_V G xJ7_checkIndex d 0 (sm_en 3 [.int (nI i), .int (nI n), v]) [] I ρ _
  rw [e]
  refine wp_iload0 1 rfl dJ7_checkIndex_0 ?_
  refine wp_if_lt 4 9 rfl rfl dJ7_checkIndex_1 (fun c1 => absurd c1 (nI_pos (by omega))) (fun c1 => ?_)
  refine wp_iload0 5 rfl dJ7_checkIndex_4 ?_
  refine wp_iload1 6 rfl dJ7_checkIndex_5 ?_
  refine wp_icmp_lt 9 16 rfl rfl dJ7_checkIndex_6 (fun c6 => ?_) (fun c6 => absurd (nI_lt hi (by omega)) c6)
  refine wp_iload0 17 rfl dJ7_checkIndex_16 ?_
  refine wp_iret dJ7_checkIndex_17 rfl ?_
  exact sm_ei rfl
theorem s_oci (i n : Nat) (hi : i < n) (hn : n < 1000000) : sm_M G xJ6_checkIndex (d + 1) [.int (nI i), .int (nI n)] I ρ (sm_Qe (some (.int (nI i))) I ρ) := by
  show sm_V G xJ6_checkIndex (d + 1) 0 [.int (nI i), .int (nI n)] [] I ρ _
  refine wp_iload0 1 rfl dJ6_checkIndex_0 ?_
  refine wp_iload1 2 rfl dJ6_checkIndex_1 ?_
  refine wp_null 3 rfl dJ6_checkIndex_2 ?_
  refine wp_Se3 6 rfl dJ6_checkIndex_3 kJ7_checkIndex lJ6_105 (nl rfl) (nl rfl) (s_pci i n hi hn .null (Or.inl rfl)) ?_
  refine wp_iret dJ6_checkIndex_6 rfl ?_
  exact sm_ei rfl
theorem s_elem {l n : Nat} {f : Nat → Nat} (h : cLs I ρ l n f) {i : Nat} (hi : i < n) : sm_M G xJ5_elementData d [.ref l, .int (nI i)] I ρ (sm_Qe (some (.ref (f i))) I ρ) := by
  show sm_V G xJ5_elementData d 0 [.ref l, .int (nI i)] [] I ρ _
  obtain ⟨h1, h2, e, m, h3, h4, h5, h6⟩ := h
  have hs : ρ.2.2.1 e = (105, 10) := by
    rcases h4 with h4 | h4
    · omega
    · rw [h4.1, h4.2]
  refine wp_aload0 1 rfl dJ5_elementData_0 ?_
  refine wp_getr 4 rfl dJ5_elementData_1 fJ5_9_18 (h1.1) (h3) ?_
  refine wp_iload1 5 rfl dJ5_elementData_4 ?_
  refine wp_aald (t := 5) 6 rfl dJ5_elementData_5 (by decide) rfl rfl (hs) (i) (rfl) (⟨by omega, by decide⟩) (h6 i hi) ?_
  refine wp_aret dJ5_elementData_6 rfl (Or.inl ⟨_, rfl⟩) ?_
  exact ⟨rfl, rfl, rfl⟩
theorem s_get {l n : Nat} {f : Nat → Nat} (h : cLs I ρ l n f) {i : Nat} (hi : i < n) : sm_M G xJ5_get (d + 2) [.ref l, .int (nI i)] I ρ (sm_Qe (some (.ref (f i))) I ρ) := by
  show sm_V G xJ5_get (d + 2) 0 [.ref l, .int (nI i)] [] I ρ _
  have hn : n ≤ 10 := h.2.2.choose_spec.choose_spec.2.2.1
  refine wp_iload1 1 rfl dJ5_get_0 ?_
  refine wp_aload0 2 rfl dJ5_get_1 ?_
  refine wp_geti 5 rfl dJ5_get_2 fJ5_48_18 (o18 h) ?_
  rw [h.2.1]
  refine wp_Se2 8 rfl dJ5_get_5 kJ6_checkIndex lJ5_118 (nl rfl) (nl rfl) (s_oci i n hi (by omega)) ?_
  refine wp_pop 9 rfl dJ5_get_8 rfl ?_
  refine wp_aload0 10 rfl dJ5_get_9 ?_
  refine wp_iload1 11 rfl dJ5_get_10 ?_
  refine wp_Ve1 14 rfl dJ5_get_11 kJ5_elementData lJ5_123 (o18 h) (nl rfl) (nl rfl) (s_elem h hi) ?_
  refine wp_aret dJ5_get_14 rfl (Or.inl ⟨_, rfl⟩) ?_
  exact ⟨rfl, rfl, rfl⟩
theorem s_signum (x : Int32) : sm_M G xJ16_signum d [.int x] I ρ (sm_Qe (some (.int (z_sgn x))) I ρ) := by
  show sm_V G xJ16_signum d 0 [.int x] [] I ρ _
  refine wp_iload0 1 rfl dJ16_signum_0 ?_
  refine wp_bipush (nI 31) 3 rfl dJ16_signum_1 (by decide) ?_
  refine wp_ishr 4 rfl dJ16_signum_3 ?_
  refine wp_iload0 5 rfl dJ16_signum_4 ?_
  refine wp_ineg 6 rfl dJ16_signum_5 ?_
  refine wp_bipush (nI 31) 8 rfl dJ16_signum_6 (by decide) ?_
  refine wp_iushr 9 rfl dJ16_signum_8 ?_
  refine wp_ior 10 rfl dJ16_signum_9 ?_
  refine wp_iret dJ16_signum_10 rfl ?_
  exact sm_ei rfl
theorem s_bitCount (x : Int32) : sm_M G xJ16_bitCount d [.int x] I ρ (sm_Qe (some (.int (z_bct x))) I ρ) := by
  show sm_V G xJ16_bitCount d 0 [.int x] [] I ρ _
  refine wp_iload0 1 rfl dJ16_bitCount_0 ?_
  refine wp_iload0 2 rfl dJ16_bitCount_1 ?_
  refine wp_iconst (nI 1) 3 rfl dJ16_bitCount_2 (by decide) ?_
  refine wp_iushr 4 rfl dJ16_bitCount_3 ?_
  refine wp_ldcw 7 rfl dJ16_bitCount_4 q1463 ?_
  refine wp_iand 8 rfl dJ16_bitCount_7 ?_
  refine wp_isub 9 rfl dJ16_bitCount_8 ?_
  refine wp_istore0 10 rfl dJ16_bitCount_9 (by decide) ?_
  refine wp_iload0 11 rfl dJ16_bitCount_10 ?_
  refine wp_ldcw 14 rfl dJ16_bitCount_11 q1464 ?_
  refine wp_iand 15 rfl dJ16_bitCount_14 ?_
  refine wp_iload0 16 rfl dJ16_bitCount_15 ?_
  refine wp_iconst (nI 2) 17 rfl dJ16_bitCount_16 (by decide) ?_
  refine wp_iushr 18 rfl dJ16_bitCount_17 ?_
  refine wp_ldcw 21 rfl dJ16_bitCount_18 q1464 ?_
  refine wp_iand 22 rfl dJ16_bitCount_21 ?_
  refine wp_iadd 23 rfl dJ16_bitCount_22 ?_
  refine wp_istore0 24 rfl dJ16_bitCount_23 (by decide) ?_
  refine wp_iload0 25 rfl dJ16_bitCount_24 ?_
  refine wp_iload0 26 rfl dJ16_bitCount_25 ?_
  refine wp_iconst (nI 4) 27 rfl dJ16_bitCount_26 (by decide) ?_
  refine wp_iushr 28 rfl dJ16_bitCount_27 ?_
  refine wp_iadd 29 rfl dJ16_bitCount_28 ?_
  refine wp_ldcw 32 rfl dJ16_bitCount_29 q1465 ?_
  refine wp_iand 33 rfl dJ16_bitCount_32 ?_
  refine wp_istore0 34 rfl dJ16_bitCount_33 (by decide) ?_
  refine wp_iload0 35 rfl dJ16_bitCount_34 ?_
  refine wp_iload0 36 rfl dJ16_bitCount_35 ?_
  refine wp_bipush (nI 8) 38 rfl dJ16_bitCount_36 (by decide) ?_
  refine wp_iushr 39 rfl dJ16_bitCount_38 ?_
  refine wp_iadd 40 rfl dJ16_bitCount_39 ?_
  refine wp_istore0 41 rfl dJ16_bitCount_40 (by decide) ?_
  refine wp_iload0 42 rfl dJ16_bitCount_41 ?_
  refine wp_iload0 43 rfl dJ16_bitCount_42 ?_
  refine wp_bipush (nI 16) 45 rfl dJ16_bitCount_43 (by decide) ?_
  refine wp_iushr 46 rfl dJ16_bitCount_45 ?_
  refine wp_iadd 47 rfl dJ16_bitCount_46 ?_
  refine wp_istore0 48 rfl dJ16_bitCount_47 (by decide) ?_
  refine wp_iload0 49 rfl dJ16_bitCount_48 ?_
  refine wp_bipush (nI 63) 51 rfl dJ16_bitCount_49 (by decide) ?_
  refine wp_iand 52 rfl dJ16_bitCount_51 ?_
  refine wp_iret dJ16_bitCount_52 rfl ?_
  exact sm_ei rfl
end C2
