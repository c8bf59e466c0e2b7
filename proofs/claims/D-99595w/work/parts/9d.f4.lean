/-! ===== the words: length, charAt ===== -/
set_option maxRecDepth 100000
section F4
variable {G : sm_G} {d : Nat} {I : sm_I} {ρ : sm_R}
theorem s_kcoder {i : Nat} (hi : i < 22) : sm_M G xJ8_coder d [.ref i] I ρ (sm_Qe (some (.int (nI 0))) I ρ) := by
  show sm_V G xJ8_coder d 0 [.ref i] [] I ρ _
  refine wp_gets (v := .int 1) 3 rfl dJ8_coder_0 q624 (fun s h => h.2.2.1) ?_
  refine wp_if_eq 6 13 rfl rfl dJ8_coder_3 (fun c3 => absurd c3 (by decide)) (fun c3 => ?_)
  refine wp_aload0 7 rfl dJ8_coder_6 ?_
  refine wp_ccoder 10 rfl dJ8_coder_7 (by decide) hi ?_
  refine wp_goto 14 rfl dJ8_coder_10 ?_
  refine wp_zret dJ8_coder_14 rfl (rfl) ?_
  exact sm_ei rfl
theorem s_klatin {i : Nat} (hi : i < 22) : sm_M G xJ8_isLatin1 d [.ref i] I ρ (sm_Qe (some (.int (nI 1))) I ρ) := by
  show sm_V G xJ8_isLatin1 d 0 [.ref i] [] I ρ _
  refine wp_gets (v := .int 1) 3 rfl dJ8_isLatin1_0 q624 (fun s h => h.2.2.1) ?_
  refine wp_if_eq 6 17 rfl rfl dJ8_isLatin1_3 (fun c3 => absurd c3 (by decide)) (fun c3 => ?_)
  refine wp_aload0 7 rfl dJ8_isLatin1_6 ?_
  refine wp_ccoder 10 rfl dJ8_isLatin1_7 (by decide) hi ?_
  refine wp_if_ne 13 17 rfl rfl dJ8_isLatin1_10 (fun c10 => absurd (rfl) c10) (fun c10 => ?_)
  refine wp_iconst (nI 1) 14 rfl dJ8_isLatin1_13 (by decide) ?_
  refine wp_goto 18 rfl dJ8_isLatin1_14 ?_
  refine wp_zret dJ8_isLatin1_18 rfl (rfl) ?_
  exact sm_ei rfl
theorem s_klen {i : Nat} (hi : i < 22) : sm_M G xJ8_length (d + 1) [.ref i] I ρ (sm_Qe (some (.int (nI (sm_len.getD i 0)))) I ρ) := by
  show sm_V G xJ8_length (d + 1) 0 [.ref i] [] I ρ _
  have e : ∀ k : Fin 22, nI (sm_len.getD k.val 0) >>> (nI 0 &&& 31) = nI (sm_len.getD k.val 0) := by decide +kernel
  refine wp_aload0 1 rfl dJ8_length_0 ?_
  refine wp_cvalue 4 rfl dJ8_length_1 (by decide) hi ?_
  refine wp_clen 5 rfl dJ8_length_4 hi ?_
  refine wp_aload0 6 rfl dJ8_length_5 ?_
  refine wp_VCe0 9 rfl dJ8_length_6 kJ8_coder lJ8_335 (hi) (nl rfl) (nl rfl) (s_kcoder hi) ?_
  refine wp_ishr 10 rfl dJ8_length_9 ?_
  refine wp_iret dJ8_length_10 rfl ?_
  exact sm_ei (e ⟨i, hi⟩)
theorem s_kchk {j n : Nat} (hj : j < n) (hn : n < 1000000) : sm_M G xJ8_checkIndex (d + 1) [.int (nI j), .int (nI n)] I ρ (sm_Qe none I ρ) := by
  show sm_V G xJ8_checkIndex (d + 1) 0 [.int (nI j), .int (nI n)] [] I ρ _
  refine wp_iload0 1 rfl dJ8_checkIndex_0 ?_
  refine wp_iload1 2 rfl dJ8_checkIndex_1 ?_
  refine wp_getsN (j := 47) 5 rfl dJ8_checkIndex_2 q640 (by decide) (fun s h => h.2.2.2.2.1.2.2) ?_ ?_
  · refine wp_Se3 8 rfl dJ8_checkIndex_5 kJ7_checkIndex lJ8_1059 (nl rfl) (nl rfl) (s_pci j n hj hn _ (Or.inl rfl)) ?_
    refine wp_pop 9 rfl dJ8_checkIndex_8 rfl ?_
    refine wp_vret dJ8_checkIndex_9 rfl ?_
    exact ⟨rfl, rfl, rfl⟩
  · refine wp_Se3 8 rfl dJ8_checkIndex_5 kJ7_checkIndex lJ8_1059 (nl rfl) (nl rfl) (s_pci j n hj hn _ (Or.inr ⟨_, rfl⟩)) ?_
    refine wp_pop 9 rfl dJ8_checkIndex_8 rfl ?_
    refine wp_vret dJ8_checkIndex_9 rfl ?_
    exact ⟨rfl, rfl, rfl⟩
/-- the letters of the words -/
def kch (i j : Nat) : Int32 := (sm_byt.getD i []).getD j 0
theorem s_kchar9 {i j : Nat} (hi : i < 22) (hj : j < sm_len.getD i 0) : sm_M G xJ9_charAt (d + 2) [.ref (22 + i), .int (nI j)] I ρ (sm_Qe (some (.int (kch i j))) I ρ) := by
  show sm_V G xJ9_charAt (d + 2) 0 [.ref (22 + i), .int (nI j)] [] I ρ _
  have h8 : ∀ k : Fin 22, sm_len.getD k.val 0 ≤ 8 := by decide +kernel
  have h8 : sm_len.getD i 0 ≤ 8 := h8 ⟨i, hi⟩
  have e : ∀ k : Fin 22, ∀ m : Fin 8, m.val < sm_len.getD k.val 0 → (kch k.val m.val &&& nI 255).toUInt32.toUInt16.toUInt32.toInt32 = kch k.val m.val := by decide +kernel
  have e3 : ∀ k : Fin 22, ∀ m : Fin 8, m.val < sm_len.getD k.val 0 → (kch k.val m.val).toUInt32.toUInt16.toUInt32.toInt32 = kch k.val m.val := by decide +kernel
  refine wp_iload1 1 rfl dJ9_charAt_0 ?_
  refine wp_aload0 2 rfl dJ9_charAt_1 ?_
  refine wp_clen 3 rfl dJ9_charAt_2 hi ?_
  refine wp_Se2 6 rfl dJ9_charAt_3 kJ8_checkIndex lJ9_9 (nl rfl) (nl rfl) (s_kchk hj (by omega)) ?_
  refine wp_aload0 7 rfl dJ9_charAt_6 ?_
  refine wp_iload1 8 rfl dJ9_charAt_7 ?_
  refine wp_cbald 9 rfl dJ9_charAt_8 hi rfl hj h8 ?_
  have e1 : (kch i j &&& nI 255).toUInt32.toUInt16.toUInt32.toInt32 = kch i j := e ⟨i, hi⟩ ⟨j, by omega⟩ hj
  refine wp_sipush (nI 255) 12 rfl dJ9_charAt_9 (by decide) ?_
  refine wp_iand 13 rfl dJ9_charAt_12 ?_
  refine wp_i2c 14 rfl dJ9_charAt_13 ?_
  show sm_V G xJ9_charAt (d + 2) 14 _ (.int (kch i j &&& nI 255).toUInt32.toUInt16.toUInt32.toInt32 :: _) I ρ _
  rw [e1]
  have e2 : narrow .char (.int (kch i j)) = .int (kch i j) := congrArg Value.int ((vp_nar_char (kch i j)).trans (e3 ⟨i, hi⟩ ⟨j, by omega⟩ hj))
  refine wp_zret dJ9_charAt_14 rfl (e2) ?_
  exact sm_ei rfl
theorem s_kcharAt {i j : Nat} (hi : i < 22) (hj : j < sm_len.getD i 0) : sm_M G xJ8_charAt (d + 3) [.ref i, .int (nI j)] I ρ (sm_Qe (some (.int (kch i j))) I ρ) := by
  show sm_V G xJ8_charAt (d + 3) 0 [.ref i, .int (nI j)] [] I ρ _
  have h8 : ∀ k : Fin 22, sm_len.getD k.val 0 ≤ 8 := by decide +kernel
  have h8 : sm_len.getD i 0 ≤ 8 := h8 ⟨i, hi⟩
  have e3 : ∀ k : Fin 22, ∀ m : Fin 8, m.val < sm_len.getD k.val 0 → (kch k.val m.val).toUInt32.toUInt16.toUInt32.toInt32 = kch k.val m.val := by decide +kernel
  have e2 : narrow .char (.int (kch i j)) = .int (kch i j) := congrArg Value.int ((vp_nar_char (kch i j)).trans (e3 ⟨i, hi⟩ ⟨j, by omega⟩ hj))
  refine wp_aload0 1 rfl dJ8_charAt_0 ?_
  refine wp_VCe0 4 rfl dJ8_charAt_1 kJ8_isLatin1 lJ8_492 (hi) (nl rfl) (nl rfl) (s_klatin hi) ?_
  refine wp_if_eq 7 16 rfl rfl dJ8_charAt_4 (fun c4 => absurd c4 (by decide)) (fun c4 => ?_)
  refine wp_aload0 8 rfl dJ8_charAt_7 ?_
  refine wp_cvalue 11 rfl dJ8_charAt_8 (by decide) hi ?_
  refine wp_iload1 12 rfl dJ8_charAt_11 ?_
  refine wp_Se2 15 rfl dJ8_charAt_12 kJ9_charAt lJ8_495 (nl rfl) (nl rfl) (s_kchar9 hi hj) ?_
  refine wp_zret dJ8_charAt_15 rfl (e2) ?_
  exact sm_ei rfl
end F4
