/-! ===== the law: the loop (printed by gen_law2.py) ===== -/
set_option maxRecDepth 100000
theorem z_and63 (x : Int32) : ∃ k, k < 64 ∧ x &&& nI 63 = nI k := by
  refine ⟨(x &&& nI 63).toBitVec.toNat, ?_, ?_⟩
  · rw [Int32.toBitVec_and, BitVec.toNat_and]
    exact Nat.lt_of_le_of_lt Nat.and_le_right (by decide)
  · generalize x &&& nI 63 = y
    apply Int32.toBitVec.inj
    show _ = BitVec.ofNat 32 y.toBitVec.toNat
    rw [BitVec.ofNat_toNat]
    simp
theorem z_lt6 : ∀ n : Fin 6, ∀ i : Fin 6, nI n.val - nI 6 < nI i.val := by decide +kernel
theorem z_t63 : ∀ k : Fin 64, (nI k.val).toInt = k.val := by decide +kernel
section LW2
variable {G : sm_G} {D : Nat} {Q : sm_O → sm_I → sm_R → Prop}
/-- how the law ends -/
def jQ (c s : Nat) : sm_O → sm_I → sm_R → Prop := fun o _ ρ1 => o = .inl (some (.int (nI 1))) ∧ ρ1.2.2.2.1 ≤ c + 4829 * 64 ∧ ρ1.2.2.2.2 ≤ s + 24139 * 64
theorem lk_sw {i k : Nat} {I : sm_I} {ρ : sm_R} {S : yS} (hk : k < 64) (hj : jI I ρ S) (hi : i + 6 ≤ G.2.2.2.2 49) (hL : G.2.2.2.2 49 ≤ 384) (kk : ∀ J ρ1 S1, jI J ρ1 S1 → jR ρ ρ1 → sm_V G xL_law (D + 414) 1471 [.ref 48, .ref 64, .ref 898, .int (nI i)] [] J ρ1 Q) : sm_V G xL_law (D + 414) 33 [.ref 48, .ref 64, .ref 898, .int (nI i)] [.int (nI k)] I ρ Q := by
  by_cases h40 : 40 < k
  · have hz : (nI k).toInt = (k : Int) := z_t63 ⟨k, hk⟩
    exact wp_tableOut 1471 dL_law_33 (Or.inr (by rw [hz]; omega)) rfl (kk I ρ S hj jR.rf)
  · match k, h40 with
    | 0, _ => exact wp_tableIn 212 dL_law_33 (by decide) (by decide) rfl rfl (lk_0 hj hi hL kk)
    | 1, _ => exact wp_tableIn 275 dL_law_33 (by decide) (by decide) rfl rfl (lk_1 hj hi hL kk)
    | 2, _ => exact wp_tableIn 298 dL_law_33 (by decide) (by decide) rfl rfl (lk_2 hj hi hL kk)
    | 3, _ => exact wp_tableIn 311 dL_law_33 (by decide) (by decide) rfl rfl (lk_3 hj hi hL kk)
    | 4, _ => exact wp_tableIn 324 dL_law_33 (by decide) (by decide) rfl rfl (lk_4 hj hi hL kk)
    | 5, _ => exact wp_tableIn 357 dL_law_33 (by decide) (by decide) rfl rfl (lk_5 hj hi hL kk)
    | 6, _ => exact wp_tableIn 390 dL_law_33 (by decide) (by decide) rfl rfl (lk_6 hj hi hL kk)
    | 7, _ => exact wp_tableIn 423 dL_law_33 (by decide) (by decide) rfl rfl (lk_7 hj hi hL kk)
    | 8, _ => exact wp_tableIn 456 dL_law_33 (by decide) (by decide) rfl rfl (lk_8 hj hi hL kk)
    | 9, _ => exact wp_tableIn 499 dL_law_33 (by decide) (by decide) rfl rfl (lk_9 hj hi hL kk)
    | 10, _ => exact wp_tableIn 532 dL_law_33 (by decide) (by decide) rfl rfl (lk_10 hj hi hL kk)
    | 11, _ => exact wp_tableIn 555 dL_law_33 (by decide) (by decide) rfl rfl (lk_11 hj hi hL kk)
    | 12, _ => exact wp_tableIn 588 dL_law_33 (by decide) (by decide) rfl rfl (lk_12 hj hi hL kk)
    | 13, _ => exact wp_tableIn 637 dL_law_33 (by decide) (by decide) rfl rfl (lk_13 hj hi hL kk)
    | 14, _ => exact wp_tableIn 660 dL_law_33 (by decide) (by decide) rfl rfl (lk_14 hj hi hL kk)
    | 15, _ => exact wp_tableIn 673 dL_law_33 (by decide) (by decide) rfl rfl (lk_15 hj hi hL kk)
    | 16, _ => exact wp_tableIn 716 dL_law_33 (by decide) (by decide) rfl rfl (lk_16 hj hi hL kk)
    | 17, _ => exact wp_tableIn 759 dL_law_33 (by decide) (by decide) rfl rfl (lk_17 hj hi hL kk)
    | 18, _ => exact wp_tableIn 792 dL_law_33 (by decide) (by decide) rfl rfl (lk_18 hj hi hL kk)
    | 19, _ => exact wp_tableIn 815 dL_law_33 (by decide) (by decide) rfl rfl (lk_19 hj hi hL kk)
    | 20, _ => exact wp_tableIn 838 dL_law_33 (by decide) (by decide) rfl rfl (lk_20 hj hi hL kk)
    | 21, _ => exact wp_tableIn 861 dL_law_33 (by decide) (by decide) rfl rfl (lk_21 hj hi hL kk)
    | 22, _ => exact wp_tableIn 884 dL_law_33 (by decide) (by decide) rfl rfl (lk_22 hj hi hL kk)
    | 23, _ => exact wp_tableIn 917 dL_law_33 (by decide) (by decide) rfl rfl (lk_23 hj hi hL kk)
    | 24, _ => exact wp_tableIn 950 dL_law_33 (by decide) (by decide) rfl rfl (lk_24 hj hi hL kk)
    | 25, _ => exact wp_tableIn 973 dL_law_33 (by decide) (by decide) rfl rfl (lk_25 hj hi hL kk)
    | 26, _ => exact wp_tableIn 1006 dL_law_33 (by decide) (by decide) rfl rfl (lk_26 hj hi hL kk)
    | 27, _ => exact wp_tableIn 1039 dL_law_33 (by decide) (by decide) rfl rfl (lk_27 hj hi hL kk)
    | 28, _ => exact wp_tableIn 1072 dL_law_33 (by decide) (by decide) rfl rfl (lk_28 hj hi hL kk)
    | 29, _ => exact wp_tableIn 1105 dL_law_33 (by decide) (by decide) rfl rfl (lk_29 hj hi hL kk)
    | 30, _ => exact wp_tableIn 1138 dL_law_33 (by decide) (by decide) rfl rfl (lk_30 hj hi hL kk)
    | 31, _ => exact wp_tableIn 1161 dL_law_33 (by decide) (by decide) rfl rfl (lk_31 hj hi hL kk)
    | 32, _ => exact wp_tableIn 1204 dL_law_33 (by decide) (by decide) rfl rfl (lk_32 hj hi hL kk)
    | 33, _ => exact wp_tableIn 1237 dL_law_33 (by decide) (by decide) rfl rfl (lk_33 hj hi hL kk)
    | 34, _ => exact wp_tableIn 1290 dL_law_33 (by decide) (by decide) rfl rfl (lk_34 hj hi hL kk)
    | 35, _ => exact wp_tableIn 1333 dL_law_33 (by decide) (by decide) rfl rfl (lk_35 hj hi hL kk)
    | 36, _ => exact wp_tableIn 1346 dL_law_33 (by decide) (by decide) rfl rfl (lk_36 hj hi hL kk)
    | 37, _ => exact wp_tableIn 1379 dL_law_33 (by decide) (by decide) rfl rfl (lk_37 hj hi hL kk)
    | 38, _ => exact wp_tableIn 1402 dL_law_33 (by decide) (by decide) rfl rfl (lk_38 hj hi hL kk)
    | 39, _ => exact wp_tableIn 1425 dL_law_33 (by decide) (by decide) rfl rfl (lk_39 hj hi hL kk)
    | 40, _ => exact wp_tableIn 1448 dL_law_33 (by decide) (by decide) rfl rfl (lk_40 hj hi hL kk)
    | k + 41, h => exact absurd (by omega) h
theorem lk_loop (hL : G.2.2.2.2 49 ≤ 384) (c s : Nat) : ∀ (f i j : Nat) (I : sm_I) (ρ : sm_R) (S : yS), i = 6 * j → i ≤ G.2.2.2.2 49 → 390 ≤ i + f → jI I ρ S → ρ.2.2.2.1 ≤ c + 4829 * j → ρ.2.2.2.2 ≤ s + 24139 * j → sm_V G xL_law (D + 414) 18 [.ref 48, .ref 64, .ref 898, .int (nI i)] [] I ρ (jQ c s) := by
  intro f
  induction f with
  | zero =>
    intro i j I ρ S _ h1 h2
    omega
  | succ f ih =>
    intro i j I ρ S ei h1 h2 hj r1 r2
    refine wp_iload3 19 rfl dL_law_18 ?_
    refine wp_aload0 20 rfl dL_law_19 ?_
    refine wp_slen 21 rfl dL_law_20 ?_
    refine wp_bipush (nI 6) 23 rfl dL_law_21 rfl ?_
    refine wp_isub 24 rfl dL_law_23 ?_
    by_cases h6 : i + 6 ≤ G.2.2.2.2 49
    · rw [pk_sub (by omega)]
      refine wp_icmp_gt 27 1477 rfl rfl dL_law_24 (fun c => absurd c (i_lt_le (nI_le (by omega) (by omega)))) (fun _ => ?_)
      refine wp_aload0 28 rfl dL_law_27 ?_
      refine wp_iload3 29 rfl dL_law_28 ?_
      refine wp_sld (j := i) 30 rfl dL_law_29 rfl (by omega) (by omega) ?_
      refine wp_bipush (nI 63) 32 rfl dL_law_30 rfl ?_
      refine wp_iand 33 rfl dL_law_32 ?_
      obtain ⟨k, hk, ek⟩ := z_and63 (sm_xs G i)
      rw [ek]
      refine lk_sw hk hj h6 hL (fun J ρ1 S1 hj1 hr => ?_)
      refine wp_iinc3 1474 rfl (nI 6) (by decide) dL_law_1471 (by decide) rfl ?_
      refine wp_goto 18 rfl dL_law_1474 ?_
      rw [nI_add]
      exact ih (i + 6) (j + 1) J ρ1 S1 (by omega) h6 (by omega) hj1 (by have := hr.1; omega) (by have := hr.2; omega)
    · have hlt : nI (G.2.2.2.2 49) - nI 6 < nI i := by
        by_cases h7 : G.2.2.2.2 49 < 6
        · exact z_lt6 ⟨_, h7⟩ ⟨i, by omega⟩
        · rw [pk_sub (by omega)]
          exact nI_lt (by omega) (by omega)
      refine wp_icmp_gt 27 1477 rfl rfl dL_law_24 (fun _ => ?_) (fun c => absurd hlt c)
      refine wp_iconst (nI 1) 1478 rfl dL_law_1477 rfl ?_
      refine wp_zret dL_law_1478 rfl rfl ⟨rfl, by omega, by omega⟩
end LW2
