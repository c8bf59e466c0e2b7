/-! ===== tokens are in order ===== -/
set_option maxRecDepth 100000
theorem ky_sk_ge {c : Nat → Nat} {i : Nat} : i ≤ ky_sk c i := ky_run_ge
theorem ky_sk_le {n : Nat} {b : Nat → Int32} {i : Nat} (hi : i ≤ n) : ky_sk (ky_c n b) i ≤ n := ky_run_le (P := fun j => ky_W (ky_c n b j)) (n := n) (fun j (hj : ky_W (ky_c n b j)) => ky_c_lt (b := b) (by unfold ky_W at hj; omega)) hi
theorem ky_end_gt {n : Nat} {b : Nat → Int32} {i : Nat} (hn : n ≤ 2000) (hi : i < n) : i < ky_end n (ky_c n b) i ∧ ky_end n (ky_c n b) i ≤ n := by
  unfold ky_end
  rw [if_neg (by omega)]
  by_cases hL : ky_L (ky_c n b i)
  · rw [if_pos hL]
    obtain ⟨a, b, -⟩ := ky_le_s hn (Nat.le_of_lt hi) hL
    exact ⟨a, b⟩
  · rw [if_neg hL]
    by_cases hD : ky_D (ky_c n b i)
    · rw [if_pos hD]
      obtain ⟨a, b, -⟩ := ky_de_s hn (Nat.le_of_lt hi) hD
      exact ⟨a, b⟩
    · rw [if_neg hD]
      exact ⟨by omega, by omega⟩
theorem ky_end_le {n : Nat} {b : Nat → Int32} {i : Nat} (hn : n ≤ 2000) (hi : i ≤ n) : ky_end n (ky_c n b) i ≤ n := by
  by_cases h : i < n
  · exact (ky_end_gt hn h).2
  · unfold ky_end
    rw [if_pos (by omega)]
    exact hi
theorem ky_pos_le {n : Nat} {b : Nat → Int32} (hn : n ≤ 2000) : ∀ k, ky_pos n (ky_c n b) k ≤ n
  | 0 => ky_sk_le (Nat.zero_le _)
  | k + 1 => ky_sk_le (ky_end_le hn (ky_pos_le hn k))
theorem ky_find_in (nm : Nat) : ∀ k, ky_find nm k = 1 ∨ 20 ≤ ky_find nm k ∧ ky_find nm k < 20 + k
  | 0 => Or.inl rfl
  | k + 1 => by
    show (if ky_key k = nm then 20 + k else ky_find nm k) = 1 ∨ 20 ≤ (if ky_key k = nm then 20 + k else ky_find nm k) ∧ (if ky_key k = nm then 20 + k else ky_find nm k) < 20 + (k + 1)
    by_cases h : ky_key k = nm
    · rw [if_pos h]
      omega
    · rw [if_neg h]
      have := ky_find_in nm k
      omega
theorem ky_sg_in (c : Nat) : 3 ≤ ky_sg c ∧ ky_sg c < 20 := by
  unfold ky_sg
  repeat' split
  all_goals omega
theorem ky_nu_lt {n : Nat} {b : Nat → Int32} {i : Nat} : ∀ m, (∀ j, j < m → ky_D (ky_c n b (i + j))) → ky_nu (ky_c n b) i m < 10 ^ (if m < 4 then m else 4)
  | 0, _ => (show 0 < 10 ^ 0 by decide)
  | m + 1, h => by
    have ih := ky_nu_lt m (fun j hj => h j (by omega))
    have hd := h m (by omega)
    obtain ⟨d1, d2⟩ := hd
    show (if m < 4 then 10 * ky_nu (ky_c n b) i m + (ky_c n b (i + m) - 48) else ky_nu (ky_c n b) i m) < _
    by_cases h4 : m < 4
    · rw [if_pos h4] at ih ⊢
      have e : (if m + 1 < 4 then m + 1 else 4) = m + 1 := by split <;> omega
      rw [e, Nat.pow_succ]
      omega
    · rw [if_neg h4] at ih ⊢
      rw [if_neg (by omega)]
      exact ih
theorem ky_tw {n : Nat} {b : Nat → Int32} (hn : n ≤ 2000) : tw (ky_tk n b) := by
  refine ⟨fun k => ?_, fun i j hij hq => ?_⟩
  · have hp := ky_pos_le (b := b) hn k
    unfold ky_tk
    generalize ky_pos n (ky_c n b) k = i at hp
    unfold ky_at
    by_cases hni : n ≤ i
    · rw [if_pos hni]
      exact ⟨show 0 < 100 by decide, hn, show 0 < 10000 by decide, show 0 < 2 ^ 62 by decide⟩
    · rw [if_neg hni]
      by_cases hL : ky_L (ky_c n b i)
      · rw [if_pos hL]
        obtain ⟨l1, l2, l3, l4⟩ := ky_le_s hn hp hL
        generalize ky_le (ky_c n b) i = e at l1 l2 l3 l4
        have hnl := ky_nm_lt (n := n) (b := b) (i := i) (e - i) (fun j hj => l4 _ (by omega) (by omega))
        have hf := ky_find_in (ky_nm (ky_c n b) i (e - i)) 21
        refine ⟨?_, ?_, show 0 < 10000 by decide, Nat.lt_of_lt_of_le hnl (Nat.le_trans (Nat.pow_le_pow_right (by decide) (show (if e - i < 8 then e - i else 8) ≤ 8 by split <;> omega)) (by decide))⟩
        · show (if 8 < e - i then 3 else ky_find (ky_nm (ky_c n b) i (e - i)) 21) < 100
          split <;> omega
        · show i ≤ 2000
          omega
      · rw [if_neg hL]
        by_cases hD : ky_D (ky_c n b i)
        · rw [if_pos hD]
          obtain ⟨l1, l2, l3, l4⟩ := ky_de_s hn hp hD
          generalize ky_de (ky_c n b) i = e at l1 l2 l3 l4
          have hnl := ky_nu_lt (n := n) (b := b) (i := i) (e - i) (fun j hj => l4 _ (by omega) (by omega))
          refine ⟨?_, ?_, Nat.lt_of_lt_of_le hnl (Nat.le_trans (Nat.pow_le_pow_right (by decide) (show (if e - i < 4 then e - i else 4) ≤ 4 by split <;> omega)) (by decide)), show 0 < 2 ^ 62 by decide⟩
          · show (if 4 < e - i then 3 else 2) < 100
            split <;> omega
          · show i ≤ 2000
            omega
        · rw [if_neg hD]
          have := ky_sg_in (ky_c n b i)
          refine ⟨?_, ?_, show 0 < 10000 by decide, show 0 < 2 ^ 62 by decide⟩
          · show ky_sg (ky_c n b i) < 100
            omega
          · show i ≤ 2000
            omega
  · -- places grow
    have at1 : ∀ k, ¬ (ky_tk n b k).1 = 0 → ky_pos n (ky_c n b) k < n := fun k hk => by
      by_cases h : n ≤ ky_pos n (ky_c n b) k
      · refine absurd ?_ hk
        unfold ky_tk ky_at
        rw [if_pos h]
      · omega
    have pl : ∀ k, (ky_tk n b k).2.1 = ky_pos n (ky_c n b) k := fun k => by
      have hp := ky_pos_le (b := b) hn k
      unfold ky_tk
      generalize ky_pos n (ky_c n b) k = i at hp
      unfold ky_at
      by_cases hni : n ≤ i
      · rw [if_pos hni]
        show n = i
        omega
      · rw [if_neg hni]
        by_cases hL : ky_L (ky_c n b i)
        · rw [if_pos hL]
        · rw [if_neg hL]
          by_cases hD : ky_D (ky_c n b i)
          · rw [if_pos hD]
          · rw [if_neg hD]
    have st : ∀ k, ¬ (ky_tk n b k).1 = 0 → ky_pos n (ky_c n b) k < ky_pos n (ky_c n b) (k + 1) := fun k hk => by
      show _ < ky_sk (ky_c n b) (ky_end n (ky_c n b) (ky_pos n (ky_c n b) k))
      exact Nat.lt_of_lt_of_le (ky_end_gt hn (at1 k hk)).1 ky_sk_ge
    rw [pl, pl]
    have go : ∀ m, (∀ q, q < i + m + 1 → ¬ (ky_tk n b q).1 = 0) → ky_pos n (ky_c n b) i < ky_pos n (ky_c n b) (i + m + 1) := by
      intro m
      induction m with
      | zero => exact fun h => st i (h i (by omega))
      | succ m ih => exact fun h => Nat.lt_trans (ih (fun q hq => h q (by omega))) (st (i + m + 1) (h _ (by omega)))
    have := go (j - i - 1) (fun q hq2 => hq q (by omega))
    rw [show i + (j - i - 1) + 1 = j by omega] at this
    exact this
theorem ky_tq {I : sm_I} {ρ : sm_R} {n : Nat} {b : Nat → Int32} {K : Nat} (hR : kyR I ρ n b K) (hK : ∀ k, k ≤ 400 → (∀ j, j < k → ¬ (ky_tk n b j).1 = 0) → k < K) : tq I ρ (ky_tk n b) := fun k hk hj => hR.2 k (hK k hk hj)
