/-! ===== the component: calls, busy ===== -/
set_option maxRecDepth 100000
theorem z_sum_0 {f : Nat → Int32} : ∀ n, (∀ i, i < n → f i = nI 0) → z_sum f n = nI 0
  | 0, _ => rfl
  | n + 1, h => by
    show z_sum f n + f n = nI 0
    rw [z_sum_0 n (fun i hi => h i (by omega)), h n (by omega)]
    rfl
theorem z_sum_add (f g : Nat → Int32) : ∀ n, z_sum (fun i => f i + g i) n = z_sum f n + z_sum g n
  | 0 => rfl
  | n + 1 => by
    show z_sum (fun i => f i + g i) n + (f n + g n) = z_sum f n + f n + (z_sum g n + g n)
    rw [z_sum_add f g n]
    ac_rfl
theorem z_sum_swap (f : Nat → Nat → Int32) (m : Nat) : ∀ n, z_sum (fun k => z_sum (fun i => f k i) m) n = z_sum (fun i => z_sum (fun k => f k i) n) m
  | 0 => (z_sum_0 m (fun _ _ => rfl)).symm
  | n + 1 => by
    show z_sum (fun k => z_sum (fun i => f k i) m) n + z_sum (fun i => f n i) m = z_sum (fun i => z_sum (fun k => f k i) n + f n i) m
    rw [z_sum_add, z_sum_swap f m n]
/-- a sum of noughts and ones -/
theorem z_sum_1 {f : Nat → Int32} {B : Nat} (h : ∀ i, ∃ m, m ≤ B ∧ f i = nI m) : ∀ n, ∃ m, m ≤ B * n ∧ z_sum f n = nI m
  | 0 => ⟨0, Nat.zero_le _, rfl⟩
  | n + 1 => by
    obtain ⟨m, h1, h2⟩ := z_sum_1 h n
    obtain ⟨g, g1, g2⟩ := h n
    refine ⟨m + g, ?_, ?_⟩
    · rw [Nat.mul_succ]
      omega
    · show z_sum f n + f n = _
      rw [h2, g2, nI_add]
section D6
variable {G : sm_G} {d : Nat} {I : sm_I} {ρ : sm_R} {tp : Nat} {q : tq4} {T : tx} {w : Nat → Int32}
/-- a round goes today -/
abbrev r_go (T : tx) (w : Nat → Int32) (k r : Nat) : Prop := w (54 + r) = nI 1 ∧ z_due (tx_fr T r) (tx_ev T r) (w 69 + nI k)
theorem r_lift_at {w : Nat → Int32} {dd c : Nat} (hd : dd < 6) (hc : c < 5) : (∀ i, i < 10 → r_lift T w dd c (54 + i) = w (54 + i)) ∧ r_lift T w dd c 69 = w 69 ∧ (∀ j, j < 6 → r_lift T w dd c (24 + j) = w (24 + j) + if dd = j then nI 1 else nI 0) ∧ ∀ j, j < 5 → r_lift T w dd c (64 + j) = w (64 + j) + if c = j then nI 1 else nI 0 := by
  unfold r_lift
  refine ⟨fun i hi => ?_, ?_, fun j hj => ?_, fun j hj => ?_⟩
  · rw [pk_un (by omega), pk_un (by omega), pk_un (by omega), pk_un (by omega), r_fcs_out _ _ (by omega)]
  · rw [pk_un (by omega), pk_un (by omega), pk_un (by omega), pk_un (by omega), r_fcs_out _ _ (by omega)]
  · rw [pk_un (by omega), pk_un (by omega)]
    by_cases e : dd = j
    · rw [e, pk_us, if_pos rfl]
    · rw [pk_un (by omega), pk_un (by omega), r_fcs_out _ _ (by omega), if_neg e, i_add0]
  · rw [pk_un (by omega)]
    by_cases e : c = j
    · rw [e, pk_us, if_pos rfl]
    · rw [pk_un (by omega), pk_un (by omega), pk_un (by omega), r_fcs_out _ _ (by omega), if_neg e, i_add0]
theorem r_rnd_at (hk : tok T) : ∀ r, r ≤ tx_R T → (∀ i, i < 10 → r_rnd T w r (54 + i) = w (54 + i)) ∧ r_rnd T w r 69 = w 69 ∧ (∀ j, j < 6 → r_rnd T w r (24 + j) = w (24 + j) + z_sum (fun i => if tx_door T i = j then (if r_go T w 0 i then nI 1 else nI 0) else nI 0) r) ∧ ∀ j, j < 5 → r_rnd T w r (64 + j) = w (64 + j) + z_sum (fun i => if tx_who T i = j then (if r_go T w 0 i then nI 1 else nI 0) else nI 0) r
  | 0, _ => ⟨fun _ _ => rfl, rfl, fun _ _ => (i_add0 _).symm, fun _ _ => (i_add0 _).symm⟩
  | r + 1, hr => by
    obtain ⟨i1, i2, i3, i4⟩ := r_rnd_at hk r (by omega)
    have k := hk.2.2.2.1 r (by omega)
    obtain ⟨h6, h5, h10⟩ := hk.1
    have e : r_rnd T w (r + 1) = if r_go T w 0 r then r_lift T (r_rnd T w r) (tx_door T r) (tx_who T r) else r_rnd T w r := by
      show (if r_rnd T w r (54 + r) = nI 1 then (if z_due (tx_fr T r) (tx_ev T r) (r_rnd T w r 69) then r_lift T (r_rnd T w r) (tx_door T r) (tx_who T r) else r_rnd T w r) else r_rnd T w r) = _
      rw [i1 r (by omega), i2]
      unfold r_go
      rw [i_add0]
      by_cases a : w (54 + r) = nI 1
      · rw [if_pos a]
        by_cases b : z_due (tx_fr T r) (tx_ev T r) (w 69)
        · rw [if_pos b, if_pos ⟨a, b⟩]
        · rw [if_neg b, if_neg (fun z => b z.2)]
      · rw [if_neg a, if_neg (fun z => a z.1)]
    obtain ⟨l1, l2, l3, l4⟩ := r_lift_at (T := T) (w := r_rnd T w r) (dd := tx_door T r) (c := tx_who T r) (by omega) (by omega)
    have sp : ∀ (x a : Int32) (P Q : Prop) [Decidable P] [Decidable Q], x + (a + if P then (if Q then nI 1 else nI 0) else nI 0) = (if Q then x + a + (if P then nI 1 else nI 0) else x + a) := by
      intro x a P Q _ _
      by_cases p : P <;> by_cases y : Q <;> simp only [p, y, if_true, if_false, i_add0] <;> ac_rfl
    rw [e]
    by_cases g : r_go T w 0 r
    · rw [if_pos g]
      refine ⟨fun i hi => (l1 i hi).trans (i1 i hi), l2.trans i2, fun j hj => ?_, fun j hj => ?_⟩
      · rw [l3 j hj, i3 j hj]
        show _ = w (24 + j) + (z_sum _ r + if tx_door T r = j then (if r_go T w 0 r then nI 1 else nI 0) else nI 0)
        rw [sp, if_pos g]
      · rw [l4 j hj, i4 j hj]
        show _ = w (64 + j) + (z_sum _ r + if tx_who T r = j then (if r_go T w 0 r then nI 1 else nI 0) else nI 0)
        rw [sp, if_pos g]
    · rw [if_neg g]
      refine ⟨i1, i2, fun j hj => ?_, fun j hj => ?_⟩
      · rw [i3 j hj]
        show _ = w (24 + j) + (z_sum _ r + if tx_door T r = j then (if r_go T w 0 r then nI 1 else nI 0) else nI 0)
        rw [sp, if_neg g]
      · rw [i4 j hj]
        show _ = w (64 + j) + (z_sum _ r + if tx_who T r = j then (if r_go T w 0 r then nI 1 else nI 0) else nI 0)
        rw [sp, if_neg g]
theorem r_wear_at (j : Nat) (hj : 24 ≤ j) : ∀ n, n ≤ 6 → ∀ w : Nat → Int32, r_wear T w n j = w j
  | 0, _, _ => rfl
  | n + 1, hn, w => by
    show r_fcs _ (r_wear T w n) n 4 j = _
    rw [r_fcs_out _ _ (by omega)]
    exact r_wear_at j hj n (by omega) w
theorem r_stday (hk : tok T) : (∀ j, ¬ (j < 24) → ¬ (30 ≤ j ∧ j < 36) → ¬ (48 ≤ j ∧ j < 54) → ¬ j = 69 → r_day T (nI 1) (tx_seed T) w j = r_rnd T w (tx_R T) j) ∧ r_day T (nI 1) (tx_seed T) w 69 = r_rnd T w (tx_R T) 69 + nI 1 := by
  have h6 := hk.1.1
  have hn : ¬ (nI 1 = nI 0 ∧ r_isW T (tx_seed T) (r_rnd T w (tx_R T))) := fun z => absurd z.1 (by decide)
  have e : r_day T (nI 1) (tx_seed T) w = upd (r_idle (r_wear T (r_rnd T w (tx_R T)) (tx_D T)) (tx_D T)) 69 (r_idle (r_wear T (r_rnd T w (tx_R T)) (tx_D T)) (tx_D T) 69 + nI 1) := by
    unfold r_day
    simp only [if_neg hn]
  rw [e]
  refine ⟨fun j h1 h2 h3 h4 => ?_, ?_⟩
  · rw [pk_un h4, r_idle_j _ h6 j, if_neg (by omega), if_neg (by omega)]
    exact r_wear_at j (by omega) _ h6 _
  · rw [pk_us, r_idle_j _ h6 69, if_neg (by omega), if_neg (by omega), r_wear_at 69 (by omega) _ h6 _]
theorem r_still_at (hk : tok T) : ∀ n, (∀ i, i < 10 → r_still T w n (54 + i) = w (54 + i)) ∧ r_still T w n 69 = w 69 + nI n ∧ (∀ j, j < 6 → r_still T w n (24 + j) = w (24 + j) + z_sum (fun k => z_sum (fun i => if tx_door T i = j then (if r_go T w k i then nI 1 else nI 0) else nI 0) (tx_R T)) n) ∧ ∀ j, j < 5 → r_still T w n (64 + j) = w (64 + j) + z_sum (fun k => z_sum (fun i => if tx_who T i = j then (if r_go T w k i then nI 1 else nI 0) else nI 0) (tx_R T)) n
  | 0 => ⟨fun _ _ => rfl, (i_add0 _).symm, fun _ _ => (i_add0 _).symm, fun _ _ => (i_add0 _).symm⟩
  | n + 1 => by
    obtain ⟨i1, i2, i3, i4⟩ := r_still_at hk n
    obtain ⟨h6, h5, h10⟩ := hk.1
    obtain ⟨d1, d2⟩ := r_stday (w := r_still T w n) hk
    obtain ⟨a1, a2, a3, a4⟩ := r_rnd_at (w := r_still T w n) hk (tx_R T) (Nat.le_refl _)
    have eg : ∀ i, i < tx_R T → (r_go T (r_still T w n) 0 i ↔ r_go T w n i) := fun i hi => by
      unfold r_go
      rw [i1 i (by omega), i2, i_add0]
    refine ⟨fun i hi => ?_, ?_, fun j hj => ?_, fun j hj => ?_⟩
    · show r_day T (nI 1) (tx_seed T) (r_still T w n) (54 + i) = _
      rw [d1 _ (by omega) (by omega) (by omega) (by omega), a1 i hi, i1 i hi]
    · show r_day T (nI 1) (tx_seed T) (r_still T w n) 69 = _
      rw [d2, a2, i2, ← nI_add]
      ac_rfl
    · show r_day T (nI 1) (tx_seed T) (r_still T w n) (24 + j) = _
      rw [d1 _ (by omega) (by omega) (by omega) (by omega), a3 j hj, i3 j hj]
      show _ = w (24 + j) + (z_sum _ n + z_sum (fun i => if tx_door T i = j then (if r_go T w n i then nI 1 else nI 0) else nI 0) (tx_R T))
      rw [z_sum_congr (n := tx_R T) (g := fun i => if tx_door T i = j then (if r_go T w n i then nI 1 else nI 0) else nI 0) (fun i hi => by simp only [eg i hi])]
      ac_rfl
    · show r_day T (nI 1) (tx_seed T) (r_still T w n) (64 + j) = _
      rw [d1 _ (by omega) (by omega) (by omega) (by omega), a4 j hj, i4 j hj]
      show _ = w (64 + j) + (z_sum _ n + z_sum (fun i => if tx_who T i = j then (if r_go T w n i then nI 1 else nI 0) else nI 0) (tx_R T))
      rw [z_sum_congr (n := tx_R T) (g := fun i => if tx_who T i = j then (if r_go T w n i then nI 1 else nI 0) else nI 0) (fun i hi => by simp only [eg i hi])]
      ac_rfl
theorem r_times_go (r n : Nat) : r_times T w r n = z_sum (fun k => if r_go T w k r then nI 1 else nI 0) n := rfl
theorem z_sub_add (a b : Int32) : a + b - a = b := by
  rw [Int32.add_comm]
  exact Int32.add_sub_cancel _ _
theorem r_swap (P : Nat → Prop) [DecidablePred P] (n R : Nat) : z_sum (fun k => z_sum (fun i => if P i then (if r_go T w k i then nI 1 else nI 0) else nI 0) R) n = z_sum (fun i => if P i then r_times T w i n else nI 0) R := by
  rw [z_sum_swap]
  refine z_sum_congr (fun i _ => ?_)
  by_cases p : P i
  · simp only [p, if_true]
    rfl
  · simp only [p, if_false]
    exact z_sum_0 _ (fun _ _ => rfl)
theorem r_calls (hk : tok T) (n : Nat) {j : Nat} (hj : j < 6) : r_still T w n (24 + j) - w (24 + j) = z_sum (fun r => if tx_door T r = j then r_times T w r n else nI 0) (tx_R T) := by
  rw [(r_still_at hk n).2.2.1 j hj, z_sub_add, r_swap (fun i => tx_door T i = j)]
theorem r_bz_sum (n c : Nat) : ∀ R, r_bz T w n R c = z_sum (fun r => if tx_who T r = c then r_times T w r n else nI 0) R
  | 0 => rfl
  | R + 1 => by
    show upd (r_bz T w n R) (tx_who T R) (r_bz T w n R (tx_who T R) + r_times T w R n) c = z_sum _ R + if tx_who T R = c then r_times T w R n else nI 0
    by_cases e : tx_who T R = c
    · rw [e, pk_us, if_pos rfl, r_bz_sum n c R]
    · rw [pk_un (fun z => e z.symm), if_neg e, i_add0, r_bz_sum n c R]
theorem r_busy (hk : tok T) (n : Nat) {j : Nat} (hj : j < 5) : r_still T w n (64 + j) - w (64 + j) = r_bz T w n (tx_R T) j := by
  rw [(r_still_at hk n).2.2.2 j hj, z_sub_add, r_swap (fun i => tx_who T i = j), r_bz_sum]
theorem r_bz_pos (hk : tok T) {n : Nat} (hn : n ≤ 60) (c : Nat) : (-1 : Int32) < r_bz T w n (tx_R T) c := by
  have h10 := hk.1.2.2
  rw [r_bz_sum]
  obtain ⟨m, h1, h2⟩ := z_sum_1 (B := 60) (f := fun r => if tx_who T r = c then r_times T w r n else nI 0) (fun r => by
    show ∃ m, m ≤ 60 ∧ (if tx_who T r = c then r_times T w r n else nI 0) = nI m
    by_cases e : tx_who T r = c
    · rw [if_pos e, r_times_go]
      obtain ⟨m, h1, h2⟩ := z_sum_1 (B := 1) (f := fun k => if r_go T w k r then nI 1 else nI 0) (fun k => by
        show ∃ m, m ≤ 1 ∧ (if r_go T w k r then nI 1 else nI 0) = nI m
        by_cases g : r_go T w k r
        · exact ⟨1, Nat.le_refl _, if_pos g⟩
        · exact ⟨0, Nat.zero_le _, if_neg g⟩) n
      exact ⟨m, by omega, h2⟩
    · exact ⟨0, Nat.zero_le _, if_neg e⟩) (tx_R T)
  rw [h2, Int32.lt_iff_toInt_lt, nI_toInt (by omega)]
  have : (-1 : Int32).toInt = -1 := by decide
  omega
theorem c_calls (hA : cA I ρ tp q T w) (x n : Int32) : sm_M G xX0_calls (d + 408) [.ref 64, .int x, .int n] I ρ (cPost I ρ (o_calls T w x n)) := by
  obtain ⟨hK, hP, hT, hk, ⟨hw, hz⟩, hR⟩ := hA
  show sm_V G xX0_calls (d + 408) 0 [.ref 64, .int x, .int n] [] I ρ _
  obtain ⟨h6, h5, h10⟩ := hk.1
  have ht := k_town hK
  have ht2 := k_trial hK
  unfold o_calls
  refine wp_aload0 1 rfl dX0_calls_0 ?_
  refine wp_iload1 2 rfl dX0_calls_1 ?_
  refine wp_Ve1 5 rfl dX0_calls_2 kX0_isDoor lX0_185 (o1 hK) (nl rfl) (nl rfl) (s_cisDoor hK hP hT hk x) ?_
  by_cases hX : ∃ j, j < tx_D T ∧ x = nI j
  · obtain ⟨j, hj, e⟩ := hX
    subst e
    rw [z_ix_n hj (by omega)]
    refine wp_if_eq 8 18 rfl rfl dX0_calls_5 (fun c5 => absurd c5 (z_b_ne.mpr ⟨j, hj, rfl⟩)) (fun c5 => ?_)
    refine wp_iload2 9 rfl dX0_calls_8 ?_
    refine wp_iconst (nI 1) 10 rfl dX0_calls_9 (by decide) ?_
    refine wp_bipush (nI 60) 12 rfl dX0_calls_10 (by decide) ?_
    refine wp_Se3 15 rfl dX0_calls_12 kX0_isIn lX0_161 (nl rfl) (nl rfl) (s_isIn _ _ _) ?_
    by_cases hX : ∃ j, (1 ≤ j ∧ j ≤ 60) ∧ n = nI j
    · obtain ⟨m, hm, e⟩ := hX
      subst e
      rw [z_iv_n (l := 1) (m := 60) hm (by decide) (by decide)]
      refine wp_if_ne 18 20 rfl rfl dX0_calls_15 (fun c15 => ?_) (fun c15 => absurd c15 (z_b_ne.mpr ((z_iv_iff (l := 1) (m := 60) (by decide) (by decide)).mpr ⟨m, hm, rfl⟩)))
      refine wp_aload0 21 rfl dX0_calls_20 ?_
      refine wp_getr 24 rfl dX0_calls_21 fX0_66_1 (o1 hK) (p1_8 hK) ?_
      refine wp_aload0 25 rfl dX0_calls_24 ?_
      refine wp_getr 28 rfl dX0_calls_25 fX0_62_1 (o1 hK) (p1_7 hK) ?_
      refine wp_Vv1 31 rfl dX0_calls_28 kX5_takes lX0_261 (o6 (k_trial hK)) (nl rfl) (nl rfl) (s_takes ht2 ht (by omega) hR) (fun J0 ρ1 hq9 => ?_)
      obtain ⟨e1, f0, hR0⟩ := hq9
      have e1 := e1.symm
      subst e1
      have hq0 : cq I J0 := cq.of f0 (cs_town (Or.inl rfl))
      have hT0 := hT.kept hq0.T
      have hT := hT0
      refine wp_aload0 32 rfl dX0_calls_31 ?_
      refine wp_aload0 33 rfl dX0_calls_32 ?_
      refine wp_getr 36 rfl dX0_calls_33 fX0_66_1 (o1 hK) (p1_8 hK) ?_
      refine wp_iload2 37 rfl dX0_calls_36 ?_
      refine wp_aload0 38 rfl dX0_calls_37 ?_
      refine wp_getr 41 rfl dX0_calls_38 fX0_89_1 (o1 hK) (p1_13 hK) ?_
      refine wp_Vv3 44 rfl dX0_calls_41 kX0_runs lX0_289 (o1 hK) (nl rfl) (nl rfl) (s_runs (d := d) hK hP ht2 ⟨by decide, by decide⟩ hR0 hw hz hT hk (Or.inr ⟨rfl, rfl⟩) m hm.2) (fun J1 ρ1 hq9 => ?_)
      obtain ⟨e1, f1, hR1⟩ := hq9
      have e1 := e1.symm
      subst e1
      have hq1 := hq0.tr9 f1
      have hRt := (cA.q (I1 := J1) ⟨hK, hP, ‹cT I ρ tp q T›, hk, ⟨hw, hz⟩, hR⟩ hq1).2.2.2.2.2
      refine wp_aload0 45 rfl dX0_calls_44 ?_
      refine wp_getr 48 rfl dX0_calls_45 fX0_66_1 (o1 hK) (p1_8 hK) ?_
      refine wp_getr 51 rfl dX0_calls_48 fX0_192_6 (o6 (k_trial hK)) (p6_1 (k_trial hK)) ?_
      refine wp_iload1 52 rfl dX0_calls_51 ?_
      refine wp_iald 53 rfl dX0_calls_52 (s6_1 (k_trial hK)) (j) (by first | rfl | simp only [pk_mul, nI_add]) (⟨by omega, by decide⟩) ?_
      refine wp_aload0 54 rfl dX0_calls_53 ?_
      refine wp_getr 57 rfl dX0_calls_54 fX0_62_1 (o1 hK) (p1_7 hK) ?_
      refine wp_getr 60 rfl dX0_calls_57 fX0_192_6 (o6 (k_town hK)) (p6_1 (k_town hK)) ?_
      refine wp_iload1 61 rfl dX0_calls_60 ?_
      refine wp_iald 62 rfl dX0_calls_61 (s6_1 (k_town hK)) (j) (by first | rfl | simp only [pk_mul, nI_add]) (⟨by omega, by decide⟩) ?_
      refine wp_isub 63 rfl dX0_calls_62 ?_
      refine wp_iret dX0_calls_63 rfl ?_
      refine sm_ci hq1 ?_
      have r1 := (hR1.2.1 j (by omega)).1
      have r2 := (hRt.2.1 j (by omega)).1
      rw [r1, r2]
      exact r_calls hk m (by omega)
    · rw [z_iv_o (l := 1) (m := 60) (fun z => hX ((z_iv_iff (by decide) (by decide)).mp z))]
      refine wp_if_ne 18 20 rfl rfl dX0_calls_15 (fun c15 => absurd (z_b_eq.mpr (fun z => hX ((z_iv_iff (l := 1) (m := 60) (by decide) (by decide)).mp z))) c15) (fun c15 => ?_)
      refine wp_iconst (-1) 19 rfl dX0_calls_18 (by decide) ?_
      refine wp_iret dX0_calls_19 rfl ?_
      exact sm_ci cq.rf rfl
  · rw [z_ix_no (by omega) hX]
    refine wp_if_eq 8 18 rfl rfl dX0_calls_5 (fun c5 => ?_) (fun c5 => absurd (z_b_eq.mpr hX) c5)
    refine wp_iconst (-1) 19 rfl dX0_calls_18 (by decide) ?_
    refine wp_iret dX0_calls_19 rfl ?_
    exact sm_ci cq.rf rfl
theorem c_busy (hA : cA I ρ tp q T w) (n what : Int32) : sm_M G xX0_busy (d + 408) [.ref 64, .int n, .int what] I ρ (cPost I ρ (o_busy T w n what)) := by
  obtain ⟨hK, hP, hT, hk, ⟨hw, hz⟩, hR⟩ := hA
  show sm_V G xX0_busy (d + 408) 0 [.ref 64, .int n, .int what, .retAddr 0, .retAddr 0, .retAddr 0] [] I ρ _
  obtain ⟨h6, h5, h10⟩ := hk.1
  have ht := k_town hK
  have ht2 := k_trial hK
  unfold o_busy
  refine wp_iload1 1 rfl dX0_busy_0 ?_
  refine wp_iconst (nI 1) 2 rfl dX0_busy_1 (by decide) ?_
  refine wp_bipush (nI 60) 4 rfl dX0_busy_2 (by decide) ?_
  refine wp_Se3 7 rfl dX0_busy_4 kX0_isIn lX0_161 (nl rfl) (nl rfl) (s_isIn _ _ _) ?_
  by_cases hX : ∃ j, (1 ≤ j ∧ j ≤ 60) ∧ n = nI j
  · obtain ⟨m, hm, e⟩ := hX
    subst e
    rw [z_iv_n (l := 1) (m := 60) hm (by decide) (by decide)]
    refine wp_if_eq 10 19 rfl rfl dX0_busy_7 (fun c7 => absurd c7 (z_b_ne.mpr ((z_iv_iff (l := 1) (m := 60) (by decide) (by decide)).mpr ⟨m, hm, rfl⟩))) (fun c7 => ?_)
    refine wp_iload2 11 rfl dX0_busy_10 ?_
    refine wp_iconst (nI 0) 12 rfl dX0_busy_11 (by decide) ?_
    refine wp_iconst (nI 1) 13 rfl dX0_busy_12 (by decide) ?_
    refine wp_Se3 16 rfl dX0_busy_13 kX0_isIn lX0_161 (nl rfl) (nl rfl) (s_isIn _ _ _) ?_
    by_cases hX : ∃ j, j < 2 ∧ what = nI j
    · obtain ⟨kk, hkk, e⟩ := hX
      subst e
      rw [z_ix_n hkk (by decide)]
      show sm_V G xX0_busy (d + 408) 16 _ _ I ρ (cPost I ρ (z_am (r_bz T w m (tx_R T)) kk (z_argM (r_bz T w m (tx_R T)) (tx_C T))))
      refine wp_if_ne 19 21 rfl rfl dX0_busy_16 (fun c16 => ?_) (fun c16 => absurd c16 (z_b_ne.mpr ((z_in_lo (n := 2) (m := 1) rfl (by decide)).mpr ⟨kk, hkk, rfl⟩)))
      refine wp_bipush (-2) 23 rfl dX0_busy_21 (by decide) ?_
      refine wp_istore3 24 rfl dX0_busy_23 (by decide) rfl ?_
      refine wp_iconst (-1) 25 rfl dX0_busy_24 (by decide) ?_
      refine wp_istore4 27 rfl dX0_busy_25 (by decide) rfl ?_
      refine wp_aload0 28 rfl dX0_busy_27 ?_
      refine wp_getr 31 rfl dX0_busy_28 fX0_66_1 (o1 hK) (p1_8 hK) ?_
      refine wp_aload0 32 rfl dX0_busy_31 ?_
      refine wp_getr 35 rfl dX0_busy_32 fX0_62_1 (o1 hK) (p1_7 hK) ?_
      refine wp_Vv1 38 rfl dX0_busy_35 kX5_takes lX0_261 (o6 (k_trial hK)) (nl rfl) (nl rfl) (s_takes ht2 ht (by omega) hR) (fun J0 ρ1 hq9 => ?_)
      obtain ⟨e1, f0, hR0⟩ := hq9
      have e1 := e1.symm
      subst e1
      have hq0 : cq I J0 := cq.of f0 (cs_town (Or.inl rfl))
      have hT0 := hT.kept hq0.T
      have hT := hT0
      refine wp_aload0 39 rfl dX0_busy_38 ?_
      refine wp_aload0 40 rfl dX0_busy_39 ?_
      refine wp_getr 43 rfl dX0_busy_40 fX0_66_1 (o1 hK) (p1_8 hK) ?_
      refine wp_iload1 44 rfl dX0_busy_43 ?_
      refine wp_aload0 45 rfl dX0_busy_44 ?_
      refine wp_getr 48 rfl dX0_busy_45 fX0_89_1 (o1 hK) (p1_13 hK) ?_
      refine wp_Vv3 51 rfl dX0_busy_48 kX0_runs lX0_289 (o1 hK) (nl rfl) (nl rfl) (s_runs (d := d) hK hP ht2 ⟨by decide, by decide⟩ hR0 hw hz hT hk (Or.inr ⟨rfl, rfl⟩) m hm.2) (fun J1 ρ1 hq9 => ?_)
      obtain ⟨e1, f1, hR1⟩ := hq9
      have e1 := e1.symm
      subst e1
      have hq1 := hq0.tr9 f1
      obtain ⟨-, -, hT, -, -, hRt⟩ := cA.q (I1 := J1) ⟨hK, hP, ‹cT I ρ tp q T›, hk, ⟨hw, hz⟩, hR⟩ hq1
      refine wp_iconst (nI 0) 52 rfl dX0_busy_51 (by decide) ?_
      refine wp_istore5 54 rfl dX0_busy_52 (by decide) rfl ?_
      refine sm_for (P := fun p => sm_V G xX0_busy (d + 408) 54 [.ref 64, .int (nI m), .int (nI kk), .int (z_on (z_argM (r_bz T w m (tx_R T)) p)), .int (z_fm (r_bz T w m (tx_R T)) (z_argM (r_bz T w m (tx_R T)) p)), .int (nI p)] [] J1 ρ _) 0 (tx_C T) (Nat.zero_le _) ?_ (fun p _ hp ih => ?_)
      · refine wp_iload5 56 rfl dX0_busy_54 ?_
        refine wp_aload0 57 rfl dX0_busy_56 ?_
        refine wp_Ve0 60 rfl dX0_busy_57 kX0_callers lX0_165 (o1 hK) (nl rfl) (nl rfl) (s_callers hK hP hT) ?_
        refine wp_icmp_ge 63 124 rfl rfl dX0_busy_60 (fun c60 => ?_) (fun c60 => absurd (nI_le (Nat.le_refl _) (by omega)) c60)
        have hl : ∀ b, z_argM (r_bz T w m (tx_R T)) (tx_C T) = some b → b < tx_C T := fun b hb => z_argM_lt hb
        cases hs : z_argM (r_bz T w m (tx_R T)) (tx_C T) with
        | none =>
          refine wp_iload3 125 rfl dX0_busy_124 ?_
          refine wp_if_lt 128 132 rfl rfl dX0_busy_125 (fun c125 => ?_) (fun c125 => absurd ((by decide : (-2 : Int32) < 0)) c125)
          refine wp_iload3 133 rfl dX0_busy_132 ?_
          refine wp_goto 138 rfl dX0_busy_133 ?_
          refine wp_iret dX0_busy_138 rfl ?_
          exact sm_ci hq1 rfl
        | some b =>
          have hb := hl b hs
          by_cases e : kk = 0
          · subst e
            refine wp_iload3 125 rfl dX0_busy_124 ?_
            refine wp_if_lt 128 132 rfl rfl dX0_busy_125 (fun c125 => absurd c125 (nI_pos (n := b) (by omega))) (fun c125 => ?_)
            refine wp_iload2 129 rfl dX0_busy_128 ?_
            refine wp_if_ne 132 136 rfl rfl dX0_busy_129 (fun c129 => absurd (rfl) c129) (fun c129 => ?_)
            refine wp_iload3 133 rfl dX0_busy_132 ?_
            refine wp_goto 138 rfl dX0_busy_133 ?_
            refine wp_iret dX0_busy_138 rfl ?_
            exact sm_ci hq1 rfl
          · refine wp_iload3 125 rfl dX0_busy_124 ?_
            refine wp_if_lt 128 132 rfl rfl dX0_busy_125 (fun c125 => absurd c125 (nI_pos (n := b) (by omega))) (fun c125 => ?_)
            refine wp_iload2 129 rfl dX0_busy_128 ?_
            refine wp_if_ne 132 136 rfl rfl dX0_busy_129 (fun c129 => ?_) (fun c129 => absurd c129 (fun z => e ((nI_eq (b := 0) (by omega) (by decide)).mp z)))
            refine wp_iload4 138 rfl dX0_busy_136 ?_
            refine wp_iret dX0_busy_138 rfl ?_
            exact sm_ci hq1 (if_neg e).symm
      · have e0 := z_argM_s (f := r_bz T w m (tx_R T)) (n := p) (r_bz_pos hk hm.2 p)
        rw [e0] at ih
        have r1 := hR1.2.2.1 p (by omega)
        have r2 := hRt.2.2.1 p (by omega)
        have r3 : r_days T (nI 1) (tx_seed T) w m (64 + p) - w (64 + p) = r_bz T w m (tx_R T) p := r_busy hk m (by omega)
        refine wp_iload5 56 rfl dX0_busy_54 ?_
        refine wp_aload0 57 rfl dX0_busy_56 ?_
        refine wp_Ve0 60 rfl dX0_busy_57 kX0_callers lX0_165 (o1 hK) (nl rfl) (nl rfl) (s_callers hK hP hT) ?_
        refine wp_icmp_ge 63 124 rfl rfl dX0_busy_60 (fun c60 => absurd c60 (nI_ge hp (by omega))) (fun c60 => ?_)
        refine wp_aload0 64 rfl dX0_busy_63 ?_
        refine wp_getr 67 rfl dX0_busy_64 fX0_66_1 (o1 hK) (p1_8 hK) ?_
        refine wp_getr 70 rfl dX0_busy_67 fX0_218_6 (o6 (k_trial hK)) (p6_5 (k_trial hK)) ?_
        refine wp_iload5 72 rfl dX0_busy_70 ?_
        refine wp_iald 73 rfl dX0_busy_72 (s6_5 (k_trial hK)) (p) (by first | rfl | simp only [pk_mul, nI_add]) (⟨by omega, by decide⟩) ?_
        refine wp_aload0 74 rfl dX0_busy_73 ?_
        refine wp_getr 77 rfl dX0_busy_74 fX0_62_1 (o1 hK) (p1_7 hK) ?_
        refine wp_getr 80 rfl dX0_busy_77 fX0_218_6 (o6 (k_town hK)) (p6_5 (k_town hK)) ?_
        refine wp_iload5 82 rfl dX0_busy_80 ?_
        refine wp_iald 83 rfl dX0_busy_82 (s6_5 (k_town hK)) (p) (by first | rfl | simp only [pk_mul, nI_add]) (⟨by omega, by decide⟩) ?_
        refine wp_isub 84 rfl dX0_busy_83 ?_
        rw [r1, r2, r3]
        refine wp_iload4 86 rfl dX0_busy_84 ?_
        refine wp_icmp_gt 89 92 rfl rfl dX0_busy_86 (fun c86 => ?_) (fun c86 => ?_)
        · rw [if_pos c86] at ih
          refine wp_iload5 94 rfl dX0_busy_92 ?_
          refine wp_istore3 95 rfl dX0_busy_94 (by decide) rfl ?_
          refine wp_aload0 96 rfl dX0_busy_95 ?_
          refine wp_getr 99 rfl dX0_busy_96 fX0_66_1 (o1 hK) (p1_8 hK) ?_
          refine wp_getr 102 rfl dX0_busy_99 fX0_218_6 (o6 (k_trial hK)) (p6_5 (k_trial hK)) ?_
          refine wp_iload5 104 rfl dX0_busy_102 ?_
          refine wp_iald 105 rfl dX0_busy_104 (s6_5 (k_trial hK)) (p) (by first | rfl | simp only [pk_mul, nI_add]) (⟨by omega, by decide⟩) ?_
          refine wp_aload0 106 rfl dX0_busy_105 ?_
          refine wp_getr 109 rfl dX0_busy_106 fX0_62_1 (o1 hK) (p1_7 hK) ?_
          refine wp_getr 112 rfl dX0_busy_109 fX0_218_6 (o6 (k_town hK)) (p6_5 (k_town hK)) ?_
          refine wp_iload5 114 rfl dX0_busy_112 ?_
          refine wp_iald 115 rfl dX0_busy_114 (s6_5 (k_town hK)) (p) (by first | rfl | simp only [pk_mul, nI_add]) (⟨by omega, by decide⟩) ?_
          refine wp_isub 116 rfl dX0_busy_115 ?_
          rw [r1, r2, r3]
          refine wp_istore4 118 rfl dX0_busy_116 (by decide) rfl ?_
          refine wp_iincN5 121 rfl dX0_busy_118 (by decide) rfl ?_
          refine wp_goto 54 rfl dX0_busy_121 ?_
          exact ih
        · rw [if_neg c86] at ih
          refine wp_goto 118 rfl dX0_busy_89 ?_
          refine wp_iincN5 121 rfl dX0_busy_118 (by decide) rfl ?_
          refine wp_goto 54 rfl dX0_busy_121 ?_
          exact ih
    · rw [z_ix_no (by decide) hX]
      refine wp_if_ne 19 21 rfl rfl dX0_busy_16 (fun c16 => absurd (z_b_eq.mpr (fun z => hX ((z_in_lo (n := 2) (m := 1) rfl (by decide)).mp z))) c16) (fun c16 => ?_)
      refine wp_iconst (-1) 20 rfl dX0_busy_19 (by decide) ?_
      refine wp_iret dX0_busy_20 rfl ?_
      exact sm_ci cq.rf rfl
  · rw [z_iv_o (l := 1) (m := 60) (fun z => hX ((z_iv_iff (by decide) (by decide)).mp z))]
    refine wp_if_eq 10 19 rfl rfl dX0_busy_7 (fun c7 => ?_) (fun c7 => absurd (z_b_eq.mpr (fun z => hX ((z_iv_iff (l := 1) (m := 60) (by decide) (by decide)).mp z))) c7)
    refine wp_iconst (-1) 20 rfl dX0_busy_19 (by decide) ?_
    refine wp_iret dX0_busy_20 rfl ?_
    exact sm_ci cq.rf rfl
end D6
