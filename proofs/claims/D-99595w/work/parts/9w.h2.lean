/-! ===== one thing told: the plain law ===== -/
set_option maxRecDepth 100000
theorem nm_door {N : List (Nat × Nat)} {D C : Nat} {nd nc : Nat → Nat} (h : nmB N D C nd nc) {x k : Nat} (e : g_find x 0 N = some k) : k < D := ((h.2.1 x k).mp e).1
theorem nm_call {N : List (Nat × Nat)} {D C : Nat} {nd nc : Nat → Nat} (h : nmB N D C nd nc) {x k : Nat} (e : g_find x 10 N = some k) : k < C := ((h.2.2 x k).mp e).1
/-- what both sides say of one thing told -/
def oR (tk : tkf) (t : Nat) (w : Nat × Nat) (B : rb) (T' : tx) : Prop := g_must tk 4 (h_one tk t w T' B.2).1 = (g_one tk t w B).1 ∧ (h_one tk t w T' B.2).2.2 = (g_one tk t w B).2.2 ∧ ∀ t' w', (g_one tk t w B).1 = .inr (t', w') → t < t' ∧ (h_one tk t w T' B.2).2.1.1 = (g_one tk t w B).2.1.1 ∧ (tx_D (g_one tk t w B).2.1 ≤ 6 ∧ tx_C (g_one tk t w B).2.1 ≤ 5 ∧ tx_R (g_one tk t w B).2.1 ≤ 10) ∧ (w'.1 = 0 → (h_one tk t w T' B.2).2.1 = (g_one tk t w B).2.1 ∧ tok (g_one tk t w B).2.1)
section H2
variable {tk : tkf} {t : Nat} {w : Nat × Nat} {B : rb} {T' : tx} {nd nc : Nat → Nat}
theorem one_door (k20 : (tk t).1 = 20) (hc : T'.1 = B.1.1) (h0 : w.1 = 0 → T' = B.1) (hm : tx_D B.1 ≤ 6 ∧ tx_C B.1 ≤ 5 ∧ tx_R B.1 ≤ 10) (hk : w.1 = 0 → tok B.1) : oR tk t w B T' := by
  have eh : h_one tk t w T' B.2 = (g_face tk 4 (g_named tk B.2 (g_room (tx_D T') 6 (.inr (t, w)))), x_door T' (fun p => nI (tk (t + 2 + p)).2.2.1), B.2 ++ [((tk (t + 1)).2.2.2, tx_D T')]) := by
    unfold h_one
    rw [if_pos k20]
  have eg : g_one tk t w B = (g_nd tk B.2 (tx_D B.1) 6 (.inr (t, w)), x_door B.1 (fun p => nI (tk (t + 2 + p)).2.2.1), B.2 ++ [((tk (t + 1)).2.2.2, tx_D B.1)]) := by
    unfold g_one
    rw [if_pos k20]
  have eD : tx_D T' = tx_D B.1 := by unfold tx_D; rw [hc]
  unfold oR
  rw [eh, eg, eD]
  refine ⟨rfl, rfl, fun t' w' e => ?_⟩
  have e : g_nd tk B.2 (tx_D B.1) 6 (.inr (t, w)) = .inr (t', w') := e
  obtain ⟨y1, y2, y3⟩ := g_nd_inv e
  refine ⟨by omega, ?_, ⟨?_, hm.2.1, hm.2.2⟩, fun z => ?_⟩
  · show (T'.1.1 + 1, T'.1.2) = (B.1.1.1 + 1, B.1.1.2)
    rw [hc]
  · show tx_D B.1 + 1 ≤ 6
    omega
  · obtain ⟨u1, u2, u3⟩ := y3 z
    refine ⟨by rw [h0 u1], ?_⟩
    obtain ⟨k1, k2, k3, k4, k5, k6⟩ := hk u1
    have ffe : ∀ j, tx_ff (x_door B.1 (fun p => nI (tk (t + 2 + p)).2.2.1)) j = if 4 * tx_D B.1 ≤ j ∧ j < 4 * tx_D B.1 + 4 then nI (tk (t + 2 + (j - 4 * tx_D B.1))).2.2.1 else tx_ff B.1 j := fun j => rfl
    refine ⟨⟨?_, k1.2⟩, k2, fun j hj => ?_, fun r hr => ?_, k5, k6⟩
    · show tx_D B.1 + 1 ≤ 6
      omega
    · have hj : j < 4 * (tx_D B.1 + 1) := hj
      rw [ffe]
      by_cases hlt : j < 4 * tx_D B.1
      · rw [if_neg (by omega)]
        exact k3 j hlt
      · rw [if_pos (by omega)]
        exact ⟨_, u3 _ (by omega), rfl⟩
    · obtain ⟨a1, a2, a3⟩ := k4 r hr
      exact ⟨a1, Nat.lt_succ_of_lt a2, a3⟩
theorem one_caller (k21 : (tk t).1 = 21) (hc : T'.1 = B.1.1) (h0 : w.1 = 0 → T' = B.1) (hm : tx_D B.1 ≤ 6 ∧ tx_C B.1 ≤ 5 ∧ tx_R B.1 ≤ 10) (hk : w.1 = 0 → tok B.1) : oR tk t w B T' := by
  have eh : h_one tk t w T' B.2 = (g_face tk 4 (g_named tk B.2 (g_room (tx_C T') 5 (.inr (t, w)))), x_caller T' (fun p => nI (tk (t + 2 + p)).2.2.1), B.2 ++ [((tk (t + 1)).2.2.2, 10 + tx_C T')]) := by
    unfold h_one
    rw [if_neg (by omega), if_pos k21]
  have eg : g_one tk t w B = (g_nd tk B.2 (tx_C B.1) 5 (.inr (t, w)), x_caller B.1 (fun p => nI (tk (t + 2 + p)).2.2.1), B.2 ++ [((tk (t + 1)).2.2.2, 10 + tx_C B.1)]) := by
    unfold g_one
    rw [if_neg (by omega), if_pos k21]
  have eD : tx_C T' = tx_C B.1 := by unfold tx_C; rw [hc]
  unfold oR
  rw [eh, eg, eD]
  refine ⟨rfl, rfl, fun t' w' e => ?_⟩
  have e : g_nd tk B.2 (tx_C B.1) 5 (.inr (t, w)) = .inr (t', w') := e
  obtain ⟨y1, y2, y3⟩ := g_nd_inv e
  refine ⟨by omega, ?_, ⟨hm.1, ?_, hm.2.2⟩, fun z => ?_⟩
  · show (T'.1.1, T'.1.2.1 + 1, T'.1.2.2) = (B.1.1.1, B.1.1.2.1 + 1, B.1.1.2.2)
    rw [hc]
  · show tx_C B.1 + 1 ≤ 5
    omega
  · obtain ⟨u1, u2, u3⟩ := y3 z
    refine ⟨by rw [h0 u1], ?_⟩
    obtain ⟨k1, k2, k3, k4, k5, k6⟩ := hk u1
    have ffe : ∀ j, tx_cf (x_caller B.1 (fun p => nI (tk (t + 2 + p)).2.2.1)) j = if 4 * tx_C B.1 ≤ j ∧ j < 4 * tx_C B.1 + 4 then nI (tk (t + 2 + (j - 4 * tx_C B.1))).2.2.1 else tx_cf B.1 j := fun j => rfl
    refine ⟨⟨k1.1, ?_, k1.2.2⟩, fun j hj => ?_, k3, fun r hr => ?_, k5, k6⟩
    · show tx_C B.1 + 1 ≤ 5
      omega
    · have hj : j < 4 * (tx_C B.1 + 1) := hj
      rw [ffe]
      by_cases hlt : j < 4 * tx_C B.1
      · rw [if_neg (by omega)]
        exact k2 j hlt
      · rw [if_pos (by omega)]
        exact ⟨_, u3 _ (by omega), rfl⟩
    · obtain ⟨a1, a2, a3⟩ := k4 r hr
      exact ⟨Nat.lt_succ_of_lt a1, a2, a3⟩
theorem one_round (k22 : (tk t).1 = 22) (hc : T'.1 = B.1.1) (h0 : w.1 = 0 → T' = B.1) (hm : tx_D B.1 ≤ 6 ∧ tx_C B.1 ≤ 5 ∧ tx_R B.1 ≤ 10) (hN : nmB B.2 (tx_D B.1) (tx_C B.1) nd nc) (hk : w.1 = 0 → tok B.1) : oR tk t w B T' := by
  have eh : h_one tk t w T' B.2 = (g_num tk 0 29 (g_num tk 1 30 (g_known tk B.2 0 (g_known tk B.2 10 (g_room (tx_R T') 10 (.inr (t, w)))))), x_round T' (kF (tk (t + 1)).2.2.2 10 B.2, kF (tk (t + 2)).2.2.2 0 B.2, nI (tk (t + 3)).2.2.1, nI (tk (t + 4)).2.2.1), B.2) := by
    unfold h_one
    rw [if_neg (by omega), if_neg (by omega), if_pos k22]
  have eg : g_one tk t w B = (g_rnd tk B.2 (g_room (tx_R B.1) 10 (.inr (t, w))), x_round B.1 ((g_find (tk (t + 1)).2.2.2 10 B.2).getD 0, (g_find (tk (t + 2)).2.2.2 0 B.2).getD 0, nI (tk (t + 3)).2.2.1, nI (tk (t + 4)).2.2.1), B.2) := by
    unfold g_one
    rw [if_neg (by omega), if_neg (by omega), if_pos k22]
  have eD : tx_R T' = tx_R B.1 := by unfold tx_R; rw [hc]
  unfold oR
  rw [eh, eg, eD]
  refine ⟨rfl, rfl, fun t' w' e => ?_⟩
  have e : g_rnd tk B.2 (g_room (tx_R B.1) 10 (.inr (t, w))) = .inr (t', w') := e
  generalize hg : g_room (tx_R B.1) 10 (.inr (t, w)) = r1 at e
  cases r1 with
  | inl y => cases e
  | inr y =>
    obtain ⟨t1, w1⟩ := y
    obtain ⟨t0, e0, nR, q0, n0⟩ := g_room_inv hg
    cases e0
    subst q0
    obtain ⟨y1, -, -, -, y3⟩ := g_rnd_inv e
    refine ⟨by omega, ?_, ⟨hm.1, hm.2.1, ?_⟩, fun z => ?_⟩
    · show (T'.1.1, T'.1.2.1, T'.1.2.2 + 1) = (B.1.1.1, B.1.1.2.1, B.1.1.2.2 + 1)
      rw [hc]
    · show tx_R B.1 + 1 ≤ 10
      omega
    · obtain ⟨u1, ⟨ka, ea⟩, ⟨kb, eb⟩, u4, u5⟩ := y3 z
      have ea : g_find (tk (t + 1)).2.2.2 10 B.2 = some ka := ea
      have eb : g_find (tk (t + 2)).2.2.2 0 B.2 = some kb := eb
      obtain ⟨k1, k2, k3, k4, k5, k6⟩ := hk u1
      have ia := nm_call hN ea
      have ib := nm_door hN eb
      unfold kF
      rw [ea, eb, h0 u1]
      refine ⟨rfl, ⟨k1.1, k1.2.1, ?_⟩, k2, k3, fun r hr => ?_, k5, k6⟩
      · show tx_R B.1 + 1 ≤ 10
        omega
      · have hr : r < tx_R B.1 + 1 := hr
        have rde : ∀ r, (x_round B.1 ((some ka).getD 0, (some kb).getD 0, nI (tk (t + 3)).2.2.1, nI (tk (t + 4)).2.2.1)).2.2.2.1 r = if r = tx_R B.1 then (ka, kb, nI (tk (t + 3)).2.2.1, nI (tk (t + 4)).2.2.1) else B.1.2.2.2.1 r := fun r => rfl
        unfold tx_who tx_door tx_ev tx_fr
        rw [rde]
        by_cases hrr : r = tx_R B.1
        · rw [if_pos hrr]
          exact ⟨ia, ib, ⟨_, u4.1, u4.2, rfl⟩, _, u5, rfl⟩
        · rw [if_neg hrr]
          exact k4 r (by omega)
theorem one_law (k23 : 23 ≤ (tk t).1 ∧ (tk t).1 ≤ 25) (ht : t ≤ 400) (hc : T'.1 = B.1.1) (h0 : w.1 = 0 → T' = B.1) (hm : tx_D B.1 ≤ 6 ∧ tx_C B.1 ≤ 5 ∧ tx_R B.1 ≤ 10) (hk : w.1 = 0 → tok B.1) : oR tk t w B T' := by
  have eh : h_one tk t w T' B.2 = ((g_law tk (g_pass (.inr (t, w)))).1, x_law T' ((tk t).1 - 23) (g_law tk (g_pass (.inr (t, w)))).2, B.2) := by
    unfold h_one
    rw [if_neg (by omega), if_neg (by omega), if_neg (by omega), if_neg (by omega), if_neg (by omega), if_neg (by omega), if_pos k23]
  have eg : g_one tk t w B = (g_must tk 4 (g_law tk (g_pass (.inr (t, w)))).1, x_law B.1 ((tk t).1 - 23) (g_law tk (g_pass (.inr (t, w)))).2, B.2) := by
    unfold g_one
    rw [if_neg (by omega), if_neg (by omega), if_neg (by omega), if_neg (by omega), if_neg (by omega), if_neg (by omega), if_pos k23]
  unfold oR
  rw [eh, eg]
  refine ⟨rfl, rfl, fun t' w' e => ?_⟩
  have e : g_must tk 4 (g_law tk (g_pass (.inr (t, w)))).1 = .inr (t', w') := e
  obtain ⟨t1, e1, m1, n1, n2⟩ := g_must_inv e
  obtain ⟨t2, e2, ok⟩ := g_ifs_ok tk 4 _ t1 w' e1
  obtain ⟨t3, e3, m3, n3, n4⟩ := g_must_inv e2
  obtain ⟨t5, e5, n5, n6⟩ := g_pass_inv e3
  cases e5
  obtain ⟨l1, l2, l3, l4⟩ := ok (by omega)
  refine ⟨by omega, hc, hm, fun z => ⟨by rw [h0 z], ?_⟩⟩
  obtain ⟨k1, k2, k3, k4, k5, k6⟩ := hk z
  refine ⟨k1, k2, k3, k4, k5, fun i hi => ?_⟩
  show lw_wf (if i = (tk t).1 - 23 then some (g_law tk (g_pass (.inr (t, w)))).2 else tx_law B.1 i)
  by_cases hik : i = (tk t).1 - 23
  · rw [if_pos hik]
    intro ts' e' he
    have he : (g_law tk (g_pass (.inr (t, w)))).2 = (ts', e') := Option.some.inj he
    have l4 : lw_w2 (g_law tk (g_pass (.inr (t, w)))).2.1 (g_law tk (g_pass (.inr (t, w)))).2.2 := l4
    rw [he] at l4
    exact l4
  · rw [if_neg hik]
    exact k6 i hi
theorem one_num {kd hi : Nat} {f : tx → Int32 → tx} (eh : h_one tk t w T' B.2 = (g_num tk 0 hi (g_pass (.inr (t, w))), f T' (nI (tk (t + 1)).2.2.1), B.2)) (eg : g_one tk t w B = (g_ti tk hi (.inr (t, w)), f B.1 (nI (tk (t + 1)).2.2.1), B.2)) (hc : T'.1 = B.1.1) (h0 : w.1 = 0 → T' = B.1) (hm : tx_D B.1 ≤ 6 ∧ tx_C B.1 ≤ 5 ∧ tx_R B.1 ≤ 10) (hk : w.1 = 0 → tok B.1) (hf1 : ∀ T v, (f T v).1 = T.1) (hft : ∀ n, n ≤ hi → tok B.1 → tok (f B.1 (nI n))) : oR tk t w B T' := by
  unfold oR
  rw [eh, eg]
  refine ⟨rfl, rfl, fun t' w' e => ?_⟩
  have e : g_ti tk hi (.inr (t, w)) = .inr (t', w') := e
  obtain ⟨a1, a2, a3⟩ := g_ti_inv e
  refine ⟨by omega, ?_, ?_, fun z => ⟨by rw [h0 (a3 z).1], hft _ (a3 z).2 (hk (a3 z).1)⟩⟩
  · show (f T' _).1 = (f B.1 _).1
    rw [hf1, hf1, hc]
  · show (f B.1 _).1.1 ≤ 6 ∧ (f B.1 _).1.2.1 ≤ 5 ∧ (f B.1 _).1.2.2 ≤ 10
    rw [hf1]
    exact hm
theorem one_rel (ht : t ≤ 400) (hc : T'.1 = B.1.1) (h0 : w.1 = 0 → T' = B.1) (hm : tx_D B.1 ≤ 6 ∧ tx_C B.1 ≤ 5 ∧ tx_R B.1 ≤ 10) (hN : nmB B.2 (tx_D B.1) (tx_C B.1) nd nc) (hk : w.1 = 0 → tok B.1) : oR tk t w B T' := by
  by_cases k20 : (tk t).1 = 20
  · exact one_door k20 hc h0 hm hk
  by_cases k21 : (tk t).1 = 21
  · exact one_caller k21 hc h0 hm hk
  by_cases k22 : (tk t).1 = 22
  · exact one_round k22 hc h0 hm hN hk
  by_cases k26 : (tk t).1 = 26
  · refine one_num (kd := 0) (hi := 100) (f := x_wind) ?_ ?_ hc h0 hm hk (fun T v => rfl) (fun n hn z => z)
    · unfold h_one
      rw [if_neg k20, if_neg k21, if_neg k22, if_pos k26]
    · unfold g_one
      rw [if_neg k20, if_neg k21, if_neg k22, if_pos k26]
  by_cases k27 : (tk t).1 = 27
  · refine one_num (kd := 0) (hi := 396) (f := x_near) ?_ ?_ hc h0 hm hk (fun T v => rfl) (fun n hn z => ⟨z.1, z.2.1, z.2.2.1, z.2.2.2.1, ⟨n, hn, rfl⟩, z.2.2.2.2.2⟩)
    · unfold h_one
      rw [if_neg k20, if_neg k21, if_neg k22, if_neg k26, if_pos k27]
    · unfold g_one
      rw [if_neg k20, if_neg k21, if_neg k22, if_neg k26, if_pos k27]
  by_cases k28 : (tk t).1 = 28
  · refine one_num (kd := 0) (hi := 9999) (f := x_seed) ?_ ?_ hc h0 hm hk (fun T v => rfl) (fun n hn z => z)
    · unfold h_one
      rw [if_neg k20, if_neg k21, if_neg k22, if_neg k26, if_neg k27, if_pos k28]
    · unfold g_one
      rw [if_neg k20, if_neg k21, if_neg k22, if_neg k26, if_neg k27, if_pos k28]
  by_cases k23 : 23 ≤ (tk t).1 ∧ (tk t).1 ≤ 25
  · exact one_law k23 ht hc h0 hm hk
  have eh : h_one tk t w T' B.2 = (.inl (1, t), T', B.2) := by
    unfold h_one
    rw [if_neg k20, if_neg k21, if_neg k22, if_neg k26, if_neg k27, if_neg k28, if_neg k23]
  have eg : g_one tk t w B = (.inl (1, t), B) := by
    unfold g_one
    rw [if_neg k20, if_neg k21, if_neg k22, if_neg k26, if_neg k27, if_neg k28, if_neg k23]
  unfold oR
  rw [eh, eg]
  exact ⟨rfl, rfl, fun t' w' e => by cases e⟩
theorem g_all_l {tk : tkf} {x : Nat × Nat} {B : rb} : ∀ f, g_all tk f (.inl x) B = (.inl x, B)
  | 0 => rfl
  | _ + 1 => rfl
end H2
/-! the text's constructor -/
section H2b
variable {G : sm_G} {d : Nat} {I : sm_I} {ρ : sm_R}
theorem s_acinit {l : Nat} : sm_M G xJ3_init (d + 1) [.ref l] I ρ (sm_Qe none I ρ) := by
  show sm_V G xJ3_init (d + 1) 0 [.ref l] [] I ρ _
  refine wp_aload0 1 rfl dJ3_init_0 ?_
  refine wp_objInit 4 rfl dJ3_init_1 q340 (nl rfl) ?_
  refine wp_vret dJ3_init_4 rfl ?_
  exact ⟨rfl, rfl, rfl⟩
theorem s_abinit {l : Nat} (hs : ρ.2.2.1 l = (18, 0)) : sm_M G xJ4_init (d + 2) [.ref l] I ρ (sm_Qe none (sm_u I l 0 (nI 0)) ρ) := by
  show sm_V G xJ4_init (d + 2) 0 [.ref l] [] I ρ _
  refine wp_aload0 1 rfl dJ4_init_0 ?_
  refine wp_Ie0 4 rfl dJ4_init_1 kJ3_init lJ4_1 rfl (nl rfl) (nl rfl) (s_acinit) ?_
  refine wp_aload0 5 rfl dJ4_init_4 ?_
  refine wp_iconst (nI 0) 6 rfl dJ4_init_5 (by decide) ?_
  refine wp_puti 9 rfl dJ4_init_6 pJ4_7_18 (hs) (⟨rfl, rfl⟩) ?_
  refine wp_vret dJ4_init_9 rfl ?_
  exact ⟨rfl, rfl, rfl⟩
theorem s_alinit {l : Nat} (hs : ρ.2.2.1 l = (18, 0)) : sm_M G xJ5_init (d + 3) [.ref l] I ρ (sm_Qe none (sm_u I l 0 (nI 0)) (ρ.1, sm_up ρ.2.1 l 1 (some 44), ρ.2.2)) := by
  show sm_V G xJ5_init (d + 3) 0 [.ref l] [] I ρ _
  refine wp_aload0 1 rfl dJ5_init_0 ?_
  refine wp_Ie0 4 rfl dJ5_init_1 kJ4_init lJ5_1 rfl (nl rfl) (nl rfl) (s_abinit hs) ?_
  refine wp_aload0 5 rfl dJ5_init_4 ?_
  refine wp_gets (v := .ref 44) 8 rfl dJ5_init_5 q341 (fun s h => h.2.2.2.1.1) ?_
  refine wp_putr 11 rfl dJ5_init_8 pJ5_9_18 (hs) (fun q => ⟨rfl, rfl⟩) ?_
  refine wp_vret dJ5_init_11 rfl ?_
  exact ⟨rfl, rfl, rfl⟩
/-- an empty list is made and told to its owner -/
theorem xi_list {Q : sm_O → sm_I → sm_R → Prop} {a n k ix p : Nat} {ty : FieldType} (hs : ρ.2.2.1 a = (5, 0)) (ha : a < n) (hn : ρ.2.2.2.1 + 64 = n) (p1 p2 p3 p4 : Nat) (h1 : p + 3 = p1) (h2 : p1 + 1 = p2) (h3 : p2 + 3 = p3) (h4 : p3 + 3 = p4) (d1 : decode xX4_init.2.1 p = .ok (.new 9, 3)) (d2 : decode xX4_init.2.1 p1 = .ok (.dup, 1)) (d3 : decode xX4_init.2.1 p2 = .ok (.invokespecial 11, 3)) (d4 : decode xX4_init.2.1 p3 = .ok (.putfield ix, 3)) (hfp : sm_FP RX4 ix 5 k 2 ty true) (hnf : ∀ q : Nat, narrow ty (.ref q) = .ref q ∧ fits ty (.ref q) = true)
    (kk : ∀ I1 ρ1, gF pNo (fun x => x = a) I ρ I1 ρ1 → (ρ1.2.2.2.1 = ρ.2.2.2.1 + 1 ∧ ρ1.2.2.2.2 = ρ.2.2.2.2 + 3) → ρ1.2.2.1 n = (18, 0) → I1 n 2 = nI 0 → ρ1.2.1 n 1 = some 44 → ρ1.2.1 a k = some n → (∀ j, ¬ j = k → ρ1.2.1 a j = ρ.2.1 a j) → sm_V G xX4_init (d + 4) p4 [.ref a] [] I1 ρ1 Q) : sm_V G xX4_init (d + 4) p [.ref a] [.ref a] I ρ Q := by
  refine wp_new p1 h1 d1 nX4_9 n hn ?_
  refine wp_dup p2 h2 d2 rfl ?_
  have fN : gF pNo pNo I ρ (sm_zI I (ρ.2.2.2.1 + 64)) (sm_nR ρ 18 0 3) := gF.nw _ _ _
  rw [hn] at fN
  have sN : (sm_nR ρ 18 0 3).2.2.1 n = (18, 0) := by rw [← hn]; exact sm_nR_at
  have sa : (sm_nR ρ 18 0 3).2.2.1 a = (5, 0) := (fN.eS (by omega)).trans hs
  refine wp_Ie0 p3 h3 d3 kJ5_init lX4_11 rfl (nl rfl) (nl rfl) (s_alinit sN) ?_
  refine wp_putrF p4 h4 d4 rfl hfp sa hnf ?_
  refine kk _ _ ?_ ⟨rfl, rfl⟩ sN ?_ ?_ ?_ (fun j hj => ?_)
  · refine ((fN.wk (A := pNo) (B := fun x => x = a) (fun _ _ z => z) (fun _ _ z => z.elim)).tr (gF.u (B := pNo) (a := n) (k := 0) (v := nI 0)) (fun x hx z => absurd z (by omega)) (fun _ _ z => z.elim)).tr (?_ : gF pNo (fun x => x = a ∨ x = n) _ _ _ _) (fun _ _ z => z) (fun x hx z => z.resolve_right (by omega))
    exact ((gF.p (A := pNo)).wk (A := pNo) (B := fun x => x = a ∨ x = n) (fun _ _ z => z) (fun _ _ z => Or.inr z)).tr (gF.p (A := pNo)) (fun _ _ z => z) (fun _ _ z => Or.inl z)
  · rw [sm_u_eq, pk_un (by decide), sm_zI_eq]
    rfl
  · show sm_up (sm_up (sm_nR ρ 18 0 3).2.1 n 1 (some 44)) a k (some n) n 1 = _
    rw [sm_up_ne _ _ _ (by omega), sm_up_eq]
    unfold va_up
    rw [if_pos rfl]
  · show sm_up (sm_up (sm_nR ρ 18 0 3).2.1 n 1 (some 44)) a k (some n) a k = _
    rw [sm_up_eq]
    unfold va_up
    rw [if_pos rfl]
  · show sm_up (sm_up (sm_nR ρ 18 0 3).2.1 n 1 (some 44)) a k (some n) a j = _
    rw [sm_up_eq]
    unfold va_up
    rw [if_neg hj, sm_up_ne _ _ _ (by omega), fN.eP (by omega) (fun z => z)]
/-- a text's cells when it was made -/
def x0F (I : sm_I) (ρ : sm_R) (a : Nat) : Prop := ρ.2.2.1 a = (5, 0) ∧ (ρ.2.1 a 0 = some (a + 1) ∧ ρ.2.1 a 1 = some (a + 2) ∧ ρ.2.1 a 2 = some (a + 3) ∧ ρ.2.1 a 3 = some (a + 4)) ∧ (ρ.2.2.1 (a + 1) = (18, 0) ∧ ρ.2.2.1 (a + 2) = (18, 0) ∧ ρ.2.2.1 (a + 3) = (18, 0) ∧ ρ.2.2.1 (a + 4) = (109, 3)) ∧ (I (a + 1) 2 = nI 0 ∧ I (a + 2) 2 = nI 0 ∧ I (a + 3) 2 = nI 0) ∧ (ρ.2.1 (a + 1) 1 = some 44 ∧ ρ.2.1 (a + 2) 1 = some 44 ∧ ρ.2.1 (a + 3) 1 = some 44) ∧ (∀ k, ρ.2.1 (a + 4) k = none) ∧ I a 4 = nI 0 ∧ I a 5 = nI 40 ∧ I a 6 = nI 0
theorem s_xinit {a : Nat} (hs : ρ.2.2.1 a = (5, 0)) (ha : ρ.2.2.2.1 + 64 = a + 1) (hI : I a = fun _ => 0) : sm_M G xX4_init (d + 4) [.ref a] I ρ (sm_Qv (fun I1 ρ1 => (ρ1.2.2.2.1 = ρ.2.2.2.1 + 4 ∧ ρ1.2.2.2.2 = ρ.2.2.2.2 + 12) ∧ gF (fun x => x = a) (fun x => x = a) I ρ I1 ρ1 ∧ x0F I1 ρ1 a)) := by
  show sm_V G xX4_init (d + 4) 0 [.ref a] [] I ρ _
  refine wp_aload0 1 rfl dX4_init_0 ?_
  refine wp_objInit 4 rfl dX4_init_1 q328 (nl rfl) ?_
  refine wp_aload0 5 rfl dX4_init_4 ?_
  refine xi_list hs (by omega) ha 8 9 12 15 rfl rfl rfl rfl dX4_init_5 dX4_init_8 dX4_init_9 dX4_init_12 pX4_12_5 (fun q => ⟨rfl, rfl⟩) (fun I1 ρ1 f1 z1 s1 v1 e1 p1 k1 => ?_)
  obtain ⟨z11, z12⟩ := z1
  refine wp_aload0 16 rfl dX4_init_15 ?_
  refine xi_list (n := a + 2) ((f1.eS (by omega)).trans hs) (by omega) (by omega) 19 20 23 26 rfl rfl rfl rfl dX4_init_16 dX4_init_19 dX4_init_20 dX4_init_23 pX4_18_5 (fun q => ⟨rfl, rfl⟩) (fun I2 ρ2 f2 z2 s2 v2 e2 p2 k2 => ?_)
  obtain ⟨z21, z22⟩ := z2
  refine wp_aload0 27 rfl dX4_init_26 ?_
  refine xi_list (n := a + 3) ((f2.eS (by omega)).trans ((f1.eS (by omega)).trans hs)) (by omega) (by omega) 30 31 34 37 rfl rfl rfl rfl dX4_init_27 dX4_init_30 dX4_init_31 dX4_init_34 pX4_21_5 (fun q => ⟨rfl, rfl⟩) (fun I3 ρ3 f3 z3 s3 v3 e3 p3 k3 => ?_)
  obtain ⟨z31, z32⟩ := z3
  have sa3 : ρ3.2.2.1 a = (5, 0) := (f3.eS (by omega)).trans ((f2.eS (by omega)).trans ((f1.eS (by omega)).trans hs))
  refine wp_aload0 38 rfl dX4_init_37 ?_
  refine wp_iconst (nI 3) 39 rfl dX4_init_38 (by decide) ?_
  refine wp_newq (t := 9) (N := 3) 42 rfl dX4_init_39 q355 q356 rfl (by decide) (by first | rfl | simp only [pk_mul, nI_add]) (by omega) (a + 4) ((by omega)) ?_
  have fN : gF pNo pNo I3 ρ3 (sm_zI I3 (ρ3.2.2.2.1 + 64)) (sm_nR ρ3 109 3 3) := gF.nw _ _ _
  rw [show ρ3.2.2.2.1 + 64 = a + 4 by omega] at fN
  have sN : (sm_nR ρ3 109 3 3).2.2.1 (a + 4) = (109, 3) := by
    rw [← show ρ3.2.2.2.1 + 64 = a + 4 by omega]
    exact sm_nR_at
  have pN : (sm_nR ρ3 109 3 3).2.1 (a + 4) = fun _ => none := if_pos (by omega)
  have sa4 : (sm_nR ρ3 109 3 3).2.2.1 a = (5, 0) := (fN.eS (by omega)).trans sa3
  refine wp_putrF 45 rfl dX4_init_42 rfl pX4_26_5 sa4 (fun q => ⟨rfl, rfl⟩) ?_
  refine wp_aload0 46 rfl dX4_init_45 ?_
  refine wp_bipush (nI 40) 48 rfl dX4_init_46 (by decide) ?_
  refine wp_puti 51 rfl dX4_init_48 pX4_30_5 (sa4) (⟨rfl, rfl⟩) ?_
  refine wp_vret dX4_init_51 rfl ?_
  have fP : gF pNo (fun x => x = a) (sm_zI I3 (a + 4)) (sm_nR ρ3 109 3 3) (sm_zI I3 (a + 4)) ((sm_nR ρ3 109 3 3).1, sm_up (sm_nR ρ3 109 3 3).2.1 a 3 (some (a + 4)), (sm_nR ρ3 109 3 3).2.2) := gF.p
  have f4 : gF (fun x => x = a) (fun x => x = a) I3 ρ3 (sm_u (sm_zI I3 (a + 4)) a 5 (nI 40)) ((sm_nR ρ3 109 3 3).1, sm_up (sm_nR ρ3 109 3 3).2.1 a 3 (some (a + 4)), (sm_nR ρ3 109 3 3).2.2) := ((fN.wk (A := fun x => x = a) (B := fun x => x = a) (fun _ _ z => z.elim) (fun _ _ z => z.elim)).tr fP (fun _ _ z => z.elim) (fun _ _ z => z)).tr (gF.u (B := pNo)) (fun _ _ z => z) (fun _ _ z => z.elim)
  have pa : ∀ j, ¬ j = 3 → sm_up (sm_nR ρ3 109 3 3).2.1 a 3 (some (a + 4)) a j = ρ3.2.1 a j := fun j hj => by
    rw [sm_up_eq]
    unfold va_up
    rw [if_neg hj, fN.eP (by omega) (fun z => z)]
  have ia : sm_zI I3 (a + 4) a = fun _ => 0 := by rw [fN.eI (by omega) (fun z => z), f3.eI (by omega) (fun z => z), f2.eI (by omega) (fun z => z), f1.eI (by omega) (fun z => z), hI]
  have i12 : I2 (a + 1) = I1 (a + 1) := f2.eI (by omega) (fun z => z)
  have i13 : I3 (a + 1) = I2 (a + 1) := f3.eI (by omega) (fun z => z)
  have i23 : I3 (a + 2) = I2 (a + 2) := f3.eI (by omega) (fun z => z)
  have q12 : ρ2.2.1 (a + 1) = ρ1.2.1 (a + 1) := f2.eP (by omega) (by omega)
  have q13 : ρ3.2.1 (a + 1) = ρ2.2.1 (a + 1) := f3.eP (by omega) (by omega)
  have q23 : ρ3.2.1 (a + 2) = ρ2.2.1 (a + 2) := f3.eP (by omega) (by omega)
  refine ⟨rfl, ⟨by show ρ3.2.2.2.1 + 1 = _; omega, by show ρ3.2.2.2.2 + 3 = _; omega⟩, ?_, sa4, ⟨?_, ?_, ?_, ?_⟩, ⟨?_, ?_, ?_, sN⟩, ⟨?_, ?_, ?_⟩, ⟨?_, ?_, ?_⟩, fun k => ?_, ?_, ?_, ?_⟩
  · exact (((f1.wk (A := fun x => x = a) (B := fun x => x = a) (fun _ _ z => z.elim) (fun _ _ z => z)).tr f2 (fun _ _ z => z.elim) (fun _ _ z => z)).tr f3 (fun _ _ z => z.elim) (fun _ _ z => z)).tr f4 (fun _ _ z => z) (fun _ _ z => z)
  · exact (pa 0 (by decide)).trans ((k3 0 (by decide)).trans ((k2 0 (by decide)).trans p1))
  · exact (pa 1 (by decide)).trans ((k3 1 (by decide)).trans p2)
  · exact (pa 2 (by decide)).trans p3
  · show sm_up (sm_nR ρ3 109 3 3).2.1 a 3 (some (a + 4)) a 3 = _
    rw [sm_up_eq]
    unfold va_up
    rw [if_pos rfl]
  · exact (f4.eS (by omega)).trans ((f3.eS (by omega)).trans ((f2.eS (by omega)).trans s1))
  · exact (f4.eS (by omega)).trans ((f3.eS (by omega)).trans s2)
  · exact (f4.eS (by omega)).trans s3
  · rw [f4.eI (by omega) (by omega), i13, i12]; exact v1
  · rw [f4.eI (by omega) (by omega), i23]; exact v2
  · rw [f4.eI (by omega) (by omega)]; exact v3
  · rw [f4.eP (by omega) (by omega), q13, q12]; exact e1
  · rw [f4.eP (by omega) (by omega), q23]; exact e2
  · rw [f4.eP (by omega) (by omega)]; exact e3
  · show sm_up (sm_nR ρ3 109 3 3).2.1 a 3 (some (a + 4)) (a + 4) k = _
    rw [sm_up_ne _ _ _ (by omega), pN]
  · rw [sm_u_eq, pk_un (by decide), ia]; rfl
  · rw [sm_u_eq, pk_us]
  · rw [sm_u_eq, pk_un (by decide), ia]; rfl
theorem x0F.bT {a : Nat} (h : x0F I ρ a) (ha : 943 ≤ a) (hn : a + 4 < ρ.2.2.2.1 + 64) : bT I ρ a ((44, 44, 44), fun _ => 0, fun _ => 0, fun _ => 0, fun _ => 0, fun _ => 0, fun _ => 0, fun _ => 0) (fun _ => 0) (fun _ => 0) x_0 := by
  obtain ⟨h1, h2, ⟨h3, h4, h5, h6⟩, ⟨v1, v2, v3⟩, ⟨e1, e2, e3⟩, hl, n4, n5, n6⟩ := h
  exact ⟨⟨ha, hn, h1, h2, h3, h4, h5, h6⟩, ⟨⟨v1, e1, Or.inl ⟨rfl, rfl⟩, by decide, fun i hi => absurd hi (Nat.not_lt_zero _)⟩, ⟨v2, e2, Or.inl ⟨rfl, rfl⟩, by decide, fun i hi => absurd hi (Nat.not_lt_zero _)⟩, ⟨v3, e3, Or.inl ⟨rfl, rfl⟩, by decide, fun i hi => absurd hi (Nat.not_lt_zero _)⟩, Or.inl rfl, Or.inl rfl, Or.inl rfl⟩, fun i hi => absurd hi (Nat.not_lt_zero _), fun i hi => absurd hi (Nat.not_lt_zero _), fun i hi => absurd hi (Nat.not_lt_zero _), ⟨n4, n5, n6⟩, fun k hk => hl k⟩
/-- the first text of all -/
theorem x0F.cT {a : Nat} (h : x0F I ρ a) (ha : ∀ k, k ≤ 4 → tA (a + k)) : cT I ρ a ((a + 1, a + 2, a + 3, a + 4), fun _ => 0, fun _ => 0, fun _ => 0, fun _ => 0, fun _ => 0) x_0 := by
  obtain ⟨h1, h2, ⟨h3, h4, h5, h6⟩, ⟨v1, v2, v3⟩, ⟨e1, e2, e3⟩, hl, n4, n5, n6⟩ := h
  exact ⟨⟨h1, ha 0 (by decide)⟩, h2, ⟨⟨⟨h3, ha 1 (by decide)⟩, v1, 44, 0, e1, Or.inl ⟨rfl, rfl⟩, by decide, fun i hi => absurd hi (Nat.not_lt_zero _)⟩, ⟨⟨h4, ha 2 (by decide)⟩, v2, 44, 0, e2, Or.inl ⟨rfl, rfl⟩, by decide, fun i hi => absurd hi (Nat.not_lt_zero _)⟩, ⟨⟨h5, ha 3 (by decide)⟩, v3, 44, 0, e3, Or.inl ⟨rfl, rfl⟩, by decide, fun i hi => absurd hi (Nat.not_lt_zero _)⟩⟩, fun i hi => absurd hi (Nat.not_lt_zero _), fun i hi => absurd hi (Nat.not_lt_zero _), fun i hi => absurd hi (Nat.not_lt_zero _), ⟨n4, n5, n6⟩, h6, fun k hk => hl k⟩
end H2b
