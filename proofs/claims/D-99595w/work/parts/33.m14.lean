/-! ===== flat, richest, round, towards, twins, confused, calls, busy ===== -/
set_option maxRecDepth 100000
theorem i_add0 (a : Int32) : a + nI 0 = a := by
  rw [show nI 0 = (0 : Int32) from rfl]
  simp
/-- pairs, the first of the least -/
def z_pS (f : Nat → Nat → Int32) (s : Option (Nat × Nat)) (a b : Nat) : Option (Nat × Nat) := match s with
  | none => some (a, b)
  | some (i, j) => if f a b < f i j then some (a, b) else some (i, j)
def z_pI (f : Nat → Nat → Int32) (a : Nat) (s : Option (Nat × Nat)) : Nat → Option (Nat × Nat)
  | 0 => s
  | k + 1 => z_pS f (z_pI f a s k) a (a + 1 + k)
def z_pO (f : Nat → Nat → Int32) (n : Nat) : Nat → Option (Nat × Nat)
  | 0 => none
  | a + 1 => z_pI f a (z_pO f n a) (n - (a + 1))
def z_pb (s : Option (Nat × Nat)) : Int32 := match s with
  | none => -2
  | some (i, j) => nI (10 * i + j)
def z_pl (f : Nat → Nat → Int32) (s : Option (Nat × Nat)) : Int32 := match s with
  | none => -2
  | some (i, j) => f i j
def z_pok (N : Nat) (s : Option (Nat × Nat)) : Prop := ∀ i j, s = some (i, j) → i < N ∧ j < N
theorem z_pok_S {f : Nat → Nat → Int32} {N : Nat} {s : Option (Nat × Nat)} (h : z_pok N s) {a b : Nat} (ha : a < N) (hb : b < N) : z_pok N (z_pS f s a b) := by
  intro i j e
  unfold z_pS at e
  match s, h, e with
  | none, _, e => cases e; exact ⟨ha, hb⟩
  | some (i', j'), h, e =>
    simp only [] at e
    split at e
    · cases e; exact ⟨ha, hb⟩
    · cases e; exact h _ _ rfl
theorem z_pok_I {f : Nat → Nat → Int32} {N a : Nat} {s : Option (Nat × Nat)} (h : z_pok N s) (ha : a < N) : ∀ k, a + 1 + k ≤ N → z_pok N (z_pI f a s k)
  | 0, _ => h
  | k + 1, hk => z_pok_S (z_pok_I h ha k (by omega)) ha (by omega)
theorem z_pok_O {f : Nat → Nat → Int32} {N : Nat} : ∀ a, a ≤ N → z_pok N (z_pO f N a)
  | 0, _ => fun i j e => by cases e
  | a + 1, ha => z_pok_I (z_pok_O a (by omega)) (by omega) _ (by omega)
def r_dap (w : Nat → Int32) (a b : Nat) : Int32 := z_sum (fun p => z_off (w (4 * a + p)) (w (4 * b + p))) 4
def o_twins (T : tx) (w : Nat → Int32) (what : Int32) : Int32 := match z_ix what 2 with
  | none => -1
  | some k => if k = 0 then z_pb (z_pO (r_dap w) (tx_D T) (tx_D T)) else z_pl (r_dap w) (z_pO (r_dap w) (tx_D T) (tx_D T))
def o_confused (T : tx) (what : Int32) : Int32 := match z_ix what 2 with
  | none => -1
  | some k => if k = 0 then z_pb (z_pO (r_dap (tx_cf T)) (tx_C T) (tx_C T)) else z_pl (r_dap (tx_cf T)) (z_pO (r_dap (tx_cf T)) (tx_C T) (tx_C T))
/-- how often a round will be due -/
def r_times (T : tx) (w : Nat → Int32) (r n : Nat) : Int32 := z_sum (fun k => if w (54 + r) = nI 1 ∧ z_due (tx_fr T r) (tx_ev T r) (w 69 + nI k) then nI 1 else nI 0) n
def o_calls (T : tx) (w : Nat → Int32) (x n : Int32) : Int32 := match z_ix x (tx_D T) with
  | none => -1
  | some d => match z_iv n 1 60 with
    | none => -1
    | some n => z_sum (fun r => if tx_door T r = d then r_times T w r n else nI 0) (tx_R T)
section M14
variable {G : sm_G} {d : Nat} {I : sm_I} {ρ : sm_R}
theorem s_doorsApart (hm : md ρ) (a b : Nat) (ha : a < 6) (hb : b < 6) : sm_M G xX10_doorsApart (d + 1) [.ref mM, .int (nI a), .int (nI b)] I ρ (sm_Qe (some (.int (r_dap (I m_now) a b))) I ρ) := by
  show sm_V G xX10_doorsApart (d + 1) 0 [.ref mM, .int (nI a), .int (nI b), .retAddr 0, .retAddr 0] [] I ρ _
  refine wp_iconst (nI 0) 1 rfl dX10_doorsApart_0 (by decide) ?_
  refine wp_istore3 2 rfl dX10_doorsApart_1 (by decide) rfl ?_
  refine wp_iconst (nI 0) 3 rfl dX10_doorsApart_2 (by decide) ?_
  refine wp_istore4 5 rfl dX10_doorsApart_3 (by decide) rfl ?_
  refine sm_for (P := fun p => sm_V G xX10_doorsApart (d + 1) 5 [.ref mM, .int (nI a), .int (nI b), .int (z_sum (fun p => z_off (I m_now (4 * a + p)) (I m_now (4 * b + p))) p), .int (nI p)] [] I ρ _) 0 4 (nl rfl) ?_ (fun p _ hp ih => ?_)
  · refine wp_iload4 7 rfl dX10_doorsApart_5 ?_
    refine wp_iconst (nI 4) 8 rfl dX10_doorsApart_7 (by decide) ?_
    refine wp_icmp_ge 11 45 rfl rfl dX10_doorsApart_8 (fun c8 => ?_) (fun c8 => absurd (nI_le (Nat.le_refl 4) (by decide)) c8)
    refine wp_iload3 46 rfl dX10_doorsApart_45 ?_
    refine wp_iret dX10_doorsApart_46 rfl ?_
    exact sm_ei rfl
  · refine wp_iload4 7 rfl dX10_doorsApart_5 ?_
    refine wp_iconst (nI 4) 8 rfl dX10_doorsApart_7 (by decide) ?_
    refine wp_icmp_ge 11 45 rfl rfl dX10_doorsApart_8 (fun c8 => absurd c8 (nI_ge hp (by decide))) (fun c8 => ?_)
    refine wp_iload3 12 rfl dX10_doorsApart_11 ?_
    refine wp_aload0 13 rfl dX10_doorsApart_12 ?_
    refine wp_getr 16 rfl dX10_doorsApart_13 fX10_119_10 (md_M hm) (mp_now hm) ?_
    refine wp_iconst (nI 4) 17 rfl dX10_doorsApart_16 (by decide) ?_
    refine wp_iload1 18 rfl dX10_doorsApart_17 ?_
    refine wp_imul 19 rfl dX10_doorsApart_18 ?_
    refine wp_iload4 21 rfl dX10_doorsApart_19 ?_
    refine wp_iadd 22 rfl dX10_doorsApart_21 ?_
    refine wp_iald 23 rfl dX10_doorsApart_22 (ms_now hm) (4 * a + p) (by first | rfl | simp only [pk_mul, nI_add]) (⟨by omega, by decide⟩) ?_
    refine wp_aload0 24 rfl dX10_doorsApart_23 ?_
    refine wp_getr 27 rfl dX10_doorsApart_24 fX10_119_10 (md_M hm) (mp_now hm) ?_
    refine wp_iconst (nI 4) 28 rfl dX10_doorsApart_27 (by decide) ?_
    refine wp_iload2 29 rfl dX10_doorsApart_28 ?_
    refine wp_imul 30 rfl dX10_doorsApart_29 ?_
    refine wp_iload4 32 rfl dX10_doorsApart_30 ?_
    refine wp_iadd 33 rfl dX10_doorsApart_32 ?_
    refine wp_iald 34 rfl dX10_doorsApart_33 (ms_now hm) (4 * b + p) (by first | rfl | simp only [pk_mul, nI_add]) (⟨by omega, by decide⟩) ?_
    refine wp_Se2 37 rfl dX10_doorsApart_34 kX10_off lX10_336 (nl rfl) (nl rfl) (s_off _ _) ?_
    refine wp_iadd 38 rfl dX10_doorsApart_37 ?_
    refine wp_istore3 39 rfl dX10_doorsApart_38 (by decide) rfl ?_
    refine wp_iincN4 42 rfl dX10_doorsApart_39 (by decide) rfl ?_
    refine wp_goto 5 rfl dX10_doorsApart_42 ?_
    exact ih
theorem s_callersApart (hm : md ρ) (lv : Nat) (T : tx) (hT : mT I lv T) (ht : tok T) (a b : Nat) (ha : a < tx_C T) (hb : b < tx_C T) : sm_M G xX10_callersApart (d + 1) [.ref mM, .int (nI a), .int (nI b)] I ρ (sm_Qe (some (.int (r_dap (tx_cf T) a b))) I ρ) := by
  show sm_V G xX10_callersApart (d + 1) 0 [.ref mM, .int (nI a), .int (nI b), .retAddr 0, .retAddr 0] [] I ρ _
  have h1 := ht.1
  have ecf : ∀ c p, c < tx_C T → p < 4 → I m_faceOf (20 * lv + 4 * c + p) = tx_cf T (4 * c + p) := fun c p hc hp => by rw [Nat.add_assoc]; exact hT.2.2.1 _ (by omega)
  refine wp_iconst (nI 0) 1 rfl dX10_callersApart_0 (by decide) ?_
  refine wp_istore3 2 rfl dX10_callersApart_1 (by decide) rfl ?_
  refine wp_iconst (nI 0) 3 rfl dX10_callersApart_2 (by decide) ?_
  refine wp_istore4 5 rfl dX10_callersApart_3 (by decide) rfl ?_
  refine sm_for (P := fun p => sm_V G xX10_callersApart (d + 1) 5 [.ref mM, .int (nI a), .int (nI b), .int (z_sum (fun p => z_off (tx_cf T (4 * a + p)) (tx_cf T (4 * b + p))) p), .int (nI p)] [] I ρ _) 0 4 (nl rfl) ?_ (fun p _ hp ih => ?_)
  · refine wp_iload4 7 rfl dX10_callersApart_5 ?_
    refine wp_iconst (nI 4) 8 rfl dX10_callersApart_7 (by decide) ?_
    refine wp_icmp_ge 11 37 rfl rfl dX10_callersApart_8 (fun c8 => ?_) (fun c8 => absurd (nI_le (Nat.le_refl 4) (by decide)) c8)
    refine wp_iload3 38 rfl dX10_callersApart_37 ?_
    refine wp_iret dX10_callersApart_38 rfl ?_
    exact sm_ei rfl
  · refine wp_iload4 7 rfl dX10_callersApart_5 ?_
    refine wp_iconst (nI 4) 8 rfl dX10_callersApart_7 (by decide) ?_
    refine wp_icmp_ge 11 37 rfl rfl dX10_callersApart_8 (fun c8 => absurd c8 (nI_ge hp (by decide))) (fun c8 => ?_)
    refine wp_iload3 12 rfl dX10_callersApart_11 ?_
    refine wp_aload0 13 rfl dX10_callersApart_12 ?_
    refine wp_iload1 14 rfl dX10_callersApart_13 ?_
    refine wp_iload4 16 rfl dX10_callersApart_14 ?_
    refine wp_Ve2 19 rfl dX10_callersApart_16 kX10_facePart lX10_333 (md_M hm) (nl rfl) (nl rfl) (s_facePart hm lv a p hT.1.1 hT.1.2 (by omega) hp) ?_
    refine wp_aload0 20 rfl dX10_callersApart_19 ?_
    refine wp_iload2 21 rfl dX10_callersApart_20 ?_
    refine wp_iload4 23 rfl dX10_callersApart_21 ?_
    refine wp_Ve2 26 rfl dX10_callersApart_23 kX10_facePart lX10_333 (md_M hm) (nl rfl) (nl rfl) (s_facePart hm lv b p hT.1.1 hT.1.2 (by omega) hp) ?_
    refine wp_Se2 29 rfl dX10_callersApart_26 kX10_off lX10_336 (nl rfl) (nl rfl) (s_off _ _) ?_
    refine wp_iadd 30 rfl dX10_callersApart_29 ?_
    refine wp_istore3 31 rfl dX10_callersApart_30 (by decide) rfl ?_
    refine wp_iincN4 34 rfl dX10_callersApart_31 (by decide) rfl ?_
    refine wp_goto 5 rfl dX10_callersApart_34 ?_
    rw [ecf a p ha hp, ecf b p hb hp]
    exact ih
theorem q_twins (hm : md ρ) (lv : Nat) (T : tx) (w : Nat → Int32) (hS : mS I lv T w) (what : Int32) : sm_M G xX10_twins (d + 2) [.ref mM, .int what] I ρ (mPost I ρ (o_twins T w what)) := by
  show sm_V G xX10_twins (d + 2) 0 [.ref mM, .int what, .retAddr 0, .retAddr 0, .retAddr 0, .retAddr 0] [] I ρ _
  have h1 := hS.2.1.1
  have hT := hS.1
  have ht := hS.2.1
  have hnow := hS.2.2.1
  refine wp_iload1 1 rfl dX10_twins_0 ?_
  refine wp_iconst (nI 0) 2 rfl dX10_twins_1 (by decide) ?_
  refine wp_iconst (nI 1) 3 rfl dX10_twins_2 (by decide) ?_
  refine wp_Se3 6 rfl dX10_twins_3 kX10_in lX10_313 (nl rfl) (nl rfl) (s_in _ _ _) ?_
  refine wp_if_ne 9 11 rfl rfl dX10_twins_6 (fun c6 => ?_) (fun c6 => ?_)
  · obtain ⟨k, hk, rfl⟩ := (z_in_lo rfl (by omega)).mp (z_b_ne.mp c6)
    have e9 : o_twins T w (nI k) = if k = 0 then z_pb (z_pO (r_dap w) (tx_D T) (tx_D T)) else z_pl (r_dap w) (z_pO (r_dap w) (tx_D T) (tx_D T)) := by
      unfold o_twins
      rw [z_ix_n hk (by omega)]
    rw [e9]
    refine wp_bipush (-2) 13 rfl dX10_twins_11 (by decide) ?_
    refine wp_istore2 14 rfl dX10_twins_13 (by decide) rfl ?_
    refine wp_bipush (-2) 16 rfl dX10_twins_14 (by decide) ?_
    refine wp_istore3 17 rfl dX10_twins_16 (by decide) rfl ?_
    refine wp_iconst (nI 0) 18 rfl dX10_twins_17 (by decide) ?_
    refine wp_istore4 20 rfl dX10_twins_18 (by decide) rfl ?_
    refine sm_for (P := fun a => sm_V G xX10_twins (d + 2) 20 [.ref mM, .int (nI k), .int (z_pb (z_pO (r_dap w) (tx_D T) a)), .int (z_pl (r_dap w) (z_pO (r_dap w) (tx_D T) a)), .int (nI a), .retAddr 0] [] I ρ _) 0 (tx_D T) (Nat.zero_le _) ?_ (fun a _ ha ih => ?_)
    · refine wp_iload4 22 rfl dX10_twins_20 ?_
      refine wp_aload0 23 rfl dX10_twins_22 ?_
      refine wp_getr 26 rfl dX10_twins_23 fX10_46_10 (md_M hm) (mp_doors hm) ?_
      refine wp_aload0 27 rfl dX10_twins_26 ?_
      refine wp_geti 30 rfl dX10_twins_27 fX10_233_10 (md_M hm) ?_
      refine wp_iald 31 rfl dX10_twins_30 (ms_doors hm) (lv) (hT.1.1) (⟨hT.1.2, by decide⟩) ?_
      refine wp_icmp_ge 34 103 rfl rfl dX10_twins_31 (fun c31 => ?_) (fun c31 => absurd (by rw [hT.2.1.1]; exact nI_le (Nat.le_refl _) (by omega)) c31)
      refine wp_iload1 104 rfl dX10_twins_103 ?_
      by_cases hk0 : k = 0
      · rw [if_pos hk0]
        refine wp_if_ne 107 111 rfl rfl dX10_twins_104 (fun c104 => absurd (by rw [hk0]; rfl) c104) (fun c104 => ?_)
        refine wp_iload2 108 rfl dX10_twins_107 ?_
        refine wp_goto 112 rfl dX10_twins_108 ?_
        refine wp_iret dX10_twins_112 rfl ?_
        exact sm_qi (mq.rf hS.2.2.2.2) rfl
      · rw [if_neg hk0]
        refine wp_if_ne 107 111 rfl rfl dX10_twins_104 (fun c104 => ?_) (fun c104 => absurd c104 (nI_ne0 (by omega) (by omega)))
        refine wp_iload3 112 rfl dX10_twins_111 ?_
        refine wp_iret dX10_twins_112 rfl ?_
        exact sm_qi (mq.rf hS.2.2.2.2) rfl
    · have hok := z_pok_O (f := (r_dap w)) (N := tx_D T) a (by omega)
      have eO : z_pO (r_dap w) (tx_D T) (a + 1) = z_pI (r_dap w) a (z_pO (r_dap w) (tx_D T) a) (tx_D T - (a + 1)) := rfl
      rw [eO] at ih
      generalize z_pO (r_dap w) (tx_D T) a = s0 at hok ih ⊢
      refine wp_iload4 22 rfl dX10_twins_20 ?_
      refine wp_aload0 23 rfl dX10_twins_22 ?_
      refine wp_getr 26 rfl dX10_twins_23 fX10_46_10 (md_M hm) (mp_doors hm) ?_
      refine wp_aload0 27 rfl dX10_twins_26 ?_
      refine wp_geti 30 rfl dX10_twins_27 fX10_233_10 (md_M hm) ?_
      refine wp_iald 31 rfl dX10_twins_30 (ms_doors hm) (lv) (hT.1.1) (⟨hT.1.2, by decide⟩) ?_
      refine wp_icmp_ge 34 103 rfl rfl dX10_twins_31 (fun c31 => absurd c31 (by rw [hT.2.1.1]; exact nI_ge ha (by omega))) (fun c31 => ?_)
      refine wp_iload4 36 rfl dX10_twins_34 ?_
      refine wp_iconst (nI 1) 37 rfl dX10_twins_36 (by decide) ?_
      refine wp_iadd 38 rfl dX10_twins_37 ?_
      refine wp_istore5 40 rfl dX10_twins_38 (by decide) rfl ?_
      rw [nI_add]
      suffices hin : ∀ b, a + 1 ≤ b → b ≤ tx_D T → sm_V G xX10_twins (d + 2) 40 [.ref mM, .int (nI k), .int (z_pb (z_pI (r_dap w) a s0 (b - (a + 1)))), .int (z_pl (r_dap w) (z_pI (r_dap w) a s0 (b - (a + 1)))), .int (nI a), .int (nI b)] [] I ρ (mPost I ρ (if k = 0 then z_pb (z_pO (r_dap w) (tx_D T) (tx_D T)) else z_pl (r_dap w) (z_pO (r_dap w) (tx_D T) (tx_D T)))) by
        have := hin (a + 1) (Nat.le_refl _) (by omega)
        rw [Nat.sub_self] at this
        exact this
      intro b hb1 hb2
      refine sm_for (P := fun b => a + 1 ≤ b → sm_V G xX10_twins (d + 2) 40 [.ref mM, .int (nI k), .int (z_pb (z_pI (r_dap w) a s0 (b - (a + 1)))), .int (z_pl (r_dap w) (z_pI (r_dap w) a s0 (b - (a + 1)))), .int (nI a), .int (nI b)] [] I ρ _) b (tx_D T) hb2 ?_ (fun b _ hb ih2 => ?_) hb1
      · intro _
        refine wp_iload5 42 rfl dX10_twins_40 ?_
        refine wp_aload0 43 rfl dX10_twins_42 ?_
        refine wp_getr 46 rfl dX10_twins_43 fX10_46_10 (md_M hm) (mp_doors hm) ?_
        refine wp_aload0 47 rfl dX10_twins_46 ?_
        refine wp_geti 50 rfl dX10_twins_47 fX10_233_10 (md_M hm) ?_
        refine wp_iald 51 rfl dX10_twins_50 (ms_doors hm) (lv) (hT.1.1) (⟨hT.1.2, by decide⟩) ?_
        refine wp_icmp_ge 54 97 rfl rfl dX10_twins_51 (fun c51 => ?_) (fun c51 => absurd (by rw [hT.2.1.1]; exact nI_le (Nat.le_refl _) (by omega)) c51)
        refine wp_iincN4 100 rfl dX10_twins_97 (by decide) rfl ?_
        refine wp_goto 20 rfl dX10_twins_100 ?_
        exact wp_weakK ih ⟨Or.inr rfl, Or.inr rfl, Or.inr rfl, Or.inr rfl, Or.inr rfl, Or.inl rfl, trivial⟩
      · intro hab
        have ih2 := ih2 (by omega)
        have eS : z_pI (r_dap w) a s0 (b + 1 - (a + 1)) = z_pS (r_dap w) (z_pI (r_dap w) a s0 (b - (a + 1))) a b := by
          rw [show b + 1 - (a + 1) = (b - (a + 1)) + 1 by omega]
          show z_pS (r_dap w) _ a (a + 1 + (b - (a + 1))) = _
          rw [show a + 1 + (b - (a + 1)) = b by omega]
        rw [eS] at ih2
        have hok2 := z_pok_I (f := (r_dap w)) hok (a := a) (by omega) (b - (a + 1)) (by omega)
        generalize z_pI (r_dap w) a s0 (b - (a + 1)) = s1 at hok2 ih2 ⊢
        have takes : z_pS (r_dap w) s1 a b = some (a, b) → sm_V G xX10_twins (d + 2) 73 [.ref mM, .int (nI k), .int (z_pb s1), .int (z_pl (r_dap w) s1), .int (nI a), .int (nI b)] [] I ρ (mPost I ρ (if k = 0 then z_pb (z_pO (r_dap w) (tx_D T) (tx_D T)) else z_pl (r_dap w) (z_pO (r_dap w) (tx_D T) (tx_D T)))) := by
          intro e
          rw [e] at ih2
          refine wp_bipush (nI 10) 75 rfl dX10_twins_73 (by decide) ?_
          refine wp_iload4 77 rfl dX10_twins_75 ?_
          refine wp_imul 78 rfl dX10_twins_77 ?_
          refine wp_iload5 80 rfl dX10_twins_78 ?_
          refine wp_iadd 81 rfl dX10_twins_80 ?_
          rw [pk_mul, nI_add]
          refine wp_istore2 82 rfl dX10_twins_81 (by decide) rfl ?_
          refine wp_aload0 83 rfl dX10_twins_82 ?_
          refine wp_iload4 85 rfl dX10_twins_83 ?_
          refine wp_iload5 87 rfl dX10_twins_85 ?_
          refine wp_Ve2 90 rfl dX10_twins_87 kX10_doorsApart lX10_433 (md_M hm) (nl rfl) (nl rfl) (s_doorsApart hm a b (by omega) (by omega)) ?_
          rw [hnow]
          refine wp_istore3 91 rfl dX10_twins_90 (by decide) rfl ?_
          refine wp_iincN5 94 rfl dX10_twins_91 (by decide) rfl ?_
          refine wp_goto 40 rfl dX10_twins_94 ?_
          exact ih2
        refine wp_iload5 42 rfl dX10_twins_40 ?_
        refine wp_aload0 43 rfl dX10_twins_42 ?_
        refine wp_getr 46 rfl dX10_twins_43 fX10_46_10 (md_M hm) (mp_doors hm) ?_
        refine wp_aload0 47 rfl dX10_twins_46 ?_
        refine wp_geti 50 rfl dX10_twins_47 fX10_233_10 (md_M hm) ?_
        refine wp_iald 51 rfl dX10_twins_50 (ms_doors hm) (lv) (hT.1.1) (⟨hT.1.2, by decide⟩) ?_
        refine wp_icmp_ge 54 97 rfl rfl dX10_twins_51 (fun c51 => absurd c51 (by rw [hT.2.1.1]; exact nI_ge hb (by omega))) (fun c51 => ?_)
        refine wp_iload2 55 rfl dX10_twins_54 ?_
        match s1, hok2, ih2, takes with
        | none, _, _, takes =>
          refine wp_if_lt 58 73 rfl rfl dX10_twins_55 (fun c55 => ?_) (fun c55 => absurd (by decide) c55)
          exact takes rfl
        | some (i, j), hok2, ih2, takes =>
          obtain ⟨hi, hj⟩ := hok2 i j rfl
          refine wp_if_lt 58 73 rfl rfl dX10_twins_55 (fun c55 => absurd c55 (nI_pos (by omega))) (fun c55 => ?_)
          refine wp_aload0 59 rfl dX10_twins_58 ?_
          refine wp_iload4 61 rfl dX10_twins_59 ?_
          refine wp_iload5 63 rfl dX10_twins_61 ?_
          refine wp_Ve2 66 rfl dX10_twins_63 kX10_doorsApart lX10_433 (md_M hm) (nl rfl) (nl rfl) (s_doorsApart hm a b (by omega) (by omega)) ?_
          refine wp_iload3 67 rfl dX10_twins_66 ?_
          rw [hnow]
          refine wp_icmp_lt 70 73 rfl rfl dX10_twins_67 (fun c67 => ?_) (fun c67 => ?_)
          · exact takes (if_pos c67)
          · rw [show z_pS (r_dap w) (some (i, j)) a b = some (i, j) from if_neg c67] at ih2
            refine wp_goto 91 rfl dX10_twins_70 ?_
            refine wp_iincN5 94 rfl dX10_twins_91 (by decide) rfl ?_
            refine wp_goto 40 rfl dX10_twins_94 ?_
            exact ih2
  · refine wp_iconst (-1) 10 rfl dX10_twins_9 (by decide) ?_
    refine wp_iret dX10_twins_10 rfl ?_
    refine sm_qi (mq.rf hS.2.2.2.2) ?_
    unfold o_twins
    rw [z_ix_no (by omega) (fun h => z_b_eq.mp c6 ((z_in_lo rfl (by omega)).mpr h))]
theorem q_confused (hm : md ρ) (lv : Nat) (T : tx) (w : Nat → Int32) (hS : mS I lv T w) (what : Int32) : sm_M G xX10_confused (d + 2) [.ref mM, .int what] I ρ (mPost I ρ (o_confused T what)) := by
  show sm_V G xX10_confused (d + 2) 0 [.ref mM, .int what, .retAddr 0, .retAddr 0, .retAddr 0, .retAddr 0] [] I ρ _
  have h1 := hS.2.1.1
  have hT := hS.1
  have ht := hS.2.1
  have hnow := hS.2.2.1
  refine wp_iload1 1 rfl dX10_confused_0 ?_
  refine wp_iconst (nI 0) 2 rfl dX10_confused_1 (by decide) ?_
  refine wp_iconst (nI 1) 3 rfl dX10_confused_2 (by decide) ?_
  refine wp_Se3 6 rfl dX10_confused_3 kX10_in lX10_313 (nl rfl) (nl rfl) (s_in _ _ _) ?_
  refine wp_if_ne 9 11 rfl rfl dX10_confused_6 (fun c6 => ?_) (fun c6 => ?_)
  · obtain ⟨k, hk, rfl⟩ := (z_in_lo rfl (by omega)).mp (z_b_ne.mp c6)
    have e9 : o_confused T (nI k) = if k = 0 then z_pb (z_pO (r_dap (tx_cf T)) (tx_C T) (tx_C T)) else z_pl (r_dap (tx_cf T)) (z_pO (r_dap (tx_cf T)) (tx_C T) (tx_C T)) := by
      unfold o_confused
      rw [z_ix_n hk (by omega)]
    rw [e9]
    refine wp_bipush (-2) 13 rfl dX10_confused_11 (by decide) ?_
    refine wp_istore2 14 rfl dX10_confused_13 (by decide) rfl ?_
    refine wp_bipush (-2) 16 rfl dX10_confused_14 (by decide) ?_
    refine wp_istore3 17 rfl dX10_confused_16 (by decide) rfl ?_
    refine wp_iconst (nI 0) 18 rfl dX10_confused_17 (by decide) ?_
    refine wp_istore4 20 rfl dX10_confused_18 (by decide) rfl ?_
    refine sm_for (P := fun a => sm_V G xX10_confused (d + 2) 20 [.ref mM, .int (nI k), .int (z_pb (z_pO (r_dap (tx_cf T)) (tx_C T) a)), .int (z_pl (r_dap (tx_cf T)) (z_pO (r_dap (tx_cf T)) (tx_C T) a)), .int (nI a), .retAddr 0] [] I ρ _) 0 (tx_C T) (Nat.zero_le _) ?_ (fun a _ ha ih => ?_)
    · refine wp_iload4 22 rfl dX10_confused_20 ?_
      refine wp_aload0 23 rfl dX10_confused_22 ?_
      refine wp_getr 26 rfl dX10_confused_23 fX10_52_10 (md_M hm) (mp_callers hm) ?_
      refine wp_aload0 27 rfl dX10_confused_26 ?_
      refine wp_geti 30 rfl dX10_confused_27 fX10_233_10 (md_M hm) ?_
      refine wp_iald 31 rfl dX10_confused_30 (ms_callers hm) (lv) (hT.1.1) (⟨hT.1.2, by decide⟩) ?_
      refine wp_icmp_ge 34 103 rfl rfl dX10_confused_31 (fun c31 => ?_) (fun c31 => absurd (by rw [hT.2.1.2.1]; exact nI_le (Nat.le_refl _) (by omega)) c31)
      refine wp_iload1 104 rfl dX10_confused_103 ?_
      by_cases hk0 : k = 0
      · rw [if_pos hk0]
        refine wp_if_ne 107 111 rfl rfl dX10_confused_104 (fun c104 => absurd (by rw [hk0]; rfl) c104) (fun c104 => ?_)
        refine wp_iload2 108 rfl dX10_confused_107 ?_
        refine wp_goto 112 rfl dX10_confused_108 ?_
        refine wp_iret dX10_confused_112 rfl ?_
        exact sm_qi (mq.rf hS.2.2.2.2) rfl
      · rw [if_neg hk0]
        refine wp_if_ne 107 111 rfl rfl dX10_confused_104 (fun c104 => ?_) (fun c104 => absurd c104 (nI_ne0 (by omega) (by omega)))
        refine wp_iload3 112 rfl dX10_confused_111 ?_
        refine wp_iret dX10_confused_112 rfl ?_
        exact sm_qi (mq.rf hS.2.2.2.2) rfl
    · have hok := z_pok_O (f := (r_dap (tx_cf T))) (N := tx_C T) a (by omega)
      have eO : z_pO (r_dap (tx_cf T)) (tx_C T) (a + 1) = z_pI (r_dap (tx_cf T)) a (z_pO (r_dap (tx_cf T)) (tx_C T) a) (tx_C T - (a + 1)) := rfl
      rw [eO] at ih
      generalize z_pO (r_dap (tx_cf T)) (tx_C T) a = s0 at hok ih ⊢
      refine wp_iload4 22 rfl dX10_confused_20 ?_
      refine wp_aload0 23 rfl dX10_confused_22 ?_
      refine wp_getr 26 rfl dX10_confused_23 fX10_52_10 (md_M hm) (mp_callers hm) ?_
      refine wp_aload0 27 rfl dX10_confused_26 ?_
      refine wp_geti 30 rfl dX10_confused_27 fX10_233_10 (md_M hm) ?_
      refine wp_iald 31 rfl dX10_confused_30 (ms_callers hm) (lv) (hT.1.1) (⟨hT.1.2, by decide⟩) ?_
      refine wp_icmp_ge 34 103 rfl rfl dX10_confused_31 (fun c31 => absurd c31 (by rw [hT.2.1.2.1]; exact nI_ge ha (by omega))) (fun c31 => ?_)
      refine wp_iload4 36 rfl dX10_confused_34 ?_
      refine wp_iconst (nI 1) 37 rfl dX10_confused_36 (by decide) ?_
      refine wp_iadd 38 rfl dX10_confused_37 ?_
      refine wp_istore5 40 rfl dX10_confused_38 (by decide) rfl ?_
      rw [nI_add]
      suffices hin : ∀ b, a + 1 ≤ b → b ≤ tx_C T → sm_V G xX10_confused (d + 2) 40 [.ref mM, .int (nI k), .int (z_pb (z_pI (r_dap (tx_cf T)) a s0 (b - (a + 1)))), .int (z_pl (r_dap (tx_cf T)) (z_pI (r_dap (tx_cf T)) a s0 (b - (a + 1)))), .int (nI a), .int (nI b)] [] I ρ (mPost I ρ (if k = 0 then z_pb (z_pO (r_dap (tx_cf T)) (tx_C T) (tx_C T)) else z_pl (r_dap (tx_cf T)) (z_pO (r_dap (tx_cf T)) (tx_C T) (tx_C T)))) by
        have := hin (a + 1) (Nat.le_refl _) (by omega)
        rw [Nat.sub_self] at this
        exact this
      intro b hb1 hb2
      refine sm_for (P := fun b => a + 1 ≤ b → sm_V G xX10_confused (d + 2) 40 [.ref mM, .int (nI k), .int (z_pb (z_pI (r_dap (tx_cf T)) a s0 (b - (a + 1)))), .int (z_pl (r_dap (tx_cf T)) (z_pI (r_dap (tx_cf T)) a s0 (b - (a + 1)))), .int (nI a), .int (nI b)] [] I ρ _) b (tx_C T) hb2 ?_ (fun b _ hb ih2 => ?_) hb1
      · intro _
        refine wp_iload5 42 rfl dX10_confused_40 ?_
        refine wp_aload0 43 rfl dX10_confused_42 ?_
        refine wp_getr 46 rfl dX10_confused_43 fX10_52_10 (md_M hm) (mp_callers hm) ?_
        refine wp_aload0 47 rfl dX10_confused_46 ?_
        refine wp_geti 50 rfl dX10_confused_47 fX10_233_10 (md_M hm) ?_
        refine wp_iald 51 rfl dX10_confused_50 (ms_callers hm) (lv) (hT.1.1) (⟨hT.1.2, by decide⟩) ?_
        refine wp_icmp_ge 54 97 rfl rfl dX10_confused_51 (fun c51 => ?_) (fun c51 => absurd (by rw [hT.2.1.2.1]; exact nI_le (Nat.le_refl _) (by omega)) c51)
        refine wp_iincN4 100 rfl dX10_confused_97 (by decide) rfl ?_
        refine wp_goto 20 rfl dX10_confused_100 ?_
        exact wp_weakK ih ⟨Or.inr rfl, Or.inr rfl, Or.inr rfl, Or.inr rfl, Or.inr rfl, Or.inl rfl, trivial⟩
      · intro hab
        have ih2 := ih2 (by omega)
        have eS : z_pI (r_dap (tx_cf T)) a s0 (b + 1 - (a + 1)) = z_pS (r_dap (tx_cf T)) (z_pI (r_dap (tx_cf T)) a s0 (b - (a + 1))) a b := by
          rw [show b + 1 - (a + 1) = (b - (a + 1)) + 1 by omega]
          show z_pS (r_dap (tx_cf T)) _ a (a + 1 + (b - (a + 1))) = _
          rw [show a + 1 + (b - (a + 1)) = b by omega]
        rw [eS] at ih2
        have hok2 := z_pok_I (f := (r_dap (tx_cf T))) hok (a := a) (by omega) (b - (a + 1)) (by omega)
        generalize z_pI (r_dap (tx_cf T)) a s0 (b - (a + 1)) = s1 at hok2 ih2 ⊢
        have takes : z_pS (r_dap (tx_cf T)) s1 a b = some (a, b) → sm_V G xX10_confused (d + 2) 73 [.ref mM, .int (nI k), .int (z_pb s1), .int (z_pl (r_dap (tx_cf T)) s1), .int (nI a), .int (nI b)] [] I ρ (mPost I ρ (if k = 0 then z_pb (z_pO (r_dap (tx_cf T)) (tx_C T) (tx_C T)) else z_pl (r_dap (tx_cf T)) (z_pO (r_dap (tx_cf T)) (tx_C T) (tx_C T)))) := by
          intro e
          rw [e] at ih2
          refine wp_bipush (nI 10) 75 rfl dX10_confused_73 (by decide) ?_
          refine wp_iload4 77 rfl dX10_confused_75 ?_
          refine wp_imul 78 rfl dX10_confused_77 ?_
          refine wp_iload5 80 rfl dX10_confused_78 ?_
          refine wp_iadd 81 rfl dX10_confused_80 ?_
          rw [pk_mul, nI_add]
          refine wp_istore2 82 rfl dX10_confused_81 (by decide) rfl ?_
          refine wp_aload0 83 rfl dX10_confused_82 ?_
          refine wp_iload4 85 rfl dX10_confused_83 ?_
          refine wp_iload5 87 rfl dX10_confused_85 ?_
          refine wp_Ve2 90 rfl dX10_confused_87 kX10_callersApart lX10_436 (md_M hm) (nl rfl) (nl rfl) (s_callersApart hm lv T hT ht a b (by omega) (by omega)) ?_
          refine wp_istore3 91 rfl dX10_confused_90 (by decide) rfl ?_
          refine wp_iincN5 94 rfl dX10_confused_91 (by decide) rfl ?_
          refine wp_goto 40 rfl dX10_confused_94 ?_
          exact ih2
        refine wp_iload5 42 rfl dX10_confused_40 ?_
        refine wp_aload0 43 rfl dX10_confused_42 ?_
        refine wp_getr 46 rfl dX10_confused_43 fX10_52_10 (md_M hm) (mp_callers hm) ?_
        refine wp_aload0 47 rfl dX10_confused_46 ?_
        refine wp_geti 50 rfl dX10_confused_47 fX10_233_10 (md_M hm) ?_
        refine wp_iald 51 rfl dX10_confused_50 (ms_callers hm) (lv) (hT.1.1) (⟨hT.1.2, by decide⟩) ?_
        refine wp_icmp_ge 54 97 rfl rfl dX10_confused_51 (fun c51 => absurd c51 (by rw [hT.2.1.2.1]; exact nI_ge hb (by omega))) (fun c51 => ?_)
        refine wp_iload2 55 rfl dX10_confused_54 ?_
        match s1, hok2, ih2, takes with
        | none, _, _, takes =>
          refine wp_if_lt 58 73 rfl rfl dX10_confused_55 (fun c55 => ?_) (fun c55 => absurd (by decide) c55)
          exact takes rfl
        | some (i, j), hok2, ih2, takes =>
          obtain ⟨hi, hj⟩ := hok2 i j rfl
          refine wp_if_lt 58 73 rfl rfl dX10_confused_55 (fun c55 => absurd c55 (nI_pos (by omega))) (fun c55 => ?_)
          refine wp_aload0 59 rfl dX10_confused_58 ?_
          refine wp_iload4 61 rfl dX10_confused_59 ?_
          refine wp_iload5 63 rfl dX10_confused_61 ?_
          refine wp_Ve2 66 rfl dX10_confused_63 kX10_callersApart lX10_436 (md_M hm) (nl rfl) (nl rfl) (s_callersApart hm lv T hT ht a b (by omega) (by omega)) ?_
          refine wp_iload3 67 rfl dX10_confused_66 ?_
          refine wp_icmp_lt 70 73 rfl rfl dX10_confused_67 (fun c67 => ?_) (fun c67 => ?_)
          · exact takes (if_pos c67)
          · rw [show z_pS (r_dap (tx_cf T)) (some (i, j)) a b = some (i, j) from if_neg c67] at ih2
            refine wp_goto 91 rfl dX10_confused_70 ?_
            refine wp_iincN5 94 rfl dX10_confused_91 (by decide) rfl ?_
            refine wp_goto 40 rfl dX10_confused_94 ?_
            exact ih2
  · refine wp_iconst (-1) 10 rfl dX10_confused_9 (by decide) ?_
    refine wp_iret dX10_confused_10 rfl ?_
    refine sm_qi (mq.rf hS.2.2.2.2) ?_
    unfold o_confused
    rw [z_ix_no (by omega) (fun h => z_b_eq.mp c6 ((z_in_lo rfl (by omega)).mpr h))]
theorem s_timesDue (hm : md ρ) (lv : Nat) (T : tx) (w : Nat → Int32) (hS : mS I lv T w) (r n : Nat) (hr : r < tx_R T) (hn : n ≤ 60) : sm_M G xX10_timesDue (d + 1) [.ref mM, .int (nI r), .int (nI n)] I ρ (sm_Qe (some (.int (r_times T w r n))) I ρ) := by
  show sm_V G xX10_timesDue (d + 1) 0 [.ref mM, .int (nI r), .int (nI n), .retAddr 0, .retAddr 0] [] I ρ _
  have h1 := hS.2.1.1
  have hT := hS.1
  obtain ⟨g1, g2, g3, g4⟩ := hT.2.2.2.2.1 r hr
  obtain ⟨k1, k2, ⟨e, he1, he2, he3⟩, k4⟩ := hS.2.1.2.2.2.1 r hr
  refine wp_iconst (nI 0) 1 rfl dX10_timesDue_0 (by decide) ?_
  refine wp_istore3 2 rfl dX10_timesDue_1 (by decide) rfl ?_
  refine wp_iconst (nI 0) 3 rfl dX10_timesDue_2 (by decide) ?_
  refine wp_istore4 5 rfl dX10_timesDue_3 (by decide) rfl ?_
  refine sm_for (P := fun p => sm_V G xX10_timesDue (d + 1) 5 [.ref mM, .int (nI r), .int (nI n), .int (z_sum (fun k => if w (54 + r) = nI 1 ∧ z_due (tx_fr T r) (tx_ev T r) (w 69 + nI k) then nI 1 else nI 0) p), .int (nI p)] [] I ρ _) 0 n (Nat.zero_le _) ?_ (fun p _ hp ih => ?_)
  · refine wp_iload4 7 rfl dX10_timesDue_5 ?_
    refine wp_iload2 8 rfl dX10_timesDue_7 ?_
    refine wp_icmp_ge 11 51 rfl rfl dX10_timesDue_8 (fun c8 => ?_) (fun c8 => absurd (nI_le (Nat.le_refl _) (by omega)) c8)
    refine wp_iload3 52 rfl dX10_timesDue_51 ?_
    refine wp_iret dX10_timesDue_52 rfl ?_
    exact sm_ei rfl
  · have es : z_sum (fun k => if w (54 + r) = nI 1 ∧ z_due (tx_fr T r) (tx_ev T r) (w 69 + nI k) then nI 1 else nI 0) (p + 1) = z_sum (fun k => if w (54 + r) = nI 1 ∧ z_due (tx_fr T r) (tx_ev T r) (w 69 + nI k) then nI 1 else nI 0) p + (if w (54 + r) = nI 1 ∧ z_due (tx_fr T r) (tx_ev T r) (w 69 + nI p) then nI 1 else nI 0) := rfl
    rw [es] at ih
    refine wp_iload4 7 rfl dX10_timesDue_5 ?_
    refine wp_iload2 8 rfl dX10_timesDue_7 ?_
    refine wp_icmp_ge 11 51 rfl rfl dX10_timesDue_8 (fun c8 => absurd c8 (nI_ge hp (by omega))) (fun c8 => ?_)
    refine wp_aload0 12 rfl dX10_timesDue_11 ?_
    refine wp_getr 15 rfl dX10_timesDue_12 fX10_119_10 (md_M hm) (mp_now hm) ?_
    refine wp_bipush (nI 54) 17 rfl dX10_timesDue_15 (by decide) ?_
    refine wp_iload1 18 rfl dX10_timesDue_17 ?_
    refine wp_iadd 19 rfl dX10_timesDue_18 ?_
    refine wp_iald 20 rfl dX10_timesDue_19 (ms_now hm) (54 + r) (by first | rfl | simp only [pk_mul, nI_add]) (⟨by omega, by decide⟩) ?_
    refine wp_iconst (nI 1) 21 rfl dX10_timesDue_20 (by decide) ?_
    rw [hS.2.2.1]
    refine wp_icmp_ne 24 45 rfl rfl dX10_timesDue_21 (fun c21 => ?_) (fun c21 => ?_)
    · rw [if_neg (fun h => c21 h.1), i_add0] at ih
      refine wp_iincN4 48 rfl dX10_timesDue_45 (by decide) rfl ?_
      refine wp_goto 5 rfl dX10_timesDue_48 ?_
      exact ih
    · refine wp_aload0 25 rfl dX10_timesDue_24 ?_
      refine wp_iload1 26 rfl dX10_timesDue_25 ?_
      refine wp_aload0 27 rfl dX10_timesDue_26 ?_
      refine wp_getr 30 rfl dX10_timesDue_27 fX10_119_10 (md_M hm) (mp_now hm) ?_
      refine wp_bipush (nI 69) 32 rfl dX10_timesDue_30 (by decide) ?_
      refine wp_iald 33 rfl dX10_timesDue_32 (ms_now hm) (69) (by first | rfl | simp only [pk_mul, nI_add]) (⟨by omega, by decide⟩) ?_
      refine wp_iload4 35 rfl dX10_timesDue_33 ?_
      refine wp_iadd 36 rfl dX10_timesDue_35 ?_
      refine wp_Ve2 39 rfl dX10_timesDue_36 kX10_isDue lX10_370 (md_M hm) (nl rfl) (nl rfl) (s_isDue hm lv r _ hT.1.1 hT.1.2 (by omega) (by rw [g3, he3]; exact nI_ne0 (by omega) (by omega))) ?_
      rw [g3, g4, hS.2.2.1]
      refine wp_if_eq 42 45 rfl rfl dX10_timesDue_39 (fun c39 => ?_) (fun c39 => ?_)
      · rw [if_neg (fun h => z_b_eq.mp c39 h.2), i_add0] at ih
        refine wp_iincN4 48 rfl dX10_timesDue_45 (by decide) rfl ?_
        refine wp_goto 5 rfl dX10_timesDue_48 ?_
        exact ih
      · rw [if_pos ⟨c21, z_b_ne.mp c39⟩] at ih
        refine wp_iinc3 45 rfl (nI 1) (by decide) dX10_timesDue_42 (by decide) rfl ?_
        refine wp_iincN4 48 rfl dX10_timesDue_45 (by decide) rfl ?_
        refine wp_goto 5 rfl dX10_timesDue_48 ?_
        exact ih
theorem q_calls (hm : md ρ) (lv : Nat) (T : tx) (w : Nat → Int32) (hS : mS I lv T w) (x n : Int32) : sm_M G xX10_calls (d + 3) [.ref mM, .int x, .int n] I ρ (mPost I ρ (o_calls T w x n)) := by
  show sm_V G xX10_calls (d + 3) 0 [.ref mM, .int x, .int n, .retAddr 0, .retAddr 0] [] I ρ _
  have h1 := hS.2.1.1
  have hT := hS.1
  have no : (¬ (∃ j, j < tx_D T ∧ x = nI j) ∨ ¬ (nI 1 ≤ n ∧ n ≤ nI 60)) → sm_V G xX10_calls (d + 3) 15 [.ref mM, .int x, .int n, .retAddr 0, .retAddr 0] [] I ρ (mPost I ρ (o_calls T w x n)) := by
    intro hno
    refine wp_iconst (-1) 16 rfl dX10_calls_15 (by decide) ?_
    refine wp_iret dX10_calls_16 rfl ?_
    refine sm_qi (mq.rf hS.2.2.2.2) ?_
    unfold o_calls
    by_cases hx : ∃ j, j < tx_D T ∧ x = nI j
    · obtain ⟨dd, hd, rfl⟩ := hx
      rw [z_ix_n hd (by omega)]
      rcases hno with h | h
      · exact absurd ⟨dd, hd, rfl⟩ h
      · rw [z_iv_o h]
    · rw [z_ix_no (by omega) hx]
  refine wp_aload0 1 rfl dX10_calls_0 ?_
  refine wp_iload1 2 rfl dX10_calls_1 ?_
  refine wp_Ve1 5 rfl dX10_calls_2 kX10_isDoor lX10_387 (md_M hm) (nl rfl) (nl rfl) (s_isDoor hm lv x hS.1.1.1 hS.1.1.2) ?_
  rw [hS.1.2.1.1]
  refine wp_if_eq 8 15 rfl rfl dX10_calls_5 (fun c5 => ?_) (fun c5 => ?_)
  · exact no (Or.inl (fun h => z_b_eq.mp c5 ((z_in_iff (by omega)).mpr h)))
  · obtain ⟨dd, hd, rfl⟩ := (z_in_iff (by omega)).mp (z_b_ne.mp c5)
    refine wp_iload2 9 rfl dX10_calls_8 ?_
    refine wp_Se1 12 rfl dX10_calls_9 kX10_isSome lX10_427 (nl rfl) (nl rfl) (s_isSome _) ?_
    refine wp_if_ne 15 17 rfl rfl dX10_calls_12 (fun c12 => ?_) (fun c12 => ?_)
    · obtain ⟨m, hm60, rfl⟩ := (z_iv_iff (by omega) (by omega)).mp (z_b_ne.mp c12)
      have e9 : o_calls T w (nI dd) (nI m) = z_sum (fun r => if tx_door T r = dd then r_times T w r m else nI 0) (tx_R T) := by
        unfold o_calls
        rw [z_ix_n hd (by omega), z_iv_n hm60 (by omega) (by omega)]
      rw [e9]
      refine wp_iconst (nI 0) 18 rfl dX10_calls_17 (by decide) ?_
      refine wp_istore3 19 rfl dX10_calls_18 (by decide) rfl ?_
      refine wp_iconst (nI 0) 20 rfl dX10_calls_19 (by decide) ?_
      refine wp_istore4 22 rfl dX10_calls_20 (by decide) rfl ?_
      refine sm_for (P := fun r => sm_V G xX10_calls (d + 3) 22 [.ref mM, .int (nI dd), .int (nI m), .int (z_sum (fun r => if tx_door T r = dd then r_times T w r m else nI 0) r), .int (nI r)] [] I ρ _) 0 (tx_R T) (Nat.zero_le _) ?_ (fun r _ hr ih => ?_)
      · refine wp_iload4 24 rfl dX10_calls_22 ?_
        refine wp_aload0 25 rfl dX10_calls_24 ?_
        refine wp_getr 28 rfl dX10_calls_25 fX10_58_10 (md_M hm) (mp_rounds hm) ?_
        refine wp_aload0 29 rfl dX10_calls_28 ?_
        refine wp_geti 32 rfl dX10_calls_29 fX10_233_10 (md_M hm) ?_
        refine wp_iald 33 rfl dX10_calls_32 (ms_rounds hm) (lv) (hT.1.1) (⟨hT.1.2, by decide⟩) ?_
        refine wp_icmp_ge 36 71 rfl rfl dX10_calls_33 (fun c33 => ?_) (fun c33 => absurd (by rw [hT.2.1.2.2]; exact nI_le (Nat.le_refl _) (by omega)) c33)
        refine wp_iload3 72 rfl dX10_calls_71 ?_
        refine wp_iret dX10_calls_72 rfl ?_
        exact sm_qi (mq.rf hS.2.2.2.2) rfl
      · obtain ⟨g1, g2, -⟩ := hT.2.2.2.2.1 r hr
        obtain ⟨k1, k2, -⟩ := hS.2.1.2.2.2.1 r hr
        have es : z_sum (fun r => if tx_door T r = dd then r_times T w r m else nI 0) (r + 1) = z_sum (fun r => if tx_door T r = dd then r_times T w r m else nI 0) r + (if tx_door T r = dd then r_times T w r m else nI 0) := rfl
        rw [es] at ih
        refine wp_iload4 24 rfl dX10_calls_22 ?_
        refine wp_aload0 25 rfl dX10_calls_24 ?_
        refine wp_getr 28 rfl dX10_calls_25 fX10_58_10 (md_M hm) (mp_rounds hm) ?_
        refine wp_aload0 29 rfl dX10_calls_28 ?_
        refine wp_geti 32 rfl dX10_calls_29 fX10_233_10 (md_M hm) ?_
        refine wp_iald 33 rfl dX10_calls_32 (ms_rounds hm) (lv) (hT.1.1) (⟨hT.1.2, by decide⟩) ?_
        refine wp_icmp_ge 36 71 rfl rfl dX10_calls_33 (fun c33 => absurd c33 (by rw [hT.2.1.2.2]; exact nI_ge hr (by omega))) (fun c33 => ?_)
        refine wp_aload0 37 rfl dX10_calls_36 ?_
        refine wp_getr 40 rfl dX10_calls_37 fX10_64_10 (md_M hm) (mp_doorOf hm) ?_
        refine wp_bipush (nI 10) 42 rfl dX10_calls_40 (by decide) ?_
        refine wp_aload0 43 rfl dX10_calls_42 ?_
        refine wp_geti 46 rfl dX10_calls_43 fX10_233_10 (md_M hm) ?_
        refine wp_imul 47 rfl dX10_calls_46 ?_
        refine wp_iload4 49 rfl dX10_calls_47 ?_
        refine wp_iadd 50 rfl dX10_calls_49 ?_
        refine wp_iald 51 rfl dX10_calls_50 (ms_doorOf hm) (10 * lv + r) (by rw [hT.1.1, pk_mul, nI_add]) (⟨by have := hT.1.2; omega, by decide⟩) ?_
        refine wp_iload1 52 rfl dX10_calls_51 ?_
        rw [g2]
        refine wp_icmp_ne 55 65 rfl rfl dX10_calls_52 (fun c52 => ?_) (fun c52 => ?_)
        · rw [if_neg (fun e => c52 (by rw [e])), i_add0] at ih
          refine wp_iincN4 68 rfl dX10_calls_65 (by decide) rfl ?_
          refine wp_goto 22 rfl dX10_calls_68 ?_
          exact ih
        · have hdd : tx_door T r = dd := by rw [nI_eq (by omega) (by omega)] at c52; exact c52
          rw [if_pos hdd] at ih
          refine wp_iload3 56 rfl dX10_calls_55 ?_
          refine wp_aload0 57 rfl dX10_calls_56 ?_
          refine wp_iload4 59 rfl dX10_calls_57 ?_
          refine wp_iload2 60 rfl dX10_calls_59 ?_
          refine wp_Ve2 63 rfl dX10_calls_60 kX10_timesDue lX10_448 (md_M hm) (nl rfl) (nl rfl) (s_timesDue hm lv T w hS r m hr hm60.2) ?_
          refine wp_iadd 64 rfl dX10_calls_63 ?_
          refine wp_istore3 65 rfl dX10_calls_64 (by decide) rfl ?_
          refine wp_iincN4 68 rfl dX10_calls_65 (by decide) rfl ?_
          refine wp_goto 22 rfl dX10_calls_68 ?_
          exact ih
    · exact no (Or.inr (z_b_eq.mp c12))
end M14
