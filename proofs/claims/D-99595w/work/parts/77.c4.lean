/-! ===== sums and laws of the component ===== -/
set_option maxRecDepth 100000
/-- a piece of code comes to this -/
def sE (vs : Nat → Int32) (e : ex) (o : Option Int32) : Prop := ∀ r s, ex_run vs (e ++ r) s = match o with
  | some v => ex_run vs r (v :: s)
  | none => none
theorem sE.ev {vs : Nat → Int32} {e : ex} {o : Option Int32} (h : sE vs e o) : ex_ev vs e = o := by
  have := h [] []
  rw [List.append_nil] at this
  unfold ex_ev
  rw [this]
  cases o <;> rfl
def sQ (ρ : sm_R) (q : Nat) (vs : Nat → Int32) (I : sm_I) (e : ex) (r : Int32) (I1 : sm_I) (ρ1 : sm_R) : Prop := ρ1 = ρ ∧ cf [q] I I1 ∧ (∀ k, ¬ k = 1 → I1 q k = I q k) ∧ ∃ o, sE vs e o ∧ (∀ v, o = some v → r = v ∧ I1 q 1 = I q 1) ∧ (o = none → I1 q 1 = nI 1)
theorem sQ.join {ρ : sm_R} {q c : Nat} {vs : Nat → Int32} {I I1 I2 I3 : sm_I} {u v : ex} {x y r : Int32} (hc : c = 2 ∨ c = 3 ∨ c = 4 ∨ c = 5) (h1 : sQ ρ q vs I u x I1 ρ) (h2 : sQ ρ q vs I1 v y I2 ρ) (ha : ¬ (c = 5 ∧ y = 0) → r = ex_op c x y ∧ I3 = I2) (hb : c = 5 ∧ y = 0 → I3 = sm_u I2 q 1 (nI 1)) : sQ ρ q vs I (u ++ v ++ [(c, nI 0)]) r I3 ρ := by
  obtain ⟨-, f1, g1, o1, e1, s1, n1⟩ := h1
  obtain ⟨-, f2, g2, o2, e2, s2, n2⟩ := h2
  have f3 : cf [q] I2 I3 := by
    by_cases h : c = 5 ∧ y = 0
    · rw [hb h]
      exact cf.u List.mem_cons_self
    · rw [(ha h).2]
      exact cf.rf
  have g3 : ∀ k, ¬ k = 1 → I3 q k = I2 q k := fun k hk => by
    by_cases h : c = 5 ∧ y = 0
    · rw [hb h, sm_u_eq, pk_un hk]
    · rw [(ha h).2]
  have n3 : I2 q 1 = nI 1 → I3 q 1 = nI 1 := fun h2 => by
    by_cases h : c = 5 ∧ y = 0
    · rw [hb h, sm_u_eq, pk_us]
    · rw [(ha h).2]
      exact h2
  have run : ∀ r s, ex_run vs (u ++ v ++ [(c, nI 0)] ++ r) s = ex_run vs (u ++ (v ++ ((c, nI 0) :: r))) s := fun r s => by
    rw [List.append_assoc, List.append_assoc]
    rfl
  refine ⟨rfl, (f1.tr f2).tr f3, fun k hk => ((g3 k hk).trans (g2 k hk)).trans (g1 k hk), ?_⟩
  cases o1 with
  | none =>
    refine ⟨none, fun r s => ?_, (fun v h => by cases h), fun _ => n3 ?_⟩
    · rw [run, e1]
    · cases o2 with
      | none => exact n2 rfl
      | some b => exact (s2 b rfl).2.trans (n1 rfl)
  | some a =>
    obtain ⟨ex, k1⟩ := s1 a rfl
    subst ex
    cases o2 with
    | none =>
      refine ⟨none, fun r s => ?_, (fun v h => by cases h), fun _ => n3 (n2 rfl)⟩
      rw [run, e1]
      show ex_run vs (v ++ ((c, nI 0) :: r)) (x :: s) = none
      rw [e2]
    | some b =>
      obtain ⟨ey, k2⟩ := s2 b rfl
      subst ey
      have step : ∀ r s, ex_run vs (u ++ v ++ [(c, nI 0)] ++ r) s = if c = 5 ∧ y = 0 then none else ex_run vs r (ex_op c x y :: s) := fun r s => by
        rw [run, e1]
        show ex_run vs (v ++ ((c, nI 0) :: r)) (x :: s) = _
        rw [e2]
        show (if c = 0 then _ else if c = 1 then _ else if c = 5 ∧ y = 0 then none else ex_run vs r (ex_op c x y :: s)) = _
        rw [if_neg (by omega), if_neg (by omega)]
      by_cases h : c = 5 ∧ y = 0
      · refine ⟨none, fun r s => ?_, (fun v h => by cases h), fun _ => ?_⟩
        · rw [step, if_pos h]
        · rw [hb h, sm_u_eq, pk_us]
      · obtain ⟨h3, h4⟩ := ha h
        refine ⟨some (ex_op c x y), fun r s => ?_, (fun v hv => ?_), (fun hn => by cases hn)⟩
        · rw [step, if_neg h]
        · cases hv
          refine ⟨h3, ?_⟩
          rw [h4, k2, k1]
section C4
variable {G : sm_G} {d : Nat} {ρ : sm_R}
/-- a sum's method, by its class -/
def sMt (G : sm_G) (ρ : sm_R) (b d : Nat) (I : sm_I) (a : Nat) (e : ex) : Prop :=
  (ρ.2.2.1 a = (12, 0) → sm_M G xX13_of d [.ref a, .ref (b + 14)] I ρ (sm_Qi (sQ ρ (b + 14) (I (b + 15)) I e))) ∧ (ρ.2.2.1 a = (13, 0) → sm_M G xX14_of d [.ref a, .ref (b + 14)] I ρ (sm_Qi (sQ ρ (b + 14) (I (b + 15)) I e))) ∧ (ρ.2.2.1 a = (14, 0) → sm_M G xX15_of d [.ref a, .ref (b + 14)] I ρ (sm_Qi (sQ ρ (b + 14) (I (b + 15)) I e)))
theorem wp_of {X : sm_X} {pc ix n a b : Nat} {lv rest : List Value} {I : sm_I} {Q : sm_O → sm_I → sm_R → Prop} {e : ex} (nx : Nat) (hn : pc + 3 = nx) (hd : decode X.2.1 pc = .ok (.invokevirtual ix, 3)) (l12 : sm_LA X.1 ix 12 ⟨"KnockerFaces$Sum", "of", "(LKnockerFaces$Asked;)I"⟩ yX13_of 1) (l13 : sm_LA X.1 ix 13 ⟨"KnockerFaces$Sum", "of", "(LKnockerFaces$Asked;)I"⟩ yX14_of 1) (l14 : sm_LA X.1 ix 14 ⟨"KnockerFaces$Sum", "of", "(LKnockerFaces$Asked;)I"⟩ yX15_of 1)
    (hrs : (rest.map fun v => v.category).sum ≤ 8) (hT : sT I ρ n a e) (hM : sMt G ρ b d I a e) (k : ∀ r I1 ρ1, sQ ρ (b + 14) (I (b + 15)) I e r I1 ρ1 → sm_V G X (d + 1) nx lv (.int r :: rest) I1 ρ1 Q) : sm_V G X (d + 1) pc lv (.ref (b + 14) :: .ref a :: rest) I ρ Q := by
  cases n with
  | zero => exact hT.elim
  | succ n =>
    rcases hT.2 with h | h | h
    · exact wp_Ai1 nx hn hd kX13_of l12 h.1 (nl rfl) hrs (hM.1 h.1) k
    · exact wp_Ai1 nx hn hd kX14_of l13 h.1 (nl rfl) hrs (hM.2.1 h.1) k
    · exact wp_Ai1 nx hn hd kX15_of l14 h.1 (nl rfl) hrs (hM.2.2 h.1) k
theorem s_of {b : Nat} (ht : td ρ b) (hb : 79 ≤ b ∧ b ≤ 882) : ∀ (n a : Nat) (e : ex) (I : sm_I), sT I ρ n a e → sMt G ρ b (d + n) I a e
  | 0, a, e, I, h => h.elim
  | n + 1, a, e, I, h => by
    obtain ⟨hA, h⟩ := h
    refine ⟨fun hs => ?_, fun hs => ?_, fun hs => ?_⟩
    · rcases h with ⟨h1, h2⟩ | ⟨h1, -⟩ | ⟨h1, -⟩
      · show sm_V G xX13_of (d + (n + 1)) 0 [.ref a, .ref (b + 14)] [] I ρ _
        refine wp_aload0 1 rfl dX13_of_0 ?_
        refine wp_geti 4 rfl dX13_of_1 fX13_7_12 (hs) ?_
        refine wp_iret dX13_of_4 rfl ?_
        refine ⟨_, rfl, rfl, cf.rf, fun _ _ => rfl, some (I a 0), fun r s => ?_, (fun v hv => by cases hv; exact ⟨rfl, rfl⟩), (fun hn => by cases hn)⟩
        rw [h2]
        rfl
      · rw [hs] at h1; cases h1
      · rw [hs] at h1; cases h1
    · rcases h with ⟨h1, h2⟩ | ⟨h1, k, h2, h3, h4⟩ | ⟨h1, -⟩
      · rw [hs] at h1; cases h1
      · show sm_V G xX14_of (d + (n + 1)) 0 [.ref a, .ref (b + 14)] [] I ρ _
        refine wp_aload1 1 rfl dX14_of_0 ?_
        refine wp_getr 4 rfl dX14_of_1 fX14_13_7 (o7 ht) (p7_0 ht) ?_
        refine wp_aload0 5 rfl dX14_of_4 ?_
        refine wp_geti 8 rfl dX14_of_5 fX14_7_13 (hs) ?_
        refine wp_iald 9 rfl dX14_of_8 (s7_0 ht) (k) (h3) (⟨by omega, by decide⟩) ?_
        refine wp_iret dX14_of_9 rfl ?_
        refine ⟨_, rfl, rfl, cf.rf, fun _ _ => rfl, some (I (b + 15) k), fun r s => ?_, (fun v hv => by cases hv; exact ⟨rfl, rfl⟩), (fun hn => by cases hn)⟩
        rw [h4]
        show ex_run (I (b + 15)) r (I (b + 15) (nI k).toNatClampNeg :: s) = _
        rw [nI_clamp (by omega)]
      · rw [hs] at h1; cases h1
    · rcases h with ⟨h1, h2⟩ | ⟨h1, -⟩ | ⟨h1, c, x, y, u, v, hc, h2, h3, h4, h5, h6, h7⟩
      · rw [hs] at h1; cases h1
      · rw [hs] at h1; cases h1
      · show sm_V G xX15_of ((d + n) + 1) 0 [.ref a, .ref (b + 14), .retAddr 0, .retAddr 0] [] I ρ _
        have ih := s_of ht hb n
        refine wp_aload0 1 rfl dX15_of_0 ?_
        refine wp_getr 4 rfl dX15_of_1 fX15_13_14 (hs) (h3) ?_
        refine wp_aload1 5 rfl dX15_of_4 ?_
        refine wp_of 8 rfl dX15_of_5 lX15_20_12 lX15_20_13 lX15_20_14 (nl rfl) h5 (ih x u I h5) (fun x1 I1 ρ1 q1 => ?_)
        have eρ := q1.1.symm
        subst eρ
        have t1 : ∀ a, tA a → I1 a = I a := q1.2.1.T (fun a ha => by
          have : a = b + 14 := by simpa using ha
          omega)
        have ev : I1 (b + 15) = I (b + 15) := q1.2.1 _ (by simp)
        have h6' : sT I1 ρ n y v := h6.kept t1
        refine wp_istore2 9 rfl dX15_of_8 (by decide) rfl ?_
        refine wp_aload0 10 rfl dX15_of_9 ?_
        refine wp_getr 13 rfl dX15_of_10 fX15_17_14 (hs) (h4) ?_
        refine wp_aload1 14 rfl dX15_of_13 ?_
        refine wp_of 17 rfl dX15_of_14 lX15_20_12 lX15_20_13 lX15_20_14 (nl rfl) h6' (ih y v I1 h6') (fun y1 I2 ρ1 q2 => ?_)
        have eρ := q2.1.symm
        subst eρ
        rw [ev] at q2
        have eop : I2 a 0 = sOp c := by
          have t2 : I2 a = I1 a := q2.2.1 a (by
            intro q
            have : a = b + 14 := by simpa using q
            unfold tA at hA
            omega)
          rw [t2, t1 a hA]
          exact h2
        rw [h7]
        refine wp_istore3 18 rfl dX15_of_17 (by decide) rfl ?_
        refine wp_aload0 19 rfl dX15_of_18 ?_
        refine wp_geti 22 rfl dX15_of_19 fX15_7_14 (hs) ?_
        rw [eop]
        rcases hc with e | e | e | e
        · subst e
          show sm_V G xX15_of ((d + n) + 1) 22 [.ref a, .ref (b + 14), .int x1, .int y1] [.int (nI 43)] I2 ρ _
          refine wp_tableIn (off := 30) 52 dX15_of_22 (by decide) (by decide) (by decide) rfl ?_
          refine wp_iload2 53 rfl dX15_of_52 ?_
          refine wp_iload3 54 rfl dX15_of_53 ?_
          refine wp_iadd 55 rfl dX15_of_54 ?_
          refine wp_iret dX15_of_55 rfl ?_
          exact ⟨_, rfl, q1.join (Or.inl rfl) q2 (fun _ => ⟨rfl, rfl⟩) (fun h => absurd h.1 (by decide))⟩
        · subst e
          show sm_V G xX15_of ((d + n) + 1) 22 [.ref a, .ref (b + 14), .int x1, .int y1] [.int (nI 45)] I2 ρ _
          refine wp_tableIn (off := 34) 56 dX15_of_22 (by decide) (by decide) (by decide) rfl ?_
          refine wp_iload2 57 rfl dX15_of_56 ?_
          refine wp_iload3 58 rfl dX15_of_57 ?_
          refine wp_isub 59 rfl dX15_of_58 ?_
          refine wp_iret dX15_of_59 rfl ?_
          exact ⟨_, rfl, q1.join (Or.inr (Or.inl rfl)) q2 (fun _ => ⟨rfl, rfl⟩) (fun h => absurd h.1 (by decide))⟩
        · subst e
          show sm_V G xX15_of ((d + n) + 1) 22 [.ref a, .ref (b + 14), .int x1, .int y1] [.int (nI 42)] I2 ρ _
          refine wp_tableIn (off := 38) 60 dX15_of_22 (by decide) (by decide) (by decide) rfl ?_
          refine wp_iload2 61 rfl dX15_of_60 ?_
          refine wp_iload3 62 rfl dX15_of_61 ?_
          refine wp_imul 63 rfl dX15_of_62 ?_
          refine wp_iret dX15_of_63 rfl ?_
          exact ⟨_, rfl, q1.join (Or.inr (Or.inr (Or.inl rfl))) q2 (fun _ => ⟨rfl, rfl⟩) (fun h => absurd h.1 (by decide))⟩
        · subst e
          show sm_V G xX15_of ((d + n) + 1) 22 [.ref a, .ref (b + 14), .int x1, .int y1] [.int (nI 47)] I2 ρ _
          refine wp_tableOut 64 dX15_of_22 (by decide) rfl ?_
          refine wp_iload3 65 rfl dX15_of_64 ?_
          refine wp_if_eq 68 72 rfl rfl dX15_of_65 (fun c65 => ?_) (fun c65 => ?_)
          · refine wp_aload1 73 rfl dX15_of_72 ?_
            refine wp_iconst (nI 1) 74 rfl dX15_of_73 (by decide) ?_
            refine wp_puti 77 rfl dX15_of_74 pX15_24_7 (o7 ht) ⟨rfl, rfl⟩ ?_
            refine wp_iconst (nI 0) 78 rfl dX15_of_77 (by decide) ?_
            refine wp_iret dX15_of_78 rfl ?_
            exact ⟨_, rfl, q1.join (Or.inr (Or.inr (Or.inr rfl))) q2 (fun h => absurd ⟨rfl, c65⟩ h) (fun _ => rfl)⟩
          · refine wp_iload2 69 rfl dX15_of_68 ?_
            refine wp_iload3 70 rfl dX15_of_69 ?_
            refine wp_idiv 71 rfl dX15_of_70 (c65) ?_
            refine wp_iret dX15_of_71 rfl ?_
            exact ⟨_, rfl, q1.join (Or.inr (Or.inr (Or.inr rfl))) q2 (fun _ => ⟨rfl, rfl⟩) (fun h => absurd h.2 c65)⟩
end C4
