/-! ===== a text is kept while another is read ===== -/
set_option maxRecDepth 100000
def gT (I : sm_I) (ρ : sm_R) (I1 : sm_I) (ρ1 : sm_R) : Prop := ∀ a, (ρ.2.2.1 a).1 ≠ 0 → ρ1.2.2.1 a = ρ.2.2.1 a ∧ ((ρ.2.2.1 a).1 ≠ 1 → (ρ.2.2.1 a).1 ≠ 4 → ρ1.2.1 a = ρ.2.1 a) ∧ (tA a → I1 a = I a)
section H5
variable {I I1 : sm_I} {ρ ρ1 : sm_R} {tp : Nat} {q : tq4} {T : tx}
theorem gT.s (g : gT I ρ I1 ρ1) {a t n : Nat} (h : ρ.2.2.1 a = (t, n)) (h0 : t ≠ 0) : ρ1.2.2.1 a = (t, n) := ((g a (by rw [h]; exact h0)).1).trans h
theorem gT.p (g : gT I ρ I1 ρ1) {a t n : Nat} (h : ρ.2.2.1 a = (t, n)) (h0 : t ≠ 0 ∧ t ≠ 1 ∧ t ≠ 4) : ρ1.2.1 a = ρ.2.1 a := (g a (by rw [h]; exact h0.1)).2.1 (by rw [h]; exact h0.2.1) (by rw [h]; exact h0.2.2)
theorem gT.i (g : gT I ρ I1 ρ1) {a t n : Nat} (h : ρ.2.2.1 a = (t, n)) (h0 : t ≠ 0) (hA : tA a) : I1 a = I a := (g a (by rw [h]; exact h0)).2.2 hA
theorem sT.gr (g : gT I ρ I1 ρ1) : ∀ {n a : Nat} {e : ex}, sT I ρ n a e → sT I1 ρ1 n a e
  | 0, _, _, h => h
  | n + 1, a, e, h => by
    obtain ⟨ha, h⟩ := h
    refine ⟨ha, ?_⟩
    rcases h with ⟨h1, h2⟩ | ⟨h1, h2⟩ | ⟨h1, c, x, y, u, v, h2, h3, h4, h5, h6, h7, h8⟩
    · rw [g.i h1 (by decide) ha, g.s h1 (by decide)]
      exact Or.inl ⟨rfl, h2⟩
    · rw [g.i h1 (by decide) ha, g.s h1 (by decide)]
      exact Or.inr (Or.inl ⟨rfl, h2⟩)
    · rw [g.i h1 (by decide) ha, g.s h1 (by decide), g.p h1 (by decide)]
      exact Or.inr (Or.inr ⟨rfl, c, x, y, u, v, h2, h3, h4, h5, h6.gr g, h7.gr g, h8⟩)
theorem cL.gr (g : gT I ρ I1 ρ1) {lo : Nat} {L : lwt × ex} (h : cL I ρ lo L) : cL I1 ρ1 lo L := by
  obtain ⟨⟨h1, hA⟩, h2, l0, l1, l2, h3, ⟨s0, s1, s2⟩, h5, a, h6, h7⟩ := h
  refine ⟨⟨g.s h1 (by decide), hA⟩, ?_, l0, l1, l2, ?_, ⟨g.s s0 (by decide), g.s s1 (by decide), g.s s2 (by decide)⟩, fun i t hi => ?_, a, ?_, h7.gr g⟩
  · rw [g.i h1 (by decide) hA]
    exact h2
  · rw [g.p h1 (by decide)]
    exact h3
  · obtain ⟨⟨a, a1, a2⟩, ⟨b, b1, b2⟩, c, c1, c2⟩ := h5 i t hi
    exact ⟨⟨a, by rw [g.p s0 (by decide)]; exact a1, a2.gr g⟩, ⟨b, by rw [g.p s1 (by decide)]; exact b1, b2.gr g⟩, c, by rw [g.p s2 (by decide)]; exact c1, c2.gr g⟩
  · rw [g.p s2 (by decide)]
    exact h6
theorem cLs.gr (g : gT I ρ I1 ρ1) {l n : Nat} {f : Nat → Nat} (h : cLs I ρ l n f) : cLs I1 ρ1 l n f := by
  obtain ⟨⟨h1, hA⟩, h2, e, m, h3, h4, h5, h6⟩ := h
  refine ⟨⟨g.s h1 (by decide), hA⟩, by rw [g.i h1 (by decide) hA]; exact h2, e, m, by rw [g.p h1 (by decide)]; exact h3, ?_, h5, fun i hi => ?_⟩
  · rcases h4 with h4 | ⟨h4, h7⟩
    · exact Or.inl h4
    · exact Or.inr ⟨g.s h4 (by decide), h7⟩
  · rcases h4 with ⟨h4, -⟩ | ⟨h4, h7⟩
    · omega
    · rw [g.p h4 (by decide)]
      exact h6 i hi
theorem cT.gr (g : gT I ρ I1 ρ1) (h : cT I ρ tp q T) : cT I1 ρ1 tp q T := by
  obtain ⟨⟨h1, hA⟩, h2, ⟨h3, h4, h5⟩, h6, h7, h8, h9, h10, h11⟩ := h
  refine ⟨⟨g.s h1 (by decide), hA⟩, ?_, ⟨h3.gr g, h4.gr g, h5.gr g⟩, fun i hi => ?_, fun i hi => ?_, fun r hr => ?_, ?_, g.s h10 (by decide), fun k hk => ?_⟩
  · rw [g.p h1 (by decide)]
    exact h2
  · obtain ⟨a1, a2, a3, a4⟩ := h6 i hi
    exact ⟨g.s a1 (by decide), by rw [g.p a1 (by decide)]; exact a2, ⟨g.s a3.1 (by decide), a3.2⟩, fun p hp => by rw [g.i a3.1 (by decide) a3.2]; exact a4 p hp⟩
  · obtain ⟨a1, a2, a3, a4⟩ := h7 i hi
    exact ⟨g.s a1 (by decide), by rw [g.p a1 (by decide)]; exact a2, ⟨g.s a3.1 (by decide), a3.2⟩, fun p hp => by rw [g.i a3.1 (by decide) a3.2]; exact a4 p hp⟩
  · obtain ⟨⟨a1, a2⟩, a3⟩ := h8 r hr
    rw [g.i a1 (by decide) a2]
    exact ⟨⟨g.s a1 (by decide), a2⟩, a3⟩
  · rw [g.i h1 (by decide) hA]
    exact h9
  · have h9 := h11 k hk
    rw [g.p h10 (by decide)]
    cases hL : tx_law T k with
    | none =>
      rw [hL] at h9
      exact h9
    | some L =>
      rw [hL] at h9
      obtain ⟨lo, a1, a2⟩ := h9
      exact ⟨lo, a1, a2.gr g⟩
theorem gF.gT {A B : Nat → Prop} (f : gF A B I ρ I1 ρ1) (hi : sm_In ρ) (hA : ∀ a, tA a → ¬ A a) (hB : ∀ a, B a → a = 64 ∨ a = 73) (h1 : ρ.2.2.1 64 = (1, 0)) (h4 : ρ.2.2.1 73 = (4, 0)) : gT I ρ I1 ρ1 := fun a ha => by
  have hl := (hi a ha).2
  refine ⟨f.eS hl, fun z1 z4 => f.eP hl (fun z => ?_), fun z => f.eI hl (hA a z)⟩
  rcases hB a z with e | e
  · rw [e, h1] at z1
    exact z1 rfl
  · rw [e, h4] at z4
    exact z4 rfl
end H5
