/-! ===== the component's parser: sums, what they are made of ===== -/
set_option maxRecDepth 100000
def pA (a : Nat) : Prop := a = 65 ∨ a = 73
def pNo (_ : Nat) : Prop := False
/-- what is given while a text is read -/
def rC (I : sm_I) (ρ : sm_R) (P : Nat × (Nat → Int32)) : Prop := kd ρ ∧ 879 ≤ ρ.2.2.2.1 ∧ cP I P ∧ ctk I P
theorem rC.P {I J : sm_I} {ρ : sm_R} {P : Nat × (Nat → Int32)} (h : rC I ρ P) (e : pJ I J) : rC J ρ P := ⟨h.1, h.2.1, h.2.2.1.P e, h.2.2.2.P e⟩
theorem rC.g {A B : Nat → Prop} {I I1 : sm_I} {ρ ρ1 : sm_R} {P : Nat × (Nat → Int32)} (h : rC I ρ P) (f : gF A B I ρ I1 ρ1) (hA : ∀ a, a < 943 → A a → pA a) (hB : ∀ a, a < 943 → ¬ B a) : rC I1 ρ1 P := by
  obtain ⟨h1, h2, h3, h4⟩ := h
  have e : ∀ a, 66 ≤ a → a ≤ 72 → I1 a = I a := fun a a1 a2 => f.eI (by omega) (fun z => by
    have := hA a (by omega) z
    unfold pA at this
    omega)
  refine ⟨f.kd h1 (by omega) hB, by have := f.1.1; omega, ?_, h4.J (fun a a1 a2 => e a (by omega) a2)⟩
  unfold cP
  rw [e 66 (by decide) (by decide), e 68 (by decide) (by decide)]
  exact h3
theorem pJ.g {A B : Nat → Prop} {I J : sm_I} {ρ : sm_R} (h : pJ I J) (hA : ∀ a, pA a → A a) : gF A B I ρ J ρ := gF.i (fun a ha => h.1 a (fun z => ha (hA a z)))
/-- room by tokens -/
def bud (ρ : sm_R) (t : Nat) (ρ1 : sm_R) (t1 : Nat) : Prop := ρ1.2.2.2.1 + 12 * t ≤ ρ.2.2.2.1 + 12 * t1 ∧ ρ1.2.2.2.2 + 60 * t ≤ ρ.2.2.2.2 + 60 * t1
/-- a sum's tree between two addresses -/
def sB (I : sm_I) (ρ : sm_R) (lo hi : Nat) : Nat → Nat → ex → Prop
  | 0, _, _ => False
  | n + 1, a, e => (lo ≤ a ∧ a < hi) ∧ ((ρ.2.2.1 a = (12, 0) ∧ e = [(0, I a 0)]) ∨ (ρ.2.2.1 a = (13, 0) ∧ ∃ k, k < 9 ∧ I a 0 = nI k ∧ e = [(1, nI k)]) ∨ (ρ.2.2.1 a = (14, 0) ∧ ∃ c x y u v, (c = 2 ∨ c = 3 ∨ c = 4 ∨ c = 5) ∧ I a 0 = sOp c ∧ ρ.2.1 a 1 = some x ∧ ρ.2.1 a 2 = some y ∧ sB I ρ lo hi n x u ∧ sB I ρ lo hi n y v ∧ e = u ++ v ++ [(c, nI 0)]))
theorem sB.kept {I I1 : sm_I} {ρ ρ1 : sm_R} {lo hi : Nat} (hf : ∀ x, lo ≤ x → x < hi → I1 x = I x ∧ ρ1.2.1 x = ρ.2.1 x ∧ ρ1.2.2.1 x = ρ.2.2.1 x) : ∀ {n a : Nat} {e : ex}, sB I ρ lo hi n a e → sB I1 ρ1 lo hi n a e
  | 0, _, _, h => h
  | n + 1, a, e, h => by
    obtain ⟨ha, h⟩ := h
    refine ⟨ha, ?_⟩
    obtain ⟨e1, e2, e3⟩ := hf a ha.1 ha.2
    rw [e1, e2, e3]
    rcases h with h | h | ⟨h1, c, x, y, u, v, h2, h3, h4, h5, h6, h7, h8⟩
    · exact Or.inl h
    · exact Or.inr (Or.inl h)
    · exact Or.inr (Or.inr ⟨h1, c, x, y, u, v, h2, h3, h4, h5, h6.kept hf, h7.kept hf, h8⟩)
theorem sB.wk {I : sm_I} {ρ : sm_R} {lo hi lo' hi' : Nat} (hl : lo' ≤ lo) (hh : hi ≤ hi') : ∀ {n m a : Nat} {e : ex}, sB I ρ lo hi n a e → n ≤ m → sB I ρ lo' hi' m a e
  | 0, _, _, _, h, _ => h.elim
  | n + 1, 0, _, _, _, hm => absurd hm (Nat.not_succ_le_zero _)
  | n + 1, m + 1, a, e, h, hm => by
    obtain ⟨ha, h⟩ := h
    refine ⟨⟨by omega, by omega⟩, ?_⟩
    rcases h with h | h | ⟨h1, c, x, y, u, v, h2, h3, h4, h5, h6, h7, h8⟩
    · exact Or.inl h
    · exact Or.inr (Or.inl h)
    · exact Or.inr (Or.inr ⟨h1, c, x, y, u, v, h2, h3, h4, h5, h6.wk hl hh (by omega), h7.wk hl hh (by omega), h8⟩)
theorem sB.sT {I : sm_I} {ρ : sm_R} {lo hi : Nat} (hl : 943 ≤ lo) : ∀ {n a : Nat} {e : ex}, sB I ρ lo hi n a e → sT I ρ n a e
  | 0, _, _, h => h
  | n + 1, a, e, h => by
    obtain ⟨ha, h⟩ := h
    refine ⟨Or.inr (by omega), ?_⟩
    rcases h with h | h | ⟨h1, c, x, y, u, v, h2, h3, h4, h5, h6, h7, h8⟩
    · exact Or.inl h
    · exact Or.inr (Or.inl h)
    · exact Or.inr (Or.inr ⟨h1, c, x, y, u, v, h2, h3, h4, h5, h6.sT hl, h7.sT hl, h8⟩)
/-- by a frame -/
theorem sB.g {A B : Nat → Prop} {I I1 : sm_I} {ρ ρ1 : sm_R} {lo hi : Nat} {n a : Nat} {e : ex} (h : sB I ρ lo hi n a e) (f : gF A B I ρ I1 ρ1) (hh : hi ≤ ρ.2.2.2.1 + 64) (hA : ∀ x, lo ≤ x → x < hi → ¬ A x) (hB : ∀ x, lo ≤ x → x < hi → ¬ B x) : sB I1 ρ1 lo hi n a e :=
  h.kept (fun x h1 h2 => ⟨f.eI (by omega) (hA x h1 h2), f.eP (by omega) (hB x h1 h2), f.eS (by omega)⟩)
/-- how a method ends that reads a sum -/
def xE (I : sm_I) (ρ : sm_R) (tk : tkf) (t : Nat) (w : Nat × Nat) (p : pE) : sm_O → sm_I → sm_R → Prop := fun o I1 ρ1 => gF pA pNo I ρ I1 ρ1 ∧ match p with
  | .inl (m, j) => o = .inr 65 ∧ pft I1 tk m j ∧ bud ρ t ρ1 402
  | .inr (u, t') => ∃ a, o = .inl (some (.ref a)) ∧ pst I1 tk t' w ∧ I1 73 4 = I 73 4 ∧ bud ρ t ρ1 t' ∧ sB I1 ρ1 (ρ.2.2.2.1 + 64) (ρ1.2.2.2.1 + 64) u.length a u
theorem xE.ok {I I1 : sm_I} {ρ ρ1 : sm_R} {tk : tkf} {t : Nat} {w : Nat × Nat} {p : pE} {v : Option Value} (h : xE I ρ tk t w p (.inl v) I1 ρ1) : gF pA pNo I ρ I1 ρ1 ∧ ∃ u t' a, p = .inr (u, t') ∧ v = some (.ref a) ∧ pst I1 tk t' w ∧ I1 73 4 = I 73 4 ∧ bud ρ t ρ1 t' ∧ sB I1 ρ1 (ρ.2.2.2.1 + 64) (ρ1.2.2.2.1 + 64) u.length a u := by
  obtain ⟨h1, h3⟩ := h
  refine ⟨h1, ?_⟩
  match p, h3 with
  | .inl (m, j), h3 => cases h3.1
  | .inr (u, t'), ⟨a, e, h4⟩ =>
    cases e
    exact ⟨u, t', a, rfl, rfl, h4⟩
theorem xE.ex {I I1 : sm_I} {ρ ρ1 : sm_R} {tk : tkf} {t : Nat} {w : Nat × Nat} {p : pE} {b : Nat} (h : xE I ρ tk t w p (.inr b) I1 ρ1) : gF pA pNo I ρ I1 ρ1 ∧ b = 65 ∧ ∃ m j, p = .inl (m, j) ∧ pft I1 tk m j ∧ bud ρ t ρ1 402 := by
  obtain ⟨h1, h3⟩ := h
  refine ⟨h1, ?_⟩
  match p, h3 with
  | .inl (m, j), h3 =>
    cases h3.1
    exact ⟨rfl, m, j, rfl, h3.2⟩
  | .inr (u, t'), ⟨a, e, h4⟩ => cases e
theorem bud.rf {ρ : sm_R} {t t1 : Nat} (h : t ≤ t1) : bud ρ t ρ t1 := ⟨by omega, by omega⟩
theorem bud.tr {ρ ρ1 ρ2 : sm_R} {t t1 t2 : Nat} (h : bud ρ t ρ1 t1) (h2 : bud ρ1 t1 ρ2 t2) : bud ρ t ρ2 t2 := by
  obtain ⟨a1, a2⟩ := h
  obtain ⟨b1, b2⟩ := h2
  exact ⟨by omega, by omega⟩
theorem bud.up {ρ ρ1 : sm_R} {t t1 t2 : Nat} (h : bud ρ t ρ1 t1) (hl : t1 ≤ t2) : bud ρ t ρ1 t2 := h.tr (bud.rf hl)
section F8
variable {G : sm_G} {d : Nat} {I : sm_I} {ρ : sm_R} {P : Nat × (Nat → Int32)} {t : Nat} {w : Nat × Nat}
/-- thrown on: out of a method that makes no cells -/
theorem xN.outS {X : sm_X} {pc b : Nat} {lv : List Value} {I0 I1 : sm_I} {ρ0 ρ1 : sm_R} {tk : tkf} {r : pR} {p : pE} {post : Option Value → Prop} {t0 t1 : Nat} (hh : X.2.2.2.2.2 = []) (hK : kd ρ) (f : gF pA pNo I0 ρ0 I ρ) (hb : bud ρ0 t0 ρ t1) (ht : t1 ≤ 402) (h : xN I ρ tk r post (.inr b) I1 ρ1) (hR : ∀ x, r = .inl x → p = .inl x) : sm_VX G X d pc lv b I1 ρ1 (xE I0 ρ0 tk t0 w p) := by
  obtain ⟨e1, h2, e2, m, j, e3, h4⟩ := h.ex
  subst e1
  subst e2
  refine wp_out hh (o2 hK) ?_
  rw [hR _ e3]
  exact ⟨f.tr (h2.g (A := pA) (B := pNo) (fun a z => z)) (fun _ _ z => z) (fun _ _ z => z), rfl, h4, hb.up ht⟩
/-- thrown on: out of a method that reads a sum -/
theorem xE.outS {X : sm_X} {pc b : Nat} {lv : List Value} {I0 I1 : sm_I} {ρ0 ρ1 : sm_R} {tk : tkf} {p q : pE} {t0 t1 : Nat} {w' : Nat × Nat} (hh : X.2.2.2.2.2 = []) (hK : kd ρ) (hn : 879 ≤ ρ.2.2.2.1) (f : gF pA pNo I0 ρ0 I ρ) (hb : bud ρ0 t0 ρ t1) (h : xE I ρ tk t1 w' q (.inr b) I1 ρ1) (hR : ∀ x, q = .inl x → p = .inl x) : sm_VX G X d pc lv b I1 ρ1 (xE I0 ρ0 tk t0 w p) := by
  obtain ⟨h2, e2, m, j, e3, h4, h5⟩ := h.ex
  subst e2
  have hK1 : kd ρ1 := h2.kd hK (by omega) (fun _ _ z => z)
  refine wp_out hh (o2 hK1) ?_
  rw [hR _ e3]
  exact ⟨f.tr h2 (fun _ _ z => z) (fun _ _ z => z), rfl, h4, hb.tr h5⟩
theorem s_sinit {a : Nat} : sm_M G xX12_init (d + 1) [.ref a] I ρ (sm_Qe none I ρ) := by
  show sm_V G xX12_init (d + 1) 0 [.ref a] [] I ρ _
  refine wp_aload0 1 rfl dX12_init_0 ?_
  refine wp_objInit 4 rfl dX12_init_1 q769 (nl rfl) ?_
  refine wp_vret dX12_init_4 rfl ?_
  exact ⟨rfl, rfl, rfl⟩
theorem s_ninit {a : Nat} {v : Int32} (hs : ρ.2.2.1 a = (12, 0)) : sm_M G xX13_init (d + 2) [.ref a, .int v] I ρ (sm_Qe none (sm_u I a 0 v) ρ) := by
  show sm_V G xX13_init (d + 2) 0 [.ref a, .int v] [] I ρ _
  refine wp_aload0 1 rfl dX13_init_0 ?_
  refine wp_INe0 4 rfl dX13_init_1 kX12_init lX13_1 rfl (nl rfl) (nl rfl) (s_sinit) ?_
  refine wp_aload0 5 rfl dX13_init_4 ?_
  refine wp_iload1 6 rfl dX13_init_5 ?_
  refine wp_putiF 9 rfl dX13_init_6 rfl pX13_7_12 hs ⟨rfl, rfl⟩ ?_
  refine wp_vret dX13_init_9 rfl ?_
  exact ⟨rfl, rfl, rfl⟩
theorem s_vinit {a : Nat} {v : Int32} (hs : ρ.2.2.1 a = (13, 0)) : sm_M G xX14_init (d + 2) [.ref a, .int v] I ρ (sm_Qe none (sm_u I a 0 v) ρ) := by
  show sm_V G xX14_init (d + 2) 0 [.ref a, .int v] [] I ρ _
  refine wp_aload0 1 rfl dX14_init_0 ?_
  refine wp_INe0 4 rfl dX14_init_1 kX12_init lX14_1 rfl (nl rfl) (nl rfl) (s_sinit) ?_
  refine wp_aload0 5 rfl dX14_init_4 ?_
  refine wp_iload1 6 rfl dX14_init_5 ?_
  refine wp_putiF 9 rfl dX14_init_6 rfl pX14_7_13 hs ⟨rfl, rfl⟩ ?_
  refine wp_vret dX14_init_9 rfl ?_
  exact ⟨rfl, rfl, rfl⟩
theorem s_jinit {a x y : Nat} {v : Int32} (hs : ρ.2.2.1 a = (14, 0)) : sm_M G xX15_init (d + 2) [.ref a, .int v, .ref x, .ref y] I ρ (sm_Qe none (sm_u I a 0 v) (ρ.1, sm_up (sm_up ρ.2.1 a 1 (some x)) a 2 (some y), ρ.2.2)) := by
  show sm_V G xX15_init (d + 2) 0 [.ref a, .int v, .ref x, .ref y] [] I ρ _
  refine wp_aload0 1 rfl dX15_init_0 ?_
  refine wp_INe0 4 rfl dX15_init_1 kX12_init lX15_1 rfl (nl rfl) (nl rfl) (s_sinit) ?_
  refine wp_aload0 5 rfl dX15_init_4 ?_
  refine wp_iload1 6 rfl dX15_init_5 ?_
  refine wp_putiF 9 rfl dX15_init_6 rfl pX15_7_14 hs ⟨rfl, rfl⟩ ?_
  refine wp_aload0 10 rfl dX15_init_9 ?_
  refine wp_aload2 11 rfl dX15_init_10 ?_
  refine wp_putrF 14 rfl dX15_init_11 rfl pX15_13_14 hs (fun q => ⟨rfl, rfl⟩) ?_
  refine wp_aload0 15 rfl dX15_init_14 ?_
  refine wp_aload3 16 rfl dX15_init_15 ?_
  refine wp_putrF 19 rfl dX15_init_16 rfl pX15_17_14 hs (fun q => ⟨rfl, rfl⟩) ?_
  refine wp_vret dX15_init_19 rfl ?_
  exact ⟨rfl, rfl, rfl⟩
end F8
