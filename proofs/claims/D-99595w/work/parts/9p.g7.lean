/-! ===== a text in the making ===== -/
set_option maxRecDepth 100000
/-! trees, laws: by the kinds of their cells -/
theorem sB.kd {I I1 : sm_I} {ρ ρ1 : sm_R} {lo hi : Nat} (hf : ∀ x, lo ≤ x → x < hi → ((ρ.2.2.1 x).1 = 12 ∨ (ρ.2.2.1 x).1 = 13 ∨ (ρ.2.2.1 x).1 = 14) → I1 x = I x ∧ ρ1.2.1 x = ρ.2.1 x ∧ ρ1.2.2.1 x = ρ.2.2.1 x) : ∀ {n a : Nat} {e : ex}, sB I ρ lo hi n a e → sB I1 ρ1 lo hi n a e
  | 0, _, _, h => h
  | n + 1, a, e, h => by
    obtain ⟨ha, h⟩ := h
    have hk : (ρ.2.2.1 a).1 = 12 ∨ (ρ.2.2.1 a).1 = 13 ∨ (ρ.2.2.1 a).1 = 14 := by
      rcases h with h | h | h
      · rw [h.1]; exact Or.inl rfl
      · rw [h.1]; exact Or.inr (Or.inl rfl)
      · rw [h.1]; exact Or.inr (Or.inr rfl)
    refine ⟨ha, ?_⟩
    obtain ⟨e1, e2, e3⟩ := hf a ha.1 ha.2 hk
    rw [e1, e2, e3]
    rcases h with h | h | ⟨h1, c, x, y, u, v, h2, h3, h4, h5, h6, h7, h8⟩
    · exact Or.inl h
    · exact Or.inr (Or.inl h)
    · exact Or.inr (Or.inr ⟨h1, c, x, y, u, v, h2, h3, h4, h5, h6.kd hf, h7.kd hf, h8⟩)
/-- kinds of a law's cells -/
def lk (k : Nat) : Prop := k = 11 ∨ k = 12 ∨ k = 13 ∨ k = 14 ∨ k = 108
theorem lQ.k {A B : Nat → Prop} {I I1 : sm_I} {ρ ρ1 : sm_R} {lo hi hi' l k n : Nat} {e : ex} (h : lQ I ρ lo hi l k e) (f : gF A B I ρ I1 ρ1) (hl : l < ρ.2.2.2.1 + 64) (h8 : ρ.2.2.1 l = (108, n)) (hlo : ¬ B l) (hh : hi ≤ ρ.2.2.2.1 + 64) (h2 : hi ≤ hi') (hA : ∀ x, lo ≤ x → lk (ρ.2.2.1 x).1 → ¬ A x) (hB : ∀ x, lo ≤ x → lk (ρ.2.2.1 x).1 → ¬ B x) : lQ I1 ρ1 lo hi' l k e := by
  obtain ⟨b, h1, h3⟩ := h
  refine ⟨b, (congrFun (f.eP hl hlo) k).trans h1, (h3.kd (fun x x1 x2 x3 => ?_)).wk (Nat.le_refl _) h2 (Nat.le_refl _)⟩
  have hk : lk (ρ.2.2.1 x).1 := by unfold lk; omega
  exact ⟨f.eI (by omega) (hA x x1 hk), f.eP (by omega) (hB x x1 hk), f.eS (by omega)⟩
theorem lB.k {A B : Nat → Prop} {I I1 : sm_I} {ρ ρ1 : sm_R} {lo a : Nat} {L : lwt × ex} (h : lB I ρ lo (ρ.2.2.2.1 + 64) a L) (f : gF A B I ρ I1 ρ1) (hA : ∀ x, lo ≤ x → lk (ρ.2.2.1 x).1 → ¬ A x) (hB : ∀ x, lo ≤ x → lk (ρ.2.2.1 x).1 → ¬ B x) : lB I1 ρ1 lo (ρ1.2.2.2.1 + 64) a L := by
  obtain ⟨⟨h1, h2⟩, ⟨h3, h4, h5⟩, h6, h7⟩ := h
  have hle := f.nxl
  obtain ⟨s0, s1, s2, s3, s4⟩ := h3
  have k0 : lk (ρ.2.2.1 a).1 := by rw [s0]; exact Or.inl rfl
  have k1 : lk (ρ.2.2.1 (a + 1)).1 := by rw [s2]; unfold lk; simp
  have k2 : lk (ρ.2.2.1 (a + 2)).1 := by rw [s3]; unfold lk; simp
  have k3 : lk (ρ.2.2.1 (a + 3)).1 := by rw [s4]; unfold lk; simp
  have hA' : ∀ x, a + 4 ≤ x → lk (ρ.2.2.1 x).1 → ¬ A x := fun x hx hk => hA x (by omega) hk
  have hB' : ∀ x, a + 4 ≤ x → lk (ρ.2.2.1 x).1 → ¬ B x := fun x hx hk => hB x (by omega) hk
  have q1 : ∀ i e, lQ I ρ (a + 4) (ρ.2.2.2.1 + 64) (a + 1) i e → lQ I1 ρ1 (a + 4) (ρ1.2.2.2.1 + 64) (a + 1) i e := fun i e q => q.k f (by omega) s2 (hB _ (by omega) k1) (Nat.le_refl _) hle hA' hB'
  have q2 : ∀ i e, lQ I ρ (a + 4) (ρ.2.2.2.1 + 64) (a + 2) i e → lQ I1 ρ1 (a + 4) (ρ1.2.2.2.1 + 64) (a + 2) i e := fun i e q => q.k f (by omega) s3 (hB _ (by omega) k2) (Nat.le_refl _) hle hA' hB'
  have q3 : ∀ i e, lQ I ρ (a + 4) (ρ.2.2.2.1 + 64) (a + 3) i e → lQ I1 ρ1 (a + 4) (ρ1.2.2.2.1 + 64) (a + 3) i e := fun i e q => q.k f (by omega) s4 (hB _ (by omega) k3) (Nat.le_refl _) hle hA' hB'
  refine ⟨⟨h1, by omega⟩, ⟨lb.g ⟨s0, s1, s2, s3, s4⟩ f h2 (hB a h1 k0), ?_, fun i t hi => ?_⟩, h6, q3 _ _ h7⟩
  · rw [f.eI (by omega) (hA a h1 k0)]; exact h4
  · obtain ⟨c1, c2, c3⟩ := h5 i t hi
    exact ⟨q1 _ _ c1, q2 _ _ c2, q3 _ _ c3⟩
theorem lB.cL {I : sm_I} {ρ : sm_R} {lo hi a : Nat} {L : lwt × ex} (h : lB I ρ lo hi a L) (hl : 943 ≤ lo) : cL I ρ a L := by
  obtain ⟨⟨h1, h2⟩, ⟨⟨s0, s1, s2, s3, s4⟩, h4, h5⟩, h6, h7⟩ := h
  have q : ∀ l i e, lQ I ρ (a + 4) hi l i e → ∃ b, ρ.2.1 l i = some b ∧ sT I ρ 401 b e := fun l i e q => by
    obtain ⟨b, b1, b2⟩ := q
    exact ⟨b, b1, (b2.wk (Nat.le_refl _) (Nat.le_refl _) (show 400 ≤ 401 by decide)).sT (by omega)⟩
  refine ⟨⟨s0, Or.inr (by omega)⟩, ⟨h4, h6⟩, a + 1, a + 2, a + 3, s1, ⟨s2, s3, s4⟩, fun i t hi => ?_, q _ _ _ h7⟩
  obtain ⟨c1, c2, c3⟩ := h5 i t hi
  exact ⟨q _ _ _ c1, q _ _ _ c2, q _ _ _ c3⟩
theorem lB.lo {I : sm_I} {ρ : sm_R} {lo lo' hi a : Nat} {L : lwt × ex} (h : lB I ρ lo hi a L) (hl : lo' ≤ lo) : lB I ρ lo' hi a L := ⟨⟨by have := h.1.1; omega, h.1.2⟩, h.2⟩
/-! the pieces -/
def bb (ρ : sm_R) (lo : Nat) : Prop := 943 ≤ lo ∧ lo + 4 < ρ.2.2.2.1 + 64 ∧ ρ.2.2.1 lo = (5, 0) ∧ (ρ.2.1 lo 0 = some (lo + 1) ∧ ρ.2.1 lo 1 = some (lo + 2) ∧ ρ.2.1 lo 2 = some (lo + 3) ∧ ρ.2.1 lo 3 = some (lo + 4)) ∧ ρ.2.2.1 (lo + 1) = (18, 0) ∧ ρ.2.2.1 (lo + 2) = (18, 0) ∧ ρ.2.2.1 (lo + 3) = (18, 0) ∧ ρ.2.2.1 (lo + 4) = (109, 3)
def bl (I : sm_I) (ρ : sm_R) (lo l e n : Nat) (f : Nat → Nat) : Prop := I l 2 = nI n ∧ ρ.2.1 l 1 = some e ∧ ((n = 0 ∧ e = 44) ∨ (ρ.2.2.1 e = (105, 10) ∧ lo + 5 ≤ e ∧ e < ρ.2.2.2.1 + 64)) ∧ n ≤ 10 ∧ ∀ i, i < n → ρ.2.1 e i = some (f i)
def bd (I : sm_I) (ρ : sm_R) (lo kx n : Nat) (f fa st nm : Nat → Nat) (F : Nat → Int32) : Prop := ∀ i, i < n → ((lo ≤ f i ∧ f i < ρ.2.2.2.1 + 64) ∧ ρ.2.2.1 (f i) = (kx, 0) ∧ ρ.2.1 (f i) 0 = some (st i) ∧ ρ.2.1 (f i) 1 = some (fa i)) ∧ ((lo ≤ fa i ∧ fa i < ρ.2.2.2.1 + 64) ∧ ρ.2.2.1 (fa i) = (100, 4) ∧ ∀ p, p < 4 → I (fa i) p = F (4 * i + p)) ∧ cNm I ρ lo (ρ.2.2.2.1 + 64) (st i) (nm i)
def br (I : sm_I) (ρ : sm_R) (lo : Nat) (f : Nat → Nat) (T : tx) : Prop := ∀ r, r < tx_R T → ((lo ≤ f r ∧ f r < ρ.2.2.2.1 + 64) ∧ ρ.2.2.1 (f r) = (17, 0)) ∧ I (f r) 0 = nI (tx_who T r) ∧ I (f r) 1 = nI (tx_door T r) ∧ I (f r) 2 = tx_ev T r ∧ I (f r) 3 = tx_fr T r
def bv (I : sm_I) (lo : Nat) (T : tx) : Prop := I lo 4 = tx_wind T ∧ I lo 5 = tx_near T ∧ I lo 6 = tx_seed T
def bw (I : sm_I) (ρ : sm_R) (lo : Nat) (T : tx) : Prop := ∀ k, k < 3 → match tx_law T k with
    | none => ρ.2.1 (lo + 4) k = none
    | some L => ∃ a, ρ.2.1 (lo + 4) k = some a ∧ lB I ρ lo (ρ.2.2.2.1 + 64) a L
/-- the lists' own arrays are apart -/
def bE (E : Nat × Nat × Nat) : Prop := (E.1 = 44 ∨ ¬ E.1 = E.2.1) ∧ (E.1 = 44 ∨ ¬ E.1 = E.2.2) ∧ (E.2.1 = 44 ∨ ¬ E.2.1 = E.2.2)
abbrev bQ : Type := (Nat × Nat × Nat) × (Nat → Nat) × (Nat → Nat) × (Nat → Nat) × (Nat → Nat) × (Nat → Nat) × (Nat → Nat) × (Nat → Nat)
/-- the whole: q = arrays; doors, faces, names; callers, faces, names; rounds -/
def bT (I : sm_I) (ρ : sm_R) (lo : Nat) (q : bQ) (nd nc : Nat → Nat) (T : tx) : Prop := bb ρ lo ∧ (bl I ρ lo (lo + 1) q.1.1 (tx_D T) q.2.1 ∧ bl I ρ lo (lo + 2) q.1.2.1 (tx_C T) q.2.2.2.2.1 ∧ bl I ρ lo (lo + 3) q.1.2.2 (tx_R T) q.2.2.2.2.2.2.2 ∧ bE q.1) ∧ bd I ρ lo 15 (tx_D T) q.2.1 q.2.2.1 q.2.2.2.1 nd (tx_ff T) ∧ bd I ρ lo 16 (tx_C T) q.2.2.2.2.1 q.2.2.2.2.2.1 q.2.2.2.2.2.2.1 nc (tx_cf T) ∧ br I ρ lo q.2.2.2.2.2.2.2 T ∧ bv I lo T ∧ bw I ρ lo T
section G7k
variable {A B : Nat → Prop} {I I1 : sm_I} {ρ ρ1 : sm_R} {lo : Nat} {T : tx}
theorem bb.g (h : bb ρ lo) (f : gF A B I ρ I1 ρ1) (hB : ¬ B lo) : bb ρ1 lo := by
  obtain ⟨h1, h2, h3⟩ := h
  have := f.nxl
  refine ⟨h1, by omega, ?_⟩
  rw [f.eS (by omega), f.eP (by omega) hB, f.eS (by omega), f.eS (by omega), f.eS (by omega), f.eS (by omega)]
  exact h3
theorem bl.g {l e n : Nat} {f : Nat → Nat} (h : bl I ρ lo l e n f) (g : gF A B I ρ I1 ρ1) (h9 : 943 ≤ lo) (hl : l < ρ.2.2.2.1 + 64) (hA : ¬ A l) (hB : ¬ B l) (hBe : ¬ e = 44 → ¬ B e) : bl I1 ρ1 lo l e n f := by
  obtain ⟨h1, h2, h3, h4, h5⟩ := h
  have := g.nxl
  refine ⟨by rw [g.eI hl hA]; exact h1, by rw [g.eP hl hB]; exact h2, ?_, h4, fun i hi => ?_⟩
  · rcases h3 with h3 | ⟨h3, h6, h7⟩
    · exact Or.inl h3
    · exact Or.inr ⟨(g.eS h7).trans h3, h6, by omega⟩
  · rcases h3 with h3 | ⟨h3, h6, h7⟩
    · omega
    · rw [g.eP h7 (hBe (fun z => by rw [z] at h7 h6; omega))]
      exact h5 i hi
theorem bd.g {kx n : Nat} {f fa st nm : Nat → Nat} {F : Nat → Int32} (h : bd I ρ lo kx n f fa st nm F) (g : gF A B I ρ I1 ρ1) (hA : ∀ x, lo ≤ x → ((ρ.2.2.1 x).1 = 100 ∨ (ρ.2.2.1 x).1 = 19 ∨ (ρ.2.2.1 x).1 = 101) → ¬ A x) (hB : ∀ x, lo ≤ x → ((ρ.2.2.1 x).1 = kx ∨ (ρ.2.2.1 x).1 = 19) → ¬ B x) : bd I1 ρ1 lo kx n f fa st nm F := by
  intro i hi
  obtain ⟨⟨⟨a1, a2⟩, a3, a4, a5⟩, ⟨⟨b1, b2⟩, b3, b4⟩, c1⟩ := h i hi
  have := g.nxl
  have hp := g.eP a2 (hB _ a1 (Or.inl (by rw [a3])))
  refine ⟨⟨⟨a1, by omega⟩, (g.eS a2).trans a3, by rw [hp]; exact a4, by rw [hp]; exact a5⟩, ⟨⟨b1, by omega⟩, (g.eS b2).trans b3, fun p hp => ?_⟩, c1.g g (Nat.le_refl _) this (fun x hx z => hA x hx (Or.inr z)) (fun x hx z => hB x hx (Or.inr z))⟩
  rw [g.eI b2 (hA _ b1 (Or.inl (by rw [b3])))]
  exact b4 p hp
theorem br.g {f : Nat → Nat} (h : br I ρ lo f T) (g : gF A B I ρ I1 ρ1) (hA : ∀ x, lo ≤ x → (ρ.2.2.1 x).1 = 17 → ¬ A x) : br I1 ρ1 lo f T := by
  intro r hr
  obtain ⟨⟨⟨a1, a2⟩, a3⟩, b⟩ := h r hr
  have := g.nxl
  refine ⟨⟨⟨a1, by omega⟩, (g.eS a2).trans a3⟩, ?_⟩
  rw [g.eI a2 (hA _ a1 (by rw [a3]))]
  exact b
theorem bv.g (h : bv I lo T) (g : gF A B I ρ I1 ρ1) (hl : lo < ρ.2.2.2.1 + 64) (hA : ¬ A lo) : bv I1 lo T := by
  unfold bv
  rw [g.eI hl hA]
  exact h
theorem bw.g (h : bw I ρ lo T) (g : gF A B I ρ I1 ρ1) (hl : lo + 4 < ρ.2.2.2.1 + 64) (hB4 : ¬ B (lo + 4)) (hA : ∀ x, lo ≤ x → lk (ρ.2.2.1 x).1 → ¬ A x) (hB : ∀ x, lo ≤ x → lk (ρ.2.2.1 x).1 → ¬ B x) : bw I1 ρ1 lo T := by
  intro k hk
  have h0 := h k hk
  cases hL : tx_law T k with
  | none =>
    rw [hL] at h0
    rw [g.eP hl hB4]
    exact h0
  | some L =>
    rw [hL] at h0
    obtain ⟨a, a1, a2⟩ := h0
    exact ⟨a, by rw [g.eP hl hB4]; exact a1, a2.k g hA hB⟩
/-- nothing of the text changes -/
theorem bT.g {q : bQ} {nd nc : Nat → Nat} (h : bT I ρ lo q nd nc T) (g : gF A B I ρ I1 ρ1) (hA : ∀ x, lo ≤ x → ¬ A x) (hB : ∀ x, lo ≤ x → ¬ B x) : bT I1 ρ1 lo q nd nc T := by
  obtain ⟨h1, ⟨h2, h3, h4, h5⟩, h6, h7, h8, h9, h10⟩ := h
  have hb := h1.2.1
  have hb9 := h1.1
  have hE : ∀ {l e n : Nat} {f : Nat → Nat}, bl I ρ lo l e n f → ¬ e = 44 → ¬ B e := fun {l e n f} b ne => by
    rcases b.2.2.1 with z | z
    · exact absurd z.2 ne
    · exact hB _ (by omega)
  exact ⟨h1.g g (hB _ (Nat.le_refl _)), ⟨h2.g g (by omega) (by omega) (hA _ (by omega)) (hB _ (by omega)) (hE h2), h3.g g (by omega) (by omega) (hA _ (by omega)) (hB _ (by omega)) (hE h3), h4.g g (by omega) (by omega) (hA _ (by omega)) (hB _ (by omega)) (hE h4), h5⟩, h6.g g (fun x hx _ => hA x hx) (fun x hx _ => hB x hx), h7.g g (fun x hx _ => hA x hx) (fun x hx _ => hB x hx), h8.g g (fun x hx _ => hA x hx), h9.g g (by omega) (hA _ (Nat.le_refl _)), h10.g g hb (hB _ (by omega)) (fun x hx _ => hA x hx) (fun x hx _ => hB x hx)⟩
theorem bl.cLs {l e n : Nat} {f : Nat → Nat} (h : bl I ρ lo l e n f) (hs : ρ.2.2.1 l = (18, 0)) (hl : 943 ≤ l) : cLs I ρ l n f := by
  obtain ⟨h1, h2, h3, h4, h5⟩ := h
  refine ⟨⟨hs, Or.inr hl⟩, h1, e, 10, h2, ?_, h4, h5⟩
  rcases h3 with h3 | h3
  · exact Or.inl h3
  · exact Or.inr ⟨h3.1, rfl⟩
/-- a text that stands -/
theorem bT.cT {q : bQ} {nd nc : Nat → Nat} (h : bT I ρ lo q nd nc T) : cT I ρ lo ((lo + 1, lo + 2, lo + 3, lo + 4), q.2.1, q.2.2.1, q.2.2.2.2.1, q.2.2.2.2.2.1, q.2.2.2.2.2.2.2) T := by
  obtain ⟨⟨b1, b2, b3, b4, b5, b6, b7, b8⟩, ⟨h2, h3, h4, h5⟩, h6, h7, h8, h9, h10⟩ := h
  refine ⟨⟨b3, Or.inr b1⟩, b4, ⟨h2.cLs b5 (by omega), h3.cLs b6 (by omega), h4.cLs b7 (by omega)⟩, fun i hi => ?_, fun i hi => ?_, fun r hr => ?_, h9, b8, fun k hk => ?_⟩
  · obtain ⟨⟨a1, a2, a3, a4⟩, ⟨c1, c2, c3⟩, -⟩ := h6 i hi
    exact ⟨a2, a4, ⟨c2, Or.inr (Nat.le_trans b1 c1.1)⟩, c3⟩
  · obtain ⟨⟨a1, a2, a3, a4⟩, ⟨c1, c2, c3⟩, -⟩ := h7 i hi
    exact ⟨a2, a4, ⟨c2, Or.inr (Nat.le_trans b1 c1.1)⟩, c3⟩
  · obtain ⟨⟨a1, a2⟩, a3⟩ := h8 r hr
    exact ⟨⟨a2, Or.inr (Nat.le_trans b1 a1.1)⟩, a3⟩
  · have h0 := h10 k hk
    cases hL : tx_law T k with
    | none =>
      rw [hL] at h0
      exact h0
    | some L =>
      rw [hL] at h0
      obtain ⟨a, a1, a2⟩ := h0
      exact ⟨a, a1, a2.cL b1⟩
end G7k
/-! names told -/
def nmB (N : List (Nat × Nat)) (D C : Nat) (nd nc : Nat → Nat) : Prop := (∀ x, N.any (fun y => y.1 == x) = true ↔ (∃ i, i < D ∧ nd i = x) ∨ ∃ i, i < C ∧ nc i = x) ∧ (∀ x k, g_find x 0 N = some k ↔ k < D ∧ nd k = x ∧ ∀ j, j < k → ¬ nd j = x) ∧ ∀ x k, g_find x 10 N = some k ↔ k < C ∧ nc k = x ∧ ∀ j, j < k → ¬ nc j = x
theorem g_find_app (nm lo : Nat) (y : Nat × Nat) : ∀ N : List (Nat × Nat), g_find nm lo (N ++ [y]) = match g_find nm lo N with
    | some k => some k
    | none => if y.1 = nm ∧ lo ≤ y.2 ∧ y.2 < lo + 10 then some (y.2 - lo) else none
  | [] => rfl
  | x :: N => by
    show (if x.1 = nm ∧ lo ≤ x.2 ∧ x.2 < lo + 10 then some (x.2 - lo) else g_find nm lo (N ++ [y])) = match (if x.1 = nm ∧ lo ≤ x.2 ∧ x.2 < lo + 10 then some (x.2 - lo) else g_find nm lo N) with
      | some k => some k
      | none => if y.1 = nm ∧ lo ≤ y.2 ∧ y.2 < lo + 10 then some (y.2 - lo) else none
    by_cases h : x.1 = nm ∧ lo ≤ x.2 ∧ x.2 < lo + 10
    · rw [if_pos h, if_pos h]
    · rw [if_neg h, if_neg h]
      exact g_find_app nm lo y N
theorem nmB_0 {nd nc : Nat → Nat} : nmB [] 0 0 nd nc := by
  refine ⟨fun x => ⟨fun h => ?_, fun h => ?_⟩, fun x k => ⟨fun h => ?_, fun h => absurd h.1 (Nat.not_lt_zero _)⟩, fun x k => ⟨fun h => ?_, fun h => absurd h.1 (Nat.not_lt_zero _)⟩⟩
  · cases h
  · rcases h with ⟨i, h, -⟩ | ⟨i, h, -⟩
    · exact absurd h (Nat.not_lt_zero _)
    · exact absurd h (Nat.not_lt_zero _)
  · cases h
  · cases h
/-- one more in a row -/
theorem nm_up {D z : Nat} {nd : Nat → Nat} {o : Nat → Option Nat} (h : ∀ x k, o x = some k ↔ k < D ∧ nd k = x ∧ ∀ j, j < k → ¬ nd j = x) (x k : Nat) : (match o x with
    | some k => some k
    | none => if z = x then some D else none) = some k ↔ k < D + 1 ∧ (if k = D then z else nd k) = x ∧ ∀ j, j < k → ¬ (if j = D then z else nd j) = x := by
  cases ho : o x with
  | some k0 =>
    obtain ⟨h1, h2, h3⟩ := (h x k0).mp ho
    show some k0 = some k ↔ _
    constructor
    · intro e
      cases e
      exact ⟨by omega, by rw [if_neg (by omega)]; exact h2, fun j hj => by rw [if_neg (by omega)]; exact h3 j hj⟩
    · rintro ⟨g1, g2, g3⟩
      by_cases e : k = D
      · exfalso
        have := g3 k0 (by omega)
        rw [if_neg (by omega)] at this
        exact this h2
      · rw [if_neg e] at g2
        have := (h x k).mpr ⟨by omega, g2, fun j hj => by have := g3 j hj; rw [if_neg (by omega)] at this; exact this⟩
        rw [← ho, this]
  | none =>
    have no : ∀ j, j < D → ¬ nd j = x := fun j hj e => by
      -- the first such
      have : ∀ n j, j ≤ n → j < D → nd j = x → ∃ k, o x = some k := by
        intro n
        induction n with
        | zero =>
          intro j j1 j2 j3
          obtain rfl : j = 0 := by omega
          exact ⟨0, (h x 0).mpr ⟨j2, j3, fun i hi => absurd hi (Nat.not_lt_zero _)⟩⟩
        | succ n ih =>
          intro j j1 j2 j3
          by_cases q : ∃ i, i < j ∧ nd i = x
          · obtain ⟨i, i1, i2⟩ := q
            exact ih i (by omega) (by omega) i2
          · exact ⟨j, (h x j).mpr ⟨j2, j3, fun i hi z => q ⟨i, hi, z⟩⟩⟩
      obtain ⟨k, hk⟩ := this j j (Nat.le_refl _) hj e
      rw [ho] at hk
      cases hk
    show (if z = x then some D else none) = some k ↔ _
    by_cases e : z = x
    · rw [if_pos e]
      constructor
      · intro e2
        cases e2
        exact ⟨by omega, by rw [if_pos rfl]; exact e, fun j hj => by rw [if_neg (by omega)]; exact no j hj⟩
      · rintro ⟨g1, g2, g3⟩
        by_cases ek : k = D
        · rw [ek]
        · rw [if_neg ek] at g2
          exact absurd g2 (no k (by omega))
    · rw [if_neg e]
      constructor
      · intro e2
        cases e2
      · rintro ⟨g1, g2, g3⟩
        by_cases ek : k = D
        · rw [if_pos ek] at g2
          exact absurd g2 e
        · rw [if_neg ek] at g2
          exact absurd g2 (no k (by omega))
theorem ex_up {D z x : Nat} {nd : Nat → Nat} : (∃ i, i < D + 1 ∧ (if i = D then z else nd i) = x) ↔ (∃ i, i < D ∧ nd i = x) ∨ z = x := by
  constructor
  · rintro ⟨i, h1, h2⟩
    by_cases e : i = D
    · rw [if_pos e] at h2
      exact Or.inr h2
    · rw [if_neg e] at h2
      exact Or.inl ⟨i, by omega, h2⟩
  · rintro (⟨i, h1, h2⟩ | h)
    · exact ⟨i, by omega, by rw [if_neg (by omega)]; exact h2⟩
    · exact ⟨D, by omega, by rw [if_pos rfl]; exact h⟩
theorem nmB.door {N : List (Nat × Nat)} {D C z : Nat} {nd nc : Nat → Nat} (h : nmB N D C nd nc) (hD : D < 10) : nmB (N ++ [(z, D)]) (D + 1) C (fun i => if i = D then z else nd i) nc := by
  obtain ⟨h1, h2, h3⟩ := h
  refine ⟨fun x => ?_, fun x k => ?_, fun x k => ?_⟩
  · rw [List.any_append, Bool.or_eq_true, h1 x, ex_up]
    have : ([(z, D)].any (fun y => y.1 == x) = true) ↔ z = x := by simp
    rw [this]
    constructor
    · rintro ((a | a) | a)
      · exact Or.inl (Or.inl a)
      · exact Or.inr a
      · exact Or.inl (Or.inr a)
    · rintro ((a | a) | a)
      · exact Or.inl (Or.inl a)
      · exact Or.inr a
      · exact Or.inl (Or.inr a)
  · rw [g_find_app]
    have := nm_up (z := z) (o := fun x => g_find x 0 N) h2 x k
    have e : (if (z, D).1 = x ∧ 0 ≤ (z, D).2 ∧ (z, D).2 < 0 + 10 then some ((z, D).2 - 0) else none) = if z = x then some D else none := by
      by_cases q : z = x
      · rw [if_pos ⟨q, Nat.zero_le _, by show D < 0 + 10; omega⟩, if_pos q]
        rfl
      · rw [if_neg (fun y => q y.1), if_neg q]
    rw [e]
    exact this
  · rw [g_find_app]
    have e : (if (z, D).1 = x ∧ 10 ≤ (z, D).2 ∧ (z, D).2 < 10 + 10 then some ((z, D).2 - 10) else none) = none := if_neg (fun y => by have := y.2.1; have : 10 ≤ D := this; omega)
    rw [e]
    cases ho : g_find x 10 N with
    | some k0 => rw [← h3, ho]
    | none => rw [← h3, ho]
theorem nmB.caller {N : List (Nat × Nat)} {D C z : Nat} {nd nc : Nat → Nat} (h : nmB N D C nd nc) (hC : C < 10) : nmB (N ++ [(z, 10 + C)]) D (C + 1) nd (fun i => if i = C then z else nc i) := by
  obtain ⟨h1, h2, h3⟩ := h
  refine ⟨fun x => ?_, fun x k => ?_, fun x k => ?_⟩
  · rw [List.any_append, Bool.or_eq_true, h1 x, ex_up]
    have : ([(z, 10 + C)].any (fun y => y.1 == x) = true) ↔ z = x := by simp
    rw [this, or_assoc]
  · rw [g_find_app]
    have e : (if (z, 10 + C).1 = x ∧ 0 ≤ (z, 10 + C).2 ∧ (z, 10 + C).2 < 0 + 10 then some ((z, 10 + C).2 - 0) else none) = none := if_neg (fun y => by have := y.2.2; have : 10 + C < 0 + 10 := this; omega)
    rw [e]
    cases ho : g_find x 0 N with
    | some k0 => rw [← h2, ho]
    | none => rw [← h2, ho]
  · rw [g_find_app]
    have := nm_up (z := z) (o := fun x => g_find x 10 N) h3 x k
    have e : (if (z, 10 + C).1 = x ∧ 10 ≤ (z, 10 + C).2 ∧ (z, 10 + C).2 < 10 + 10 then some ((z, 10 + C).2 - 10) else none) = if z = x then some C else none := by
      by_cases q : z = x
      · rw [if_pos ⟨q, Nat.le_add_right _ _, by show 10 + C < 10 + 10; omega⟩, if_pos q]
        show some (10 + C - 10) = some C
        rw [Nat.add_sub_cancel_left]
      · rw [if_neg (fun y => q y.1), if_neg q]
    rw [e]
    exact this
