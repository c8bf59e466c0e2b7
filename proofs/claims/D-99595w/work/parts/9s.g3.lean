/-! ===== a text in the making: one thing more ===== -/
set_option maxRecDepth 100000
/-- a new owner of a name: object, face, name -/
def bn (I : sm_I) (ρ : sm_R) (lo kx a fa s nm : Nat) (v : Nat → Int32) : Prop := ((lo ≤ a ∧ a < ρ.2.2.2.1 + 64) ∧ ρ.2.2.1 a = (kx, 0) ∧ ρ.2.1 a 0 = some s ∧ ρ.2.1 a 1 = some fa) ∧ ((lo ≤ fa ∧ fa < ρ.2.2.2.1 + 64) ∧ ρ.2.2.1 fa = (100, 4) ∧ ∀ p, p < 4 → I fa p = v p) ∧ cNm I ρ lo (ρ.2.2.2.1 + 64) s nm
section G3p
variable {I I1 : sm_I} {ρ ρ1 : sm_R} {lo : Nat} {q : bQ} {nd nc : Nat → Nat} {T : tx}
theorem bd.up {kx n a fa s z : Nat} {f fs st nm : Nat → Nat} {F v : Nat → Int32} (h : bd I ρ lo kx n f fs st nm F) (hn : bn I ρ lo kx a fa s z v) : bd I ρ lo kx (n + 1) (fun i => if i = n then a else f i) (fun i => if i = n then fa else fs i) (fun i => if i = n then s else st i) (fun i => if i = n then z else nm i) (fun j => if 4 * n ≤ j ∧ j < 4 * n + 4 then v (j - 4 * n) else F j) := by
  intro i hi
  by_cases e : i = n
  · subst e
    obtain ⟨h1, ⟨h2, h3, h4⟩, h5⟩ := hn
    simp only [if_pos]
    refine ⟨h1, ⟨h2, h3, fun p hp => ?_⟩, h5⟩
    show I fa p = if 4 * i ≤ 4 * i + p ∧ 4 * i + p < 4 * i + 4 then v (4 * i + p - 4 * i) else F (4 * i + p)
    rw [if_pos (by omega), Nat.add_sub_cancel_left]
    exact h4 p hp
  · simp only [if_neg e]
    obtain ⟨h1, ⟨h2, h3, h4⟩, h5⟩ := h i (by omega)
    refine ⟨h1, ⟨h2, h3, fun p hp => ?_⟩, h5⟩
    show I (fs i) p = if 4 * n ≤ 4 * i + p ∧ 4 * i + p < 4 * n + 4 then v (4 * i + p - 4 * n) else F (4 * i + p)
    rw [if_neg (by omega)]
    exact h4 p hp
theorem bl.out {l e n : Nat} {f : Nat → Nat} (h : bl I ρ lo l e n f) : e = 44 ∨ (lo + 5 ≤ e ∧ e < ρ.2.2.2.1 + 64 ∧ ρ.2.2.1 e = (105, 10)) := by
  rcases h.2.2.1 with z | z
  · exact Or.inl z.2
  · exact Or.inr ⟨z.2.1, z.2.2, z.1⟩
theorem bT.door {e' a fa s z : Nat} {v : Nat → Int32} (h : bT I ρ lo q nd nc T) (g : gF (fun x => pA x ∨ x = lo + 1) (fun x => x = lo + 1 ∨ (x = q.1.1 ∧ ¬ q.1.1 = 44)) I ρ I1 ρ1) (he : e' = q.1.1 ∧ ¬ q.1.1 = 44 ∨ q.1.1 = 44 ∧ ρ.2.2.2.1 + 64 ≤ e') (hb : bl I1 ρ1 lo (lo + 1) e' (tx_D T + 1) (fun i => if i = tx_D T then a else q.2.1 i)) (hn : bn I1 ρ1 lo 15 a fa s z v) : bT I1 ρ1 lo ((e', q.1.2), (fun i => if i = tx_D T then a else q.2.1 i), (fun i => if i = tx_D T then fa else q.2.2.1 i), (fun i => if i = tx_D T then s else q.2.2.2.1 i), q.2.2.2.2) (fun i => if i = tx_D T then z else nd i) nc (x_door T v) := by
  obtain ⟨h1, ⟨h2, h3, h4, h5⟩, h6, h7, h8, h9, h10⟩ := h
  have hbb := h1
  have hb1 := h1.1
  have hb2 := h1.2.1
  obtain ⟨-, -, k5, -, k1, k2, k3, k4⟩ := h1
  have o2 := h2.out
  have o3 := h3.out
  have o4 := h4.out
  obtain ⟨E1, E2, E3⟩ := h5
  have hA : ∀ x, lo ≤ x → ¬ (ρ.2.2.1 x).1 = 18 → ¬ (pA x ∨ x = lo + 1) := fun x hx hk z => by
    rcases z with z | z
    · unfold pA at z; omega
    · apply hk
      rw [z, k1]
  have hB : ∀ x, lo ≤ x → ¬ (ρ.2.2.1 x).1 = 18 → ¬ (ρ.2.2.1 x).1 = 105 → ¬ (x = lo + 1 ∨ (x = q.1.1 ∧ ¬ q.1.1 = 44)) := fun x hx hk hk2 z => by
    rcases z with z | ⟨z, z2⟩
    · apply hk
      rw [z, k1]
    · apply hk2
      rw [z]
      rcases o2 with o | o
      · exact absurd o z2
      · rw [o.2.2]
  refine ⟨hbb.g g (hB lo (Nat.le_refl _) (by rw [k5]; decide) (by rw [k5]; decide)), ⟨hb, h3.g g hb1 (by omega) (by unfold pA; omega) (by omega) (fun ne z => by rcases z with z | z <;> omega), h4.g g hb1 (by omega) (by unfold pA; omega) (by omega) (fun ne z => by rcases z with z | z <;> omega), by show (e' = 44 ∨ ¬ e' = q.1.2.1) ∧ (e' = 44 ∨ ¬ e' = q.1.2.2) ∧ (q.1.2.1 = 44 ∨ ¬ q.1.2.1 = q.1.2.2); omega⟩, (h6.g g (fun x hx hk => hA x hx (by omega)) (fun x hx hk => hB x hx (by omega) (by omega))).up hn, h7.g g (fun x hx hk => hA x hx (by omega)) (fun x hx hk => hB x hx (by omega) (by omega)), ?_, ?_, ?_⟩
  · exact h8.g g (fun x hx hk => hA x hx (by omega))
  · exact h9.g g (by omega) (hA lo (Nat.le_refl _) (by rw [k5]; decide))
  · refine h10.g g hb2 (hB _ (by omega) (by rw [k4]; decide) (by rw [k4]; decide)) (fun x hx hk => hA x hx (by unfold lk at hk; omega)) (fun x hx hk => hB x hx (by unfold lk at hk; omega) (by unfold lk at hk; omega))
theorem bT.caller {e' a fa s z : Nat} {v : Nat → Int32} (h : bT I ρ lo q nd nc T) (g : gF (fun x => pA x ∨ x = lo + 2) (fun x => x = lo + 2 ∨ (x = q.1.2.1 ∧ ¬ q.1.2.1 = 44)) I ρ I1 ρ1) (he : e' = q.1.2.1 ∧ ¬ q.1.2.1 = 44 ∨ q.1.2.1 = 44 ∧ ρ.2.2.2.1 + 64 ≤ e') (hb : bl I1 ρ1 lo (lo + 2) e' (tx_C T + 1) (fun i => if i = tx_C T then a else q.2.2.2.2.1 i)) (hn : bn I1 ρ1 lo 16 a fa s z v) : bT I1 ρ1 lo ((q.1.1, e', q.1.2.2), q.2.1, q.2.2.1, q.2.2.2.1, (fun i => if i = tx_C T then a else q.2.2.2.2.1 i), (fun i => if i = tx_C T then fa else q.2.2.2.2.2.1 i), (fun i => if i = tx_C T then s else q.2.2.2.2.2.2.1 i), q.2.2.2.2.2.2.2) nd (fun i => if i = tx_C T then z else nc i) (x_caller T v) := by
  obtain ⟨h1, ⟨h2, h3, h4, h5⟩, h6, h7, h8, h9, h10⟩ := h
  have hbb := h1
  have hb1 := h1.1
  have hb2 := h1.2.1
  obtain ⟨-, -, k5, -, k1, k2, k3, k4⟩ := h1
  have o2 := h2.out
  have o3 := h3.out
  have o4 := h4.out
  obtain ⟨E1, E2, E3⟩ := h5
  have hA : ∀ x, lo ≤ x → ¬ (ρ.2.2.1 x).1 = 18 → ¬ (pA x ∨ x = lo + 2) := fun x hx hk z => by
    rcases z with z | z
    · unfold pA at z; omega
    · apply hk
      rw [z, k2]
  have hB : ∀ x, lo ≤ x → ¬ (ρ.2.2.1 x).1 = 18 → ¬ (ρ.2.2.1 x).1 = 105 → ¬ (x = lo + 2 ∨ (x = q.1.2.1 ∧ ¬ q.1.2.1 = 44)) := fun x hx hk hk2 z => by
    rcases z with z | ⟨z, z2⟩
    · apply hk
      rw [z, k2]
    · apply hk2
      rw [z]
      rcases o3 with o | o
      · exact absurd o z2
      · rw [o.2.2]
  refine ⟨hbb.g g (hB lo (Nat.le_refl _) (by rw [k5]; decide) (by rw [k5]; decide)), ⟨h2.g g hb1 (by omega) (by unfold pA; omega) (by omega) (fun ne z => by rcases z with z | z <;> omega), hb, h4.g g hb1 (by omega) (by unfold pA; omega) (by omega) (fun ne z => by rcases z with z | z <;> omega), by show (q.1.1 = 44 ∨ ¬ q.1.1 = e') ∧ (q.1.1 = 44 ∨ ¬ q.1.1 = q.1.2.2) ∧ (e' = 44 ∨ ¬ e' = q.1.2.2); omega⟩, h6.g g (fun x hx hk => hA x hx (by omega)) (fun x hx hk => hB x hx (by omega) (by omega)), (h7.g g (fun x hx hk => hA x hx (by omega)) (fun x hx hk => hB x hx (by omega) (by omega))).up hn, ?_, ?_, ?_⟩
  · exact h8.g g (fun x hx hk => hA x hx (by omega))
  · exact h9.g g (by omega) (hA lo (Nat.le_refl _) (by rw [k5]; decide))
  · refine h10.g g hb2 (hB _ (by omega) (by rw [k4]; decide) (by rw [k4]; decide)) (fun x hx hk => hA x hx (by unfold lk at hk; omega)) (fun x hx hk => hB x hx (by unfold lk at hk; omega) (by unfold lk at hk; omega))
theorem bT.round {e' a : Nat} {x : Nat × Nat × Int32 × Int32} (h : bT I ρ lo q nd nc T) (g : gF (fun y => pA y ∨ y = lo + 3) (fun y => y = lo + 3 ∨ (y = q.1.2.2 ∧ ¬ q.1.2.2 = 44)) I ρ I1 ρ1) (he : e' = q.1.2.2 ∧ ¬ q.1.2.2 = 44 ∨ q.1.2.2 = 44 ∧ ρ.2.2.2.1 + 64 ≤ e') (hb : bl I1 ρ1 lo (lo + 3) e' (tx_R T + 1) (fun i => if i = tx_R T then a else q.2.2.2.2.2.2.2 i)) (hn : ((lo ≤ a ∧ a < ρ1.2.2.2.1 + 64) ∧ ρ1.2.2.1 a = (17, 0)) ∧ I1 a 0 = nI x.1 ∧ I1 a 1 = nI x.2.1 ∧ I1 a 2 = x.2.2.1 ∧ I1 a 3 = x.2.2.2) : bT I1 ρ1 lo ((q.1.1, q.1.2.1, e'), q.2.1, q.2.2.1, q.2.2.2.1, q.2.2.2.2.1, q.2.2.2.2.2.1, q.2.2.2.2.2.2.1, fun i => if i = tx_R T then a else q.2.2.2.2.2.2.2 i) nd nc (x_round T x) := by
  obtain ⟨h1, ⟨h2, h3, h4, h5⟩, h6, h7, h8, h9, h10⟩ := h
  have hbb := h1
  have hb1 := h1.1
  have hb2 := h1.2.1
  obtain ⟨-, -, k5, -, k1, k2, k3, k4⟩ := h1
  have o2 := h2.out
  have o3 := h3.out
  have o4 := h4.out
  obtain ⟨E1, E2, E3⟩ := h5
  have hA : ∀ x, lo ≤ x → ¬ (ρ.2.2.1 x).1 = 18 → ¬ (pA x ∨ x = lo + 3) := fun x hx hk z => by
    rcases z with z | z
    · unfold pA at z; omega
    · apply hk
      rw [z, k3]
  have hB : ∀ x, lo ≤ x → ¬ (ρ.2.2.1 x).1 = 18 → ¬ (ρ.2.2.1 x).1 = 105 → ¬ (x = lo + 3 ∨ (x = q.1.2.2 ∧ ¬ q.1.2.2 = 44)) := fun x hx hk hk2 z => by
    rcases z with z | ⟨z, z2⟩
    · apply hk
      rw [z, k3]
    · apply hk2
      rw [z]
      rcases o4 with o | o
      · exact absurd o z2
      · rw [o.2.2]
  refine ⟨hbb.g g (hB lo (Nat.le_refl _) (by rw [k5]; decide) (by rw [k5]; decide)), ⟨h2.g g hb1 (by omega) (by unfold pA; omega) (by omega) (fun ne z => by rcases z with z | z <;> omega), h3.g g hb1 (by omega) (by unfold pA; omega) (by omega) (fun ne z => by rcases z with z | z <;> omega), hb, by show (q.1.1 = 44 ∨ ¬ q.1.1 = q.1.2.1) ∧ (q.1.1 = 44 ∨ ¬ q.1.1 = e') ∧ (q.1.2.1 = 44 ∨ ¬ q.1.2.1 = e'); omega⟩, h6.g g (fun x hx hk => hA x hx (by omega)) (fun x hx hk => hB x hx (by omega) (by omega)), h7.g g (fun x hx hk => hA x hx (by omega)) (fun x hx hk => hB x hx (by omega) (by omega)), fun r hr => ?_, ?_, ?_⟩
  · have h9' := h8.g g (fun x hx hk => hA x hx (by omega))
    have hr : r < tx_R T + 1 := hr
    have ex : (x_round T x).2.2.2.1 r = if r = tx_R T then x else T.2.2.2.1 r := rfl
    unfold tx_who tx_door tx_ev tx_fr
    rw [ex]
    by_cases e : r = tx_R T
    · simp only [if_pos e]
      exact hn
    · simp only [if_neg e]
      exact h9' r (by omega)
  · exact h9.g g (by omega) (hA lo (Nat.le_refl _) (by rw [k5]; decide))
  · refine h10.g g hb2 (hB _ (by omega) (by rw [k4]; decide) (by rw [k4]; decide)) (fun x hx hk => hA x hx (by unfold lk at hk; omega)) (fun x hx hk => hB x hx (by unfold lk at hk; omega) (by unfold lk at hk; omega))
/-- wind, near, seed -/
theorem bT.num {T' : tx} (h : bT I ρ lo q nd nc T) (g : gF (fun y => pA y ∨ y = lo) pNo I ρ I1 ρ1) (e1 : T'.1 = T.1) (e2 : T'.2.1 = T.2.1) (e3 : T'.2.2.1 = T.2.2.1) (e4 : T'.2.2.2.1 = T.2.2.2.1) (e6 : T'.2.2.2.2.2 = T.2.2.2.2.2) (hv : bv I1 lo T') : bT I1 ρ1 lo q nd nc T' := by
  obtain ⟨T1, T2, T3, T4, T5, T6⟩ := T
  obtain ⟨S1, S2, S3, S4, S5, S6⟩ := T'
  cases e1
  cases e2
  cases e3
  cases e4
  cases e6
  obtain ⟨h1, ⟨h2, h3, h4, h5⟩, h6, h7, h8, h9, h10⟩ := h
  have hb1 := h1.1
  have hb2 := h1.2.1
  have k5 := h1.2.2.1
  have hA : ∀ x, lo ≤ x → ¬ (ρ.2.2.1 x).1 = 5 → ¬ (pA x ∨ x = lo) := fun x hx hk z => by
    rcases z with z | z
    · unfold pA at z; omega
    · apply hk
      rw [z, k5]
  refine ⟨h1.g g (fun z => z), ⟨h2.g g hb1 (by omega) (by unfold pA; omega) (fun z => z) (fun _ z => z), h3.g g hb1 (by omega) (by unfold pA; omega) (fun z => z) (fun _ z => z), h4.g g hb1 (by omega) (by unfold pA; omega) (fun z => z) (fun _ z => z), h5⟩, h6.g g (fun x hx hk => hA x hx (by omega)) (fun _ _ _ z => z), h7.g g (fun x hx hk => hA x hx (by omega)) (fun _ _ _ z => z), h8.g g (fun x hx hk => hA x hx (by omega)), hv, h10.g g hb2 (fun z => z) (fun x hx hk => hA x hx (by unfold lk at hk; omega)) (fun _ _ _ z => z)⟩
/-- a law -/
theorem bT.law {k a : Nat} {L : lwt × ex} (h : bT I ρ lo q nd nc T) (g : gF pA (fun y => y = lo + 4) I ρ I1 ρ1) (up : ρ1.2.1 (lo + 4) = va_up (ρ.2.1 (lo + 4)) k (some a)) (hL : lB I1 ρ1 lo (ρ1.2.2.2.1 + 64) a L) : bT I1 ρ1 lo q nd nc (x_law T k L) := by
  obtain ⟨h1, ⟨h2, h3, h4, h5⟩, h6, h7, h8, h9, h10⟩ := h
  have hb1 := h1.1
  have hb2 := h1.2.1
  have k4 := h1.2.2.2.2.2.2.2
  have o2 := h2.out
  have o3 := h3.out
  have o4 := h4.out
  have hA : ∀ x, lo ≤ x → ¬ pA x := fun x hx z => by unfold pA at z; omega
  have hB : ∀ x, lo ≤ x → ¬ (ρ.2.2.1 x).1 = 109 → ¬ x = lo + 4 := fun x hx hk z => by
    apply hk
    rw [z, k4]
  refine ⟨h1.g g (by omega), ⟨h2.g g hb1 (by omega) (hA _ (by omega)) (by omega) (fun _ => by omega), h3.g g hb1 (by omega) (hA _ (by omega)) (by omega) (fun _ => by omega), h4.g g hb1 (by omega) (hA _ (by omega)) (by omega) (fun _ => by omega), h5⟩, h6.g g (fun x hx _ => hA x hx) (fun x hx hk => hB x hx (by omega)), h7.g g (fun x hx _ => hA x hx) (fun x hx hk => hB x hx (by omega)), h8.g g (fun x hx _ => hA x hx), h9.g g (by omega) (hA _ (Nat.le_refl _)), fun i hi => ?_⟩
  have el : tx_law (x_law T k L) i = if i = k then some L else tx_law T i := rfl
  rw [el, up]
  unfold va_up
  by_cases e : i = k
  · rw [if_pos e, if_pos e]
    exact ⟨a, rfl, hL⟩
  · rw [if_neg e, if_neg e]
    have h0 := h10 i hi
    cases hLi : tx_law T i with
    | none =>
      rw [hLi] at h0
      exact h0
    | some L' =>
      rw [hLi] at h0
      obtain ⟨b, b1, b2⟩ := h0
      exact ⟨b, b1, b2.k g (fun x hx _ => hA x hx) (fun x hx hk => hB x hx (by unfold lk at hk; omega))⟩
end G3p
