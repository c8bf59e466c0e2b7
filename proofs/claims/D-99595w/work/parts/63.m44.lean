/-! ===== reading: what is told so far ===== -/
set_option maxRecDepth 100000
/-- a text in the making; names told -/
abbrev rb : Type := tx × List (Nat × Nat)
def x_door (T : tx) (v : Nat → Int32) : tx := ((T.1.1 + 1, T.1.2), T.2.1, (fun j => if 4 * T.1.1 ≤ j ∧ j < 4 * T.1.1 + 4 then v (j - 4 * T.1.1) else T.2.2.1 j), T.2.2.2)
def x_caller (T : tx) (v : Nat → Int32) : tx := ((T.1.1, T.1.2.1 + 1, T.1.2.2), (fun j => if 4 * T.1.2.1 ≤ j ∧ j < 4 * T.1.2.1 + 4 then v (j - 4 * T.1.2.1) else T.2.1 j), T.2.2)
def x_round (T : tx) (x : Nat × Nat × Int32 × Int32) : tx := ((T.1.1, T.1.2.1, T.1.2.2 + 1), T.2.1, T.2.2.1, (fun r => if r = T.1.2.2 then x else T.2.2.2.1 r), T.2.2.2.2)
def x_wind (T : tx) (v : Int32) : tx := (T.1, T.2.1, T.2.2.1, T.2.2.2.1, (v, T.2.2.2.2.1.2), T.2.2.2.2.2)
def x_near (T : tx) (v : Int32) : tx := (T.1, T.2.1, T.2.2.1, T.2.2.2.1, (T.2.2.2.2.1.1, v, T.2.2.2.2.1.2.2), T.2.2.2.2.2)
def x_seed (T : tx) (v : Int32) : tx := (T.1, T.2.1, T.2.2.1, T.2.2.2.1, (T.2.2.2.2.1.1, T.2.2.2.2.1.2.1, v), T.2.2.2.2.2)
def x_law (T : tx) (k : Nat) (L : lwt × ex) : tx := (T.1, T.2.1, T.2.2.1, T.2.2.2.1, T.2.2.2.2.1, fun i => if i = k then some L else T.2.2.2.2.2 i)
/-- one thing told -/
def g_one (tk : tkf) (t : Nat) (w : Nat × Nat) (B : rb) : pR × rb :=
  if (tk t).1 = 20 then (g_nd tk B.2 (tx_D B.1) 6 (.inr (t, w)), x_door B.1 (fun p => nI (tk (t + 2 + p)).2.2.1), B.2 ++ [((tk (t + 1)).2.2.2, tx_D B.1)])
  else if (tk t).1 = 21 then (g_nd tk B.2 (tx_C B.1) 5 (.inr (t, w)), x_caller B.1 (fun p => nI (tk (t + 2 + p)).2.2.1), B.2 ++ [((tk (t + 1)).2.2.2, 10 + tx_C B.1)])
  else if (tk t).1 = 22 then (g_rnd tk B.2 (g_room (tx_R B.1) 10 (.inr (t, w))), x_round B.1 ((g_find (tk (t + 1)).2.2.2 10 B.2).getD 0, (g_find (tk (t + 2)).2.2.2 0 B.2).getD 0, nI (tk (t + 3)).2.2.1, nI (tk (t + 4)).2.2.1), B.2)
  else if (tk t).1 = 26 then (g_ti tk 100 (.inr (t, w)), x_wind B.1 (nI (tk (t + 1)).2.2.1), B.2)
  else if (tk t).1 = 27 then (g_ti tk 396 (.inr (t, w)), x_near B.1 (nI (tk (t + 1)).2.2.1), B.2)
  else if (tk t).1 = 28 then (g_ti tk 9999 (.inr (t, w)), x_seed B.1 (nI (tk (t + 1)).2.2.1), B.2)
  else if 23 ≤ (tk t).1 ∧ (tk t).1 ≤ 25 then (g_must tk 4 (g_law tk (g_pass (.inr (t, w)))).1, x_law B.1 ((tk t).1 - 23) (g_law tk (g_pass (.inr (t, w)))).2, B.2)
  else (.inl (1, t), B)
/-- what reading may change: of the side s alone -/
def rdW : List (Nat × Nat) := [(m_doors, 1), (m_callers, 1), (m_rounds, 1), (m_wind, 1), (m_near, 1), (m_seed, 1), (m_firstFace, 24), (m_faceOf, 20), (m_whoOf, 10), (m_doorOf, 10), (m_everyOf, 10), (m_fromOf, 10), (m_lawFirst, 3), (m_lawLast, 3), (m_hasTest, 130), (m_testFrom, 130), (m_testMid, 130), (m_testTo, 130), (m_termTo, 130), (m_code, 420), (m_codeInt, 420)]
abbrev rdA : List Nat := [m_doors, m_callers, m_rounds, m_wind, m_near, m_seed, m_firstFace, m_faceOf, m_whoOf, m_doorOf, m_everyOf, m_fromOf, m_lawFirst, m_lawLast, m_hasTest, m_testFrom, m_testMid, m_testTo, m_termTo, m_code, m_codeInt, m_waits, m_nameAt]
abbrev rdF : List Nat := [11, 12, 13, 14, 15, 16, 20, 37, 43, 47]
def rF (s : Nat) (I J : sm_I) : Prop := mf rdA rdF I J ∧ ∀ x ∈ rdW, ∀ j, (j < x.2 * s ∨ x.2 * s + x.2 ≤ j) → J x.1 j = I x.1 j
theorem rF.rf {s : Nat} {I : sm_I} : rF s I I := ⟨mf.rf, fun _ _ _ _ => rfl⟩
theorem rF.tr {s : Nat} {I J K : sm_I} (h : rF s I J) (h2 : rF s J K) : rF s I K := ⟨h.1.tr h2.1, fun x hx j hj => (h2.2 x hx j hj).trans (h.2 x hx j hj)⟩
theorem rF.of {A F : List Nat} {s : Nat} {I J : sm_I} (h : mf A F I J) (hA : ∀ a ∈ A, a ∈ rdA) (hF : ∀ k ∈ F, k ∈ rdF) (hr : ∀ x ∈ rdW, x.1 ∈ A → ∀ j, (j < x.2 * s ∨ x.2 * s + x.2 ≤ j) → J x.1 j = I x.1 j) : rF s I J := by
  refine ⟨h.wk hA hF, fun x hx j hj => ?_⟩
  by_cases hxA : x.1 ∈ A
  · exact hr x hx hxA j hj
  · have hM : ∀ x ∈ rdW, x.1 ≠ mM := by decide
    rw [h.1 x.1 hxA (hM x hx)]
def lw_bl (I : sm_I) (s k : Nat) (L : Option (lwt × ex)) (b c : Nat) : Prop := match L with
  | none => I m_lawFirst (3 * s + k) = I m_lawLast (3 * s + k)
  | some (ts, e) => ∃ b0, I m_lawFirst (3 * s + k) = nI b0 ∧ I m_lawLast (3 * s + k) = nI (b0 + ts.length + 1) ∧ 130 * s ≤ b0 ∧ b0 + ts.length + 1 ≤ b ∧ lw_at2 (420 * s) c I ts e b0
theorem lw_bl.kp {I J : sm_I} {s k : Nat} {L : Option (lwt × ex)} {b c b' c' : Nat} (h : lw_bl I s k L b c) (hb : b ≤ b') (hc : c ≤ c') (hf : J m_lawFirst (3 * s + k) = I m_lawFirst (3 * s + k)) (hl : J m_lawLast (3 * s + k) = I m_lawLast (3 * s + k)) (h1 : ∀ j, j < c → J m_code j = I m_code j ∧ J m_codeInt j = I m_codeInt j) (h2 : ∀ j, j < b → J m_hasTest j = I m_hasTest j ∧ J m_testFrom j = I m_testFrom j ∧ J m_testMid j = I m_testMid j ∧ J m_testTo j = I m_testTo j ∧ J m_termTo j = I m_termTo j) : lw_bl J s k L b' c' := by
  match L, h with
  | none, h =>
    show J m_lawFirst (3 * s + k) = J m_lawLast (3 * s + k)
    rw [hf, hl]
    exact h
  | some (ts, e), h =>
    obtain ⟨b0, g1, g2, g3, g4, g5⟩ := h
    exact ⟨b0, hf.trans g1, hl.trans g2, g3, by omega, lw_at2.kp hc (fun j _ hj => h1 j hj) g5 (fun j _ hj => h2 j (by omega))⟩
def bC (I : sm_I) (ρ : sm_R) (s : Nat) (B : rb) : Prop := (I mM 19 = nI s ∧ s < 2) ∧ (I m_doors s = nI (tx_D B.1) ∧ I m_callers s = nI (tx_C B.1) ∧ I m_rounds s = nI (tx_R B.1)) ∧ (tx_D B.1 ≤ 6 ∧ tx_C B.1 ≤ 5 ∧ tx_R B.1 ≤ 10) ∧ nmR I ρ B.2 ∧ B.2.length = tx_D B.1 + tx_C B.1 ∧ ∀ x ∈ B.2, x.2 < tx_D B.1 ∨ 10 ≤ x.2 ∧ x.2 < 10 + tx_C B.1
def bL (I : sm_I) (s t : Nat) (T : tx) : Prop := ∃ b c, (I mM 37 = nI b ∧ 130 * s ≤ b ∧ 4 * (b - 130 * s) ≤ t) ∧ (I mM 43 = nI c ∧ 420 * s ≤ c ∧ c ≤ 420 * s + t) ∧ I mM 12 = nI 0 ∧ ∀ k, k < 3 → lw_bl I s k (tx_law T k) b c
def bV (I : sm_I) (s : Nat) (T : tx) : Prop := ((∀ j, j < 4 * tx_C T → I m_faceOf (20 * s + j) = tx_cf T j) ∧ (∀ j, j < 4 * tx_D T → I m_firstFace (24 * s + j) = tx_ff T j) ∧ (∀ r, r < tx_R T → I m_whoOf (10 * s + r) = nI (tx_who T r) ∧ I m_doorOf (10 * s + r) = nI (tx_door T r) ∧ I m_everyOf (10 * s + r) = tx_ev T r ∧ I m_fromOf (10 * s + r) = tx_fr T r) ∧ (I m_wind s = tx_wind T ∧ I m_near s = tx_near T ∧ I m_seed s = tx_seed T)) ∧ tok T
def bR (I : sm_I) (ρ : sm_R) (s t : Nat) (w : Nat × Nat) (B : rb) : Prop := bC I ρ s B ∧ bL I s t B.1 ∧ (w.1 = 0 → bV I s B.1)
theorem bC.kept {A F : List Nat} {I J : sm_I} {ρ σ : sm_R} {s : Nat} {B : rb} (h : bC I ρ s B) (hf : mf A F I J) (hA : ∀ a ∈ [m_doors, m_callers, m_rounds, m_nameAt], a ∉ A) (hF : 19 ∉ F ∧ 20 ∉ F) (hL : σ.1 m_nameOf = ρ.1 m_nameOf) : bC J σ s B := by
  obtain ⟨⟨h1, h2⟩, ⟨h3, h4, h5⟩, h6, h7, h8⟩ := h
  refine ⟨⟨(hf.2 19 hF.1).trans h1, h2⟩, ⟨?_, ?_, ?_⟩, h6, h7.kept hf (hA _ (by decide)) hF.2 hL, h8⟩
  · rw [hf.1 m_doors (hA _ (by decide)) (by decide)]; exact h3
  · rw [hf.1 m_callers (hA _ (by decide)) (by decide)]; exact h4
  · rw [hf.1 m_rounds (hA _ (by decide)) (by decide)]; exact h5
theorem bL.kept {A F : List Nat} {I J : sm_I} {s t t' : Nat} {T T' : tx} (h : bL I s t T) (hf : mf A F I J) (hA : ∀ a ∈ [m_lawFirst, m_lawLast, m_hasTest, m_testFrom, m_testMid, m_testTo, m_termTo, m_code, m_codeInt], a ∉ A) (hF : 12 ∉ F ∧ 37 ∉ F ∧ 43 ∉ F) (ht : t ≤ t') (hT : tx_law T' = tx_law T) : bL J s t' T' := by
  obtain ⟨b, c, ⟨h1, h2, h3⟩, ⟨h4, h5, h6⟩, h7, h8⟩ := h
  refine ⟨b, c, ⟨(hf.2 37 hF.2.1).trans h1, h2, by omega⟩, ⟨(hf.2 43 hF.2.2).trans h4, h5, by omega⟩, (hf.2 12 hF.1).trans h7, fun k hk => ?_⟩
  rw [hT]
  refine (h8 k hk).kp (Nat.le_refl _) (Nat.le_refl _) (by rw [hf.1 m_lawFirst (hA _ (by decide)) (by decide)]) (by rw [hf.1 m_lawLast (hA _ (by decide)) (by decide)]) (fun j _ => ?_) (fun j _ => ?_)
  · rw [hf.1 m_code (hA _ (by decide)) (by decide), hf.1 m_codeInt (hA _ (by decide)) (by decide)]
    exact ⟨rfl, rfl⟩
  · rw [hf.1 m_hasTest (hA _ (by decide)) (by decide), hf.1 m_testFrom (hA _ (by decide)) (by decide), hf.1 m_testMid (hA _ (by decide)) (by decide), hf.1 m_testTo (hA _ (by decide)) (by decide), hf.1 m_termTo (hA _ (by decide)) (by decide)]
    exact ⟨rfl, rfl, rfl, rfl, rfl⟩
theorem g_find_in {nm lo k : Nat} : ∀ {N : List (Nat × Nat)}, g_find nm lo N = some k → ∃ x ∈ N, x.1 = nm ∧ lo ≤ x.2 ∧ x.2 < lo + 10 ∧ k = x.2 - lo
  | [], h => by cases h
  | x :: N, h => by
    have h : (if x.1 = nm ∧ lo ≤ x.2 ∧ x.2 < lo + 10 then some (x.2 - lo) else g_find nm lo N) = some k := h
    by_cases hx : x.1 = nm ∧ lo ≤ x.2 ∧ x.2 < lo + 10
    · rw [if_pos hx] at h
      cases h
      exact ⟨x, List.mem_cons_self, hx.1, hx.2.1, hx.2.2, rfl⟩
    · rw [if_neg hx] at h
      obtain ⟨y, hy, z⟩ := g_find_in h
      exact ⟨y, List.mem_cons_of_mem _ hy, z⟩
theorem rdW_pick {A : List Nat} {P : Nat × Nat → Prop} (h : ∀ x ∈ rdW, x.1 ∈ A → P x) : ∀ x ∈ rdW, x.1 ∈ A → P x := h
