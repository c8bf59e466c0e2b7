/-! ===== read: what it comes to; the live side is kept ===== -/
set_option maxRecDepth 100000
theorem nar8 (x : Int32) : (vp_nar .byte x).toBitVec.toNat % 2 ^ 8 = x.toBitVec.toNat % 2 ^ 8 := by
  have e : vp_nar .byte x = x.toInt8.toInt32 := rfl
  rw [e, Int8.toBitVec_toInt32, Int32.toBitVec_toInt8, BitVec.toNat_signExtend]
  rw [BitVec.toNat_setWidth, BitVec.signExtend_eq_setWidth_of_le _ (by decide), BitVec.toNat_setWidth]
  by_cases hm : (BitVec.setWidth 8 x.toBitVec).msb = true
  · rw [if_pos hm]
    omega
  · rw [if_neg hm]
    omega
theorem ky_c_nar (n : Nat) (b : Nat → Int32) : ky_c n (fun j => vp_nar .byte (b j)) = ky_c n b := by
  funext i
  unfold ky_c
  by_cases h : i < n
  · rw [if_pos h, if_pos h]
    exact nar8 _
  · rw [if_neg h, if_neg h]
theorem ky_tk_nar (n : Nat) (b : Nat → Int32) : ky_tk n (fun j => vp_nar .byte (b j)) = ky_tk n b := by
  funext k
  unfold ky_tk
  rw [ky_c_nar]
def x_0 : tx := ((0, 0, 0), (fun _ => nI 0), (fun _ => nI 0), (fun _ => (0, 0, nI 1, nI 0)), (nI 0, nI 40, nI 0), fun _ => none)
/-- all that is told -/
def g_all (tk : tkf) : Nat → pR → rb → pR × rb
  | 0, r, B => (r, B)
  | _ + 1, .inl e, B => (.inl e, B)
  | f + 1, .inr (t, w), B => if (tk t).1 = 0 then (.inr (t, w), B) else g_all tk f (g_one tk t w B).1 (g_one tk t w B).2
def g_read (P : Nat × (Nat → Int32)) : pR × rb := g_all (ky_tk P.1 P.2) 402 (.inr (0, 0, 0)) (x_0, [])
def y_rest (S : yS) (p : Int32) : yS := (y_T S, y_w S, y_H S, y_D S, y_K S, (0, (y_P S).2), p)
def y_read (S : yS) : Int32 × yS := match g_read (y_P S) with
  | (.inl (m, j), _) => (nI m, y_rest S (nI (ky_tk (y_P S).1 (y_P S).2 j).2.1))
  | (.inr (_, w), B) => if w.1 = 0 then (nI 0, (B.1, r_beg B.1, [], [], (fun _ => none), (0, (y_P S).2), -1)) else (nI w.1, y_rest S (nI (ky_tk (y_P S).1 (y_P S).2 w.2).2.1))
theorem lw_is.r {I J : sm_I} {lv s k : Nat} {L : Option (lwt × ex)} (h : lw_is I (3 * lv + k) L) (hr : rF s I J) (hs : s + lv = 1) (hk : k < 3) : lw_is J (3 * lv + k) L := by
  have e3 : (3 * lv + k) / 3 = lv := by omega
  have hF : J m_lawFirst (3 * lv + k) = I m_lawFirst (3 * lv + k) := hr.2 (m_lawFirst, 3) (by decide) _ (by show 3 * lv + k < 3 * s ∨ 3 * s + 3 ≤ 3 * lv + k; omega)
  have hL : J m_lawLast (3 * lv + k) = I m_lawLast (3 * lv + k) := hr.2 (m_lawLast, 3) (by decide) _ (by show 3 * lv + k < 3 * s ∨ 3 * s + 3 ≤ 3 * lv + k; omega)
  match L, h with
  | none, h =>
    show J m_lawFirst (3 * lv + k) = J m_lawLast (3 * lv + k)
    rw [hF, hL]
    exact h
  | some (ts, e), h =>
    obtain ⟨b, h1, h2, h3, h4⟩ := h
    refine ⟨b, hF.trans h1, hL.trans h2, h3, ?_⟩
    rw [e3] at h3 h4 ⊢
    refine lw_at2.kp (Nat.le_refl _) (fun j j1 j2 => ?_) h4 (fun j j1 j2 => ?_)
    · have q : j < 420 * s ∨ 420 * s + 420 ≤ j := by omega
      exact ⟨hr.2 (m_code, 420) (by decide) j q, hr.2 (m_codeInt, 420) (by decide) j q⟩
    · have q : j < 130 * s ∨ 130 * s + 130 ≤ j := by omega
      exact ⟨hr.2 (m_hasTest, 130) (by decide) j q, hr.2 (m_testFrom, 130) (by decide) j q, hr.2 (m_testMid, 130) (by decide) j q, hr.2 (m_testTo, 130) (by decide) j q, hr.2 (m_termTo, 130) (by decide) j q⟩
theorem mT.r {I J : sm_I} {lv s : Nat} {T : tx} (h : mT I lv T) (ht : tok T) (hr : rF s I J) (hs : s + lv = 1) : mT J lv T := by
  obtain ⟨⟨h1, h1b⟩, ⟨h2, h3, h4⟩, h5, h6, h7, ⟨h8, h9, h10⟩, h11⟩ := h
  obtain ⟨⟨k1, k2, k3⟩, -⟩ := ht
  have one : ∀ a, (a, 1) ∈ rdW → J a lv = I a lv := fun a ha => hr.2 (a, 1) ha lv (by show lv < 1 * s ∨ 1 * s + 1 ≤ lv; omega)
  refine ⟨⟨(hr.1.2 18 (by decide)).trans h1, h1b⟩, ⟨(one _ (by decide)).trans h2, (one _ (by decide)).trans h3, (one _ (by decide)).trans h4⟩, fun j hj => ?_, fun j hj => ?_, fun r hrr => ?_, ⟨(one _ (by decide)).trans h8, (one _ (by decide)).trans h9, (one _ (by decide)).trans h10⟩, fun k hk => (h11 k hk).r hr hs hk⟩
  · exact (hr.2 (m_faceOf, 20) (by decide) (20 * lv + j) (by show 20 * lv + j < 20 * s ∨ 20 * s + 20 ≤ 20 * lv + j; omega)).trans (h5 j hj)
  · exact (hr.2 (m_firstFace, 24) (by decide) (24 * lv + j) (by show 24 * lv + j < 24 * s ∨ 24 * s + 24 ≤ 24 * lv + j; omega)).trans (h6 j hj)
  · have q : ∀ a, (a, 10) ∈ rdW → J a (10 * lv + r) = I a (10 * lv + r) := fun a ha => hr.2 (a, 10) ha _ (by show 10 * lv + r < 10 * s ∨ 10 * s + 10 ≤ 10 * lv + r; omega)
    rw [q m_whoOf (by decide), q m_doorOf (by decide), q m_everyOf (by decide), q m_fromOf (by decide)]
    exact h7 r hrr
theorem mZ.r {I J : sm_I} {lv s : Nat} {S : yS} (h : mZ I lv S) (hr : rF s I J) (hs : s + lv = 1) : mZ J lv S := by
  obtain ⟨⟨h1, h2, h3, h4, h5⟩, h6, h7⟩ := h
  refine ⟨⟨h1.r h2 hr hs, h2, ?_, h4, ?_⟩, h6.kept hr.1 (by decide) (by decide), h7.kept hr.1 (by decide) (by decide) rfl rfl⟩
  · rw [hr.1.1 m_now (by decide) (by decide)]
    exact h3
  · rw [hr.1.1 m_row (by decide) (by decide)]
    exact h5
