/-! ===== the law: both sides at once ===== -/
set_option maxRecDepth 100000
section I3
variable {I J : sm_I} {ρ ρ1 : sm_R} {tp lv : Nat} {q : tq4} {S : yS}
theorem mZ.cg (h : mZ I lv S) (e : cFr I J) : mZ J lv S := by
  have eM : J mM = I mM := e 898 (by decide) (by decide)
  obtain ⟨⟨hT, h2, h3, h4, h5⟩, hH, hD, hK, hP, hp⟩ := h
  obtain ⟨t1, t2, t3, t4, t5, t6, t7⟩ := hT
  refine ⟨⟨⟨?_, ?_, ?_, ?_, ?_, ?_, fun k hk => (t7 k hk).kept ?_⟩, h2, ?_, h4, ?_⟩, ?_, ?_, ?_, ?_, ?_⟩
  · rw [eM]; exact t1
  · rw [e m_doors (by decide) (by decide), e m_callers (by decide) (by decide), e m_rounds (by decide) (by decide)]; exact t2
  · rw [e m_faceOf (by decide) (by decide)]; exact t3
  · rw [e m_firstFace (by decide) (by decide)]; exact t4
  · rw [e m_whoOf (by decide) (by decide), e m_doorOf (by decide) (by decide), e m_everyOf (by decide) (by decide), e m_fromOf (by decide) (by decide)]; exact t5
  · rw [e m_wind (by decide) (by decide), e m_near (by decide) (by decide), e m_seed (by decide) (by decide)]; exact t6
  · exact ⟨e _ (by decide) (by decide), e _ (by decide) (by decide), e _ (by decide) (by decide), e _ (by decide) (by decide), e _ (by decide) (by decide), e _ (by decide) (by decide), e _ (by decide) (by decide), e _ (by decide) (by decide), e _ (by decide) (by decide)⟩
  · rw [e m_now (by decide) (by decide)]; exact h3
  · rw [e m_row (by decide) (by decide)]; exact h5
  · unfold mH at *
    rw [eM, e m_history (by decide) (by decide)]; exact hH
  · unfold mD at *
    rw [eM, e m_toldDoor (by decide) (by decide), e m_toldPart (by decide) (by decide), e m_toldWay (by decide) (by decide)]; exact hD
  · unfold mK at *
    rw [e m_isHeld (by decide) (by decide), e m_heldRows (by decide) (by decide)]; exact hK
  · unfold mP at *
    rw [eM, e m_tape (by decide) (by decide)]; exact hP
  · rw [eM]; exact hp
theorem cZ.cg (h : cZ I ρ tp q S) (e : mFr I J) : cZ J ρ tp q S := by
  obtain ⟨⟨hK, hP, hT, hk, hw, hR⟩, hH, hD, hC, hTp, hpl⟩ := h
  refine ⟨⟨hK, hP, hT.kept (fun a ha => e a (by unfold tA at ha; omega)), hk, hw, hR.eq (fun k hk => e _ (by omega))⟩, hH.kept (by rw [e 64 (by decide)]) (by rw [e 64 (by decide)]) (fun a h1 h2 => e a (by omega)), ?_, hC.kept (fun a ha => e a (by omega)), ?_, ?_⟩
  · unfold cD at *
    rw [e 64 (by decide), e 254 (by decide), e 255 (by decide), e 256 (by decide)]; exact hD
  · unfold cP at *
    rw [e 66 (by decide), e 68 (by decide)]; exact hTp
  · rw [e 64 (by decide)]; exact hpl
theorem cZ.ky {A : List Nat} (h : cZ I ρ tp q S) (e : kyF A ρ ρ1) : cZ I ρ1 tp q S := by
  obtain ⟨⟨hK, hP, hT, hk, hw, hR⟩, hr⟩ := h
  have e := e.1
  refine ⟨⟨hK.g (fun a _ => by rw [e]) (fun a _ _ _ => by rw [e]) (fun a _ => by rw [e]) (fun a _ => by rw [e]), by rw [e]; exact hP, hT.gr (fun a _ => ⟨by rw [e], fun _ _ => by rw [e], fun _ => rfl⟩), hk, hw, hR⟩, hr⟩
theorem cFr.asked (h : cq I J) : cFr I J := fun a h1 h2 => h a (by unfold cs; omega)
/-- what stands before every step of the script -/
def jI (I : sm_I) (ρ : sm_R) (S : yS) : Prop := (∃ tp q, cZ I ρ tp q S) ∧ (∃ lv, mZ I lv S) ∧ (md ρ ∧ mKy ρ) ∧ sm_In ρ ∧ 879 ≤ ρ.2.2.2.1
/-- room that a step takes -/
def jR (ρ ρ1 : sm_R) : Prop := ρ1.2.2.2.1 ≤ ρ.2.2.2.1 + 4829 ∧ ρ1.2.2.2.2 ≤ ρ.2.2.2.2 + 24139
theorem jR.rf : jR ρ ρ := ⟨Nat.le_add_right _ _, Nat.le_add_right _ _⟩
theorem jI.kd (h : jI I ρ S) : kd ρ := by
  obtain ⟨⟨_, _, h⟩, -⟩ := h
  exact h.1.1
/-- both sides were asked -/
theorem jI.asked {J2 : sm_I} (h : jI I ρ S) (h1 : cq I J) (h2 : mq J J2) : jI J2 ρ S := by
  obtain ⟨⟨tp, q, hc⟩, ⟨lv, hm⟩, h3⟩ := h
  refine ⟨⟨tp, q, ?_⟩, ⟨lv, (hm.cg (cFr.asked h1)).q h2⟩, h3⟩
  have hc1 : cZ J ρ tp q S := hc.q h1
  exact hc1.cg (mFr.q h2)
end I3
section I3b
variable {A B : Nat → Prop} {I J : sm_I} {ρ ρ1 : sm_R}
theorem jmd (g : gF zA zB I ρ J ρ1) (h : 879 ≤ ρ.2.2.2.1) (hm : md ρ) : md ρ1 := by
  have hl : ∀ e ∈ md_L, 898 ≤ e.2.1 ∧ e.2.1 < 943 := by decide
  refine ⟨(g.eS (show (898 : Nat) < _ by omega)).trans hm.1, fun e he => ?_⟩
  obtain ⟨h1, h2⟩ := hm.2 e he
  have := hl e he
  refine ⟨?_, (g.eS (by omega)).trans h2⟩
  rw [g.eP (show (898 : Nat) < _ by omega) (by decide)]
  exact h1
theorem jky (g : gF zA zB I ρ J ρ1) (h : 879 ≤ ρ.2.2.2.1) (hm : mKy ρ) : mKy ρ1 := fun k hk => by
  have hl : m_keys < 943 := by decide
  rw [(g.2.1 m_keys (by omega)).2]
  exact hm k hk
end I3b
