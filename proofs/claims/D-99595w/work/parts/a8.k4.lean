/-! ===== the law: from its start ===== -/
set_option maxRecDepth 100000
section K4
variable {G : sm_G} {D : Nat} {I I1 : sm_I} {ρ ρ1 : sm_R} {q : tq4} {S : yS}
theorem cZ.mv (h : cZ I ρ 74 q S) (hi : sm_In ρ) (hn : ρ.2.2.2.1 = 834) (e : ∀ a, a < 898 → I1 a = I a ∧ ρ1.2.1 a = ρ.2.1 a ∧ ρ1.2.2.1 a = ρ.2.2.1 a) : cZ I1 ρ1 74 q S := by
  obtain ⟨⟨hK, hP, hT, hk, hw, hR⟩, hH, hD, hC, hTp, hpl⟩ := h
  have eI : ∀ a, a < 898 → I1 a = I a := fun a ha => (e a ha).1
  refine ⟨⟨hK.g (fun a ha => (e a ha).2.2) (fun a _ ha _ => (e a ha).2.1) (fun k _ => by rw [(e 73 (by decide)).2.1]) (fun k _ => by rw [(e 64 (by decide)).2.1]), by rw [(e 64 (by decide)).2.1]; exact hP, hT.gr (fun a ha => ?_), hk, hw, hR.eq (fun k hk => eI _ (by omega))⟩, hH.kept (by rw [eI 64 (by decide)]) (by rw [eI 64 (by decide)]) (fun a h1 h2 => eI a h2), ?_, hC.kept (fun a ha => eI a (by omega)), ?_, ?_⟩
  · have hl := (hi a ha).2
    obtain ⟨e1, e2, e3⟩ := e a (by omega)
    exact ⟨e3, fun _ _ => e2, fun _ => e1⟩
  · unfold cD at *
    rw [eI 64 (by decide), eI 254 (by decide), eI 255 (by decide), eI 256 (by decide)]; exact hD
  · unfold cP at *
    rw [eI 66 (by decide), eI 68 (by decide)]; exact hTp
  · rw [eI 64 (by decide)]; exact hpl
/-- shapes are told of addresses in use alone: that stands in every frame -/
theorem lk_in {X : sm_X} {d pc c s : Nat} {lv st : List Value} (h1 : ρ.2.2.2.1 ≤ c) (h2 : ρ.2.2.2.2 ≤ s) (k : sm_In ρ → sm_V G X d pc lv st I ρ (jQ c s)) : sm_V G X d pc lv st I ρ (jQ c s) := by
  by_cases h : sm_In ρ
  · exact k h
  · exact ⟨.inl (some (.int (nI 1))), I, ρ, ⟨rfl, by omega, by omega⟩, Nat.le_refl _, Nat.le_refl _, fun p e R s m args below meth c H locs cells slots mc ms ls F a1 a2 a3 a4 a5 a6 a7 => absurd a7.2.2.2 h⟩
theorem lk_main (hL : G.2.2.2.2 49 ≤ 384) (h1 : ρ.2.2.2.1 = 0) (h2 : ρ.2.2.2.2 = 0) : sm_M G xL_law (D + 414) [.ref 48] I ρ (jQ 879 40000) := by
  show sm_V G xL_law (D + 414) 0 [.ref 48, .retAddr 0, .retAddr 0, .retAddr 0] [] I ρ _
  have sN : (sm_nR ρ 1 0 22).2.2.1 64 = (1, 0) := by
    have := sm_nR_at (ρ := ρ) (t := 1) (n := 0) (sl := 22)
    rw [h1] at this
    exact this
  have zN : (sm_nR ρ 1 0 22).2.2.2.1 = 1 := by show ρ.2.2.2.1 + 1 = 1; omega
  have yN : (sm_nR ρ 1 0 22).2.2.2.2 = 22 := by show ρ.2.2.2.2 + 22 = 22; omega
  refine wp_new 3 rfl dL_law_0 nL_7 64 (by omega) ?_
  refine wp_dup 4 rfl dL_law_3 rfl ?_
  generalize sm_nR ρ 1 0 22 = ρn at *
  refine wp_Iv0 7 rfl dL_law_4 kX0_init lL_9 rfl (nl rfl) (nl rfl) (s_k0 sN zN (sm_zI_eq _ _)) (fun J ρa h => ?_)
  obtain ⟨⟨za, ya⟩, q, hc⟩ := h
  refine lk_in (by omega) (by omega) (fun hin => ?_)
  refine wp_astore1 8 rfl dL_law_7 (by decide) rfl ?_
  have fM : gF pNo pNo J ρa (sm_zI J (ρa.2.2.2.1 + 64)) (sm_nR ρa 10 0 66) := gF.nw _ _ _
  have sM : (sm_nR ρa 10 0 66).2.2.1 898 = (10, 0) := by
    have := sm_nR_at (ρ := ρa) (t := 10) (n := 0) (sl := 66)
    rw [za] at this
    exact this
  have zM : (sm_nR ρa 10 0 66).2.2.2.1 = 835 := by show ρa.2.2.2.1 + 1 = 835; omega
  have yM : (sm_nR ρa 10 0 66).2.2.2.2 = ρa.2.2.2.2 + 66 := rfl
  have e8 : ρa.2.2.2.1 + 64 = 898 := by omega
  rw [e8] at fM
  have iM : sm_zI J 898 898 = fun _ => 0 := sm_zI_eq _ _
  refine wp_new 11 rfl dL_law_8 nL_10 898 e8 ?_
  refine wp_dup 12 rfl dL_law_11 rfl ?_
  generalize sm_nR ρa 10 0 66 = ρm at *
  generalize sm_zI J 898 = Jm at *
  refine wp_Iv0 15 rfl dL_law_12 kX10_init lL_12 rfl (nl rfl) (nl rfl) (s_minit (by omega) sM iM) (fun K ρb h => ?_)
  obtain ⟨⟨zb, yb⟩, hmd, hky, hmZ, hfr⟩ := h
  refine lk_in (by omega) (by omega) (fun hinb => ?_)
  have hcb : cZ K ρb 74 q y_0 := hc.mv hin za (fun a ha => ⟨(hfr a ha).1.trans (fM.eI (by omega) (fun z => z)), (hfr a ha).2.2.1.trans (fM.eP (by omega) (fun z => z)), (hfr a ha).2.2.2.trans (fM.eS (by omega))⟩)
  refine wp_astore2 16 rfl dL_law_15 (by decide) rfl ?_
  refine wp_iconst (nI 0) 17 rfl dL_law_16 rfl ?_
  refine wp_istore3 18 rfl dL_law_17 (by decide) rfl ?_
  exact lk_loop hL 879 40000 390 0 0 K ρb y_0 rfl (Nat.zero_le _) (by decide) ⟨⟨74, q, hcb⟩, ⟨0, hmZ⟩, ⟨hmd, hky⟩, hinb, by omega⟩ (by omega) (by omega)
end K4
