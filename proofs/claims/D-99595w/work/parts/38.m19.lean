/-! ===== the whole state; what is done ===== -/
set_option maxRecDepth 100000
/-- text, standing row, what stood ahead (the last first), what is told, slots, tape, place -/
abbrev yS : Type := tx × (Nat → Int32) × List (Nat → Int32) × List (Nat × Nat × Int32) × (Nat → Option (Nat → Int32)) × (Nat × (Nat → Int32)) × Int32
abbrev y_T (S : yS) : tx := S.1
abbrev y_w (S : yS) : Nat → Int32 := S.2.1
abbrev y_H (S : yS) : List (Nat → Int32) := S.2.2.1
abbrev y_D (S : yS) : List (Nat × Nat × Int32) := S.2.2.2.1
abbrev y_K (S : yS) : Nat → Option (Nat → Int32) := S.2.2.2.2.1
abbrev y_P (S : yS) : Nat × (Nat → Int32) := S.2.2.2.2.2.1
abbrev y_p (S : yS) : Int32 := S.2.2.2.2.2.2
def y_set (S : yS) (w : Nat → Int32) (H : List (Nat → Int32)) : yS := (y_T S, w, H, S.2.2.2)
/-- done: what stood is kept -/
def y_rec (S : yS) (w : Nat → Int32) : yS := y_set S w ((y_w S :: y_H S).take 40)
def mH (I : sm_I) (H : List (Nat → Int32)) : Prop := I mM 56 = nI H.length ∧ H.length ≤ 40 ∧ ∀ i r, H[i]? = some r → w70 r ∧ ∀ j, j < 70 → I m_history (70 * (H.length - 1 - i) + j) = r j
def mD (I : sm_I) (T : tx) (L : List (Nat × Nat × Int32)) : Prop := I mM 60 = nI L.length ∧ L.length ≤ 20 ∧ ∀ i d p v, L[i]? = some (d, p, v) → (d < tx_D T ∧ p < 4) ∧ I m_toldDoor i = nI d ∧ I m_toldPart i = nI p ∧ I m_toldWay i = v
def mK (I : sm_I) (K : Nat → Option (Nat → Int32)) : Prop := ∀ s, s < 3 → (K s = none → I m_isHeld s = nI 0) ∧ ∀ r, K s = some r → I m_isHeld s = nI 1 ∧ w70 r ∧ ∀ j, j < 70 → I m_heldRows (70 * s + j) = r j
def mP (I : sm_I) (P : Nat × (Nat → Int32)) : Prop := I mM 2 = nI P.1 ∧ P.1 ≤ 2000 ∧ ∀ j, j < P.1 → I m_tape j = P.2 j
def mW (I : sm_I) (S : yS) : Prop := mD I (y_T S) (y_D S) ∧ mK I (y_K S) ∧ mP I (y_P S) ∧ I mM 17 = y_p S
def mZ (I : sm_I) (lv : Nat) (S : yS) : Prop := mS I lv (y_T S) (y_w S) ∧ mH I (y_H S) ∧ mW I S
theorem mD.kept {A F : List Nat} {I J : sm_I} {T : tx} {L : List (Nat × Nat × Int32)} (h : mD I T L) (hf : mf A F I J) (hA : ∀ a ∈ [m_toldDoor, m_toldPart, m_toldWay], a ∉ A) (hF : 60 ∉ F) : mD J T L :=
  ⟨(hf.2 60 hF).trans h.1, h.2.1, fun i d p v hi => by
    rw [hf.1 m_toldDoor (hA _ (by decide)) (by decide), hf.1 m_toldPart (hA _ (by decide)) (by decide), hf.1 m_toldWay (hA _ (by decide)) (by decide)]
    exact h.2.2 i d p v hi⟩
theorem mK.kept {A F : List Nat} {I J : sm_I} {K : Nat → Option (Nat → Int32)} (h : mK I K) (hf : mf A F I J) (hA : ∀ a ∈ [m_isHeld, m_heldRows], a ∉ A) : mK J K := fun s hs => by
  rw [hf.1 m_isHeld (hA _ (by decide)) (by decide), hf.1 m_heldRows (hA _ (by decide)) (by decide)]
  exact h s hs
theorem mP.kept {A F : List Nat} {I J : sm_I} {P : Nat × (Nat → Int32)} (h : mP I P) (hf : mf A F I J) (hA : m_tape ∉ A) (hF : 2 ∉ F) : mP J P :=
  ⟨(hf.2 2 hF).trans h.1, h.2.1, fun j hj => by
    rw [hf.1 m_tape hA (by decide)]
    exact h.2.2 j hj⟩
theorem mW.kept {A F : List Nat} {I J : sm_I} {S S' : yS} (h : mW I S) (hf : mf A F I J) (hA : ∀ a ∈ [m_toldDoor, m_toldPart, m_toldWay, m_isHeld, m_heldRows, m_tape], a ∉ A) (hF : ∀ k ∈ [60, 2, 17], k ∉ F) (e : S'.1 = S.1) (e2 : S'.2.2.2 = S.2.2.2) : mW J S' := by
  obtain ⟨h1, h2, h3, h4⟩ := h
  obtain ⟨T, w, H, R⟩ := S
  obtain ⟨T', w', H', R'⟩ := S'
  cases e
  cases e2
  exact ⟨h1.kept hf (fun a ha => hA a (by revert ha; revert a; decide)) (hF _ (by decide)), h2.kept hf (fun a ha => hA a (by revert ha; revert a; decide)), h3.kept hf (hA _ (by decide)) (hF _ (by decide)), (hf.2 17 (hF _ (by decide))).trans h4⟩
theorem mH.kept {A F : List Nat} {I J : sm_I} {H : List (Nat → Int32)} (h : mH I H) (hf : mf A F I J) (hA : m_history ∉ A) (hF : 56 ∉ F) : mH J H :=
  ⟨(hf.2 56 hF).trans h.1, h.2.1, fun i r hi => by
    rw [hf.1 m_history hA (by decide)]
    exact h.2.2 i r hi⟩
theorem mZ.q {I J : sm_I} {lv : Nat} {S : yS} (h : mZ I lv S) (hq : mq I J) : mZ J lv S := ⟨h.1.q hq, h.2.1.kept hq.1 (by decide) (by decide), h.2.2.kept hq.1 (by decide) (by decide) rfl rfl⟩
/-- all but the model's cells is kept -/
def mFr (I J : sm_I) : Prop := ∀ a, a < 898 ∨ 943 ≤ a → J a = I a
theorem mFr.rf {I : sm_I} : mFr I I := fun _ _ => rfl
theorem mFr.tr {I J K : sm_I} (h : mFr I J) (h2 : mFr J K) : mFr I K := fun a ha => (h2 a ha).trans (h a ha)
theorem mFr.of {A F : List Nat} {I J : sm_I} (h : mf A F I J) (hA : ∀ a ∈ A, 899 ≤ a ∧ a ≤ 942) : mFr I J := fun a ha => h.1 a (fun z => by have := hA a z; omega) (fun z => by
  have : mM = 898 := rfl
  omega)
theorem mFr.q {I J : sm_I} (h : mq I J) : mFr I J := mFr.of h.1 (by decide)
abbrev yPost (I : sm_I) (ρ : sm_R) (lv : Nat) (v : Int32) (S : yS) : sm_O → sm_I → sm_R → Prop := sm_Qi (fun r I1 ρ1 => ρ1 = ρ ∧ mZ I1 lv S ∧ r = v ∧ mFr I I1)
theorem sm_yi {I J : sm_I} {ρ : sm_R} {lv : Nat} {v r : Int32} {S : yS} (f : mFr I J) (h : mZ J lv S) (e : v = r) : yPost I ρ lv r S (.inl (some (.int v))) J ρ := ⟨v, rfl, rfl, h, e, f⟩
section M19
variable {G : sm_G} {d : Nat} {I : sm_I} {ρ : sm_R}
theorem s_records (hm : md ρ) (w w' : Nat → Int32) (H : List (Nat → Int32)) (hn : I m_now = w) (h70 : w70 w) (hr : I m_row = w') (h70' : w70 w') (hH : mH I H) : sm_M G xX10_records (d + 1) [.ref mM] I ρ (sm_Qv (fun I1 ρ1 => ρ1 = ρ ∧ mf [m_history, m_now] [56] I I1 ∧ I1 m_now = w' ∧ mH I1 ((w :: H).take 40))) := by
  show sm_V G xX10_records (d + 1) 0 [.ref mM, .retAddr 0] [] I ρ _
  have key : ∀ (J : sm_I) (K : List (Nat → Int32)), mf [m_history, m_now] [56] I J → J m_now = w → mH J K → K.length < 40 → (w :: H).take 40 = w :: K → ∀ v, sm_V G xX10_records (d + 1) 49 [.ref mM, v] [] J ρ (sm_Qv (fun I1 ρ1 => ρ1 = ρ ∧ mf [m_history, m_now] [56] I I1 ∧ I1 m_now = w' ∧ mH I1 ((w :: H).take 40))) := by
    intro J K hf hnJ hK hl ek v
    rw [ek]
    refine wp_iconst (nI 0) 50 rfl dX10_records_49 (by decide) ?_
    refine wp_istore1 51 rfl dX10_records_50 (by decide) rfl ?_
    refine sm_for (P := fun p => ∀ J1 : sm_I, mf [m_history] [] J J1 → (∀ j, j < p → J1 m_history (70 * K.length + j) = w j) → (∀ j, j < 70 * K.length → J1 m_history j = J m_history j) → sm_V G xX10_records (d + 1) 51 [.ref mM, .int (nI p)] [] J1 ρ _) 0 70 (by decide) ?_ (fun p _ hp ih => ?_) J mf.rf (fun j h => absurd h (Nat.not_lt_zero _)) (fun _ _ => rfl)
    · intro J1 hf1 hz1 hz2
      have e56 : J1 mM 56 = nI K.length := (hf1.2 56 (by decide)).trans hK.1
      refine wp_iload1 52 rfl dX10_records_51 ?_
      refine wp_bipush (nI 70) 54 rfl dX10_records_52 (by decide) ?_
      refine wp_icmp_ge 57 83 rfl rfl dX10_records_54 (fun c54 => ?_) (fun c54 => absurd (by decide) c54)
      refine wp_aload0 84 rfl dX10_records_83 ?_
      refine wp_dup 85 rfl dX10_records_84 rfl ?_
      refine wp_geti 88 rfl dX10_records_85 fX10_251_10 (md_M hm) ?_
      refine wp_iconst (nI 1) 89 rfl dX10_records_88 (by decide) ?_
      refine wp_iadd 90 rfl dX10_records_89 ?_
      refine wp_puti 93 rfl dX10_records_90 pX10_251_10 (md_M hm) ⟨rfl, rfl⟩ ?_
      refine wp_aload0 94 rfl dX10_records_93 ?_
      refine wp_Ve0 97 rfl dX10_records_94 kX10_keepsRow lX10_163 (md_M hm) (nl rfl) (nl rfl) (s_keepsRow hm) ?_
      rw [e56]
      refine wp_vret dX10_records_97 rfl ?_
      have er : ∀ v, sm_u J1 mM 56 v m_row = w' := fun v => by
        rw [sm_u_ne _ _ _ (by decide), hf1.1 m_row (by decide) (by decide), hf.1 m_row (by decide) (by decide)]
        exact hr
      have en : ∀ v, sm_u J1 mM 56 v m_now = w := fun v => by
        rw [sm_u_ne _ _ _ (by decide), hf1.1 m_now (by decide) (by decide)]
        exact hnJ
      rw [er, en, w70_cpy h70' h70]
      refine ⟨rfl, rfl, ((hf.tr (hf1.wk (by decide) (by decide))).tr (mf.uM (by decide))).tr (mf.a (by decide) (by decide)), sm_a_eq _ _ _, ?_, Nat.succ_le_of_lt hl, fun i r hi => ?_⟩
      · rw [sm_a_ne _ _ (by decide), sm_u_eq, pk_us]
        exact nI_add _ 1
      · rw [sm_a_ne _ _ (by decide), sm_u_ne _ _ _ (by decide)]
        cases i with
        | zero =>
          cases hi
          exact ⟨h70, hz1⟩
        | succ i =>
          have hi : K[i]? = some r := hi
          have hlt : i < K.length := by
            have := List.getElem?_eq_some_iff.mp hi
            exact this.1
          obtain ⟨a, b⟩ := hK.2.2 i r hi
          refine ⟨a, fun j hj => ?_⟩
          rw [show (w :: K).length - 1 - (i + 1) = K.length - 1 - i by simp only [List.length_cons]; omega, hz2 _ (by omega)]
          exact b j hj
    · intro J1 hf1 hz1 hz2
      have e56 : J1 mM 56 = nI K.length := (hf1.2 56 (by decide)).trans hK.1
      have en : J1 m_now = w := (hf1.1 m_now (by decide) (by decide)).trans hnJ
      refine wp_iload1 52 rfl dX10_records_51 ?_
      refine wp_bipush (nI 70) 54 rfl dX10_records_52 (by decide) ?_
      refine wp_icmp_ge 57 83 rfl rfl dX10_records_54 (fun c54 => absurd c54 (nI_ge hp (by decide))) (fun c54 => ?_)
      refine wp_aload0 58 rfl dX10_records_57 ?_
      refine wp_getr 61 rfl dX10_records_58 fX10_128_10 (md_M hm) (mp_history hm) ?_
      refine wp_bipush (nI 70) 63 rfl dX10_records_61 (by decide) ?_
      refine wp_aload0 64 rfl dX10_records_63 ?_
      refine wp_geti 67 rfl dX10_records_64 fX10_251_10 (md_M hm) ?_
      refine wp_imul 68 rfl dX10_records_67 ?_
      refine wp_iload1 69 rfl dX10_records_68 ?_
      refine wp_iadd 70 rfl dX10_records_69 ?_
      refine wp_aload0 71 rfl dX10_records_70 ?_
      refine wp_getr 74 rfl dX10_records_71 fX10_119_10 (md_M hm) (mp_now hm) ?_
      refine wp_iload1 75 rfl dX10_records_74 ?_
      refine wp_iald 76 rfl dX10_records_75 (ms_now hm) (p) (by first | rfl | simp only [pk_mul, nI_add]) (⟨by omega, by decide⟩) ?_
      refine wp_iast 77 rfl dX10_records_76 (ms_history hm) (70 * K.length + p) (by rw [e56, pk_mul, nI_add]) (⟨by omega, by decide⟩) ?_
      refine wp_iincN1 80 rfl dX10_records_77 (by decide) rfl ?_
      refine wp_goto 51 rfl dX10_records_80 ?_
      refine ih _ (hf1.tr (mf.u (by decide) (by decide))) (fun j hj => ?_) (fun j hj => ?_)
      · rw [sm_u_eq]
        by_cases e : j = p
        · rw [e, pk_us, en]
        · rw [pk_un (by omega)]
          exact hz1 j (by omega)
      · rw [sm_u_eq, pk_un (by omega)]
        exact hz2 j hj
  refine wp_aload0 1 rfl dX10_records_0 ?_
  refine wp_geti 4 rfl dX10_records_1 fX10_251_10 (md_M hm) ?_
  rw [hH.1]
  have hHl := hH.2.1
  by_cases h40 : H.length = 40
  · rw [h40]
    refine wp_bipush (nI 40) 6 rfl dX10_records_4 (by decide) ?_
    refine wp_icmp_ne 9 49 rfl rfl dX10_records_6 (fun c6 => absurd (rfl) c6) (fun c6 => ?_)
    refine wp_iconst (nI 0) 10 rfl dX10_records_9 (by decide) ?_
    refine wp_istore1 11 rfl dX10_records_10 (by decide) rfl ?_
    refine sm_for (P := fun p => ∀ J1 : sm_I, mf [m_history] [] I J1 → (∀ j, j < p → J1 m_history j = I m_history (j + 70)) → (∀ j, p ≤ j → J1 m_history j = I m_history j) → sm_V G xX10_records (d + 1) 11 [.ref mM, .int (nI p)] [] J1 ρ _) 0 2730 (by decide) ?_ (fun p _ hp ih => ?_) I mf.rf (fun j h => absurd h (Nat.not_lt_zero _)) (fun _ _ => rfl)
    · intro J1 hf1 hz1 hz2
      have e56 : J1 mM 56 = nI 40 := (hf1.2 56 (by decide)).trans (by rw [hH.1, h40])
      refine wp_iload1 12 rfl dX10_records_11 ?_
      refine wp_sipush (nI 2730) 15 rfl dX10_records_12 (by decide) ?_
      refine wp_icmp_ge 18 39 rfl rfl dX10_records_15 (fun c15 => ?_) (fun c15 => absurd (by decide) c15)
      refine wp_aload0 40 rfl dX10_records_39 ?_
      refine wp_dup 41 rfl dX10_records_40 rfl ?_
      refine wp_geti 44 rfl dX10_records_41 fX10_251_10 (md_M hm) ?_
      refine wp_iconst (nI 1) 45 rfl dX10_records_44 (by decide) ?_
      refine wp_isub 46 rfl dX10_records_45 ?_
      refine wp_puti 49 rfl dX10_records_46 pX10_251_10 (md_M hm) ⟨rfl, rfl⟩ ?_
      rw [e56]
      refine key _ (H.take 39) ((hf1.wk (by decide) (by decide)).tr (mf.uM (by decide))) (by rw [sm_u_ne _ _ _ (by decide), hf1.1 m_now (by decide) (by decide)]; exact hn) ⟨?_, ?_, fun i r hi => ?_⟩ ?_ rfl _
      · rw [sm_u_eq, pk_us, List.length_take, h40]
        rfl
      · rw [List.length_take, h40]
        decide
      · have hl : (H.take 39).length = 39 := by rw [List.length_take, h40]; rfl
        have hlt : i < 39 := by
          have := (List.getElem?_eq_some_iff.mp hi).1
          omega
        rw [List.getElem?_take, if_pos hlt] at hi
        obtain ⟨a, b⟩ := hH.2.2 i r hi
        refine ⟨a, fun j hj => ?_⟩
        rw [sm_u_ne _ _ _ (by decide), hl, hz1 _ (by omega), ← b j hj, h40]
        exact congrArg _ (by omega)
      · rw [List.length_take, h40]
        decide
    · intro J1 hf1 hz1 hz2
      refine wp_iload1 12 rfl dX10_records_11 ?_
      refine wp_sipush (nI 2730) 15 rfl dX10_records_12 (by decide) ?_
      refine wp_icmp_ge 18 39 rfl rfl dX10_records_15 (fun c15 => absurd c15 (nI_ge hp (by decide))) (fun c15 => ?_)
      refine wp_aload0 19 rfl dX10_records_18 ?_
      refine wp_getr 22 rfl dX10_records_19 fX10_128_10 (md_M hm) (mp_history hm) ?_
      refine wp_iload1 23 rfl dX10_records_22 ?_
      refine wp_aload0 24 rfl dX10_records_23 ?_
      refine wp_getr 27 rfl dX10_records_24 fX10_128_10 (md_M hm) (mp_history hm) ?_
      refine wp_iload1 28 rfl dX10_records_27 ?_
      refine wp_bipush (nI 70) 30 rfl dX10_records_28 (by decide) ?_
      refine wp_iadd 31 rfl dX10_records_30 ?_
      refine wp_iald 32 rfl dX10_records_31 (ms_history hm) (p + 70) (by first | rfl | simp only [pk_mul, nI_add]) (⟨by omega, by decide⟩) ?_
      refine wp_iast 33 rfl dX10_records_32 (ms_history hm) (p) (by first | rfl | simp only [pk_mul, nI_add]) (⟨by omega, by decide⟩) ?_
      refine wp_iincN1 36 rfl dX10_records_33 (by decide) rfl ?_
      refine wp_goto 11 rfl dX10_records_36 ?_
      refine ih _ (hf1.tr (mf.u (by decide) (by decide))) (fun j hj => ?_) (fun j hj => ?_)
      · rw [sm_u_eq]
        by_cases e : j = p
        · rw [e, pk_us]
          exact hz2 _ (by omega)
        · rw [pk_un e]
          exact hz1 j (by omega)
      · rw [sm_u_eq, pk_un (by omega)]
        exact hz2 j (by omega)
  · refine wp_bipush (nI 40) 6 rfl dX10_records_4 (by decide) ?_
    refine wp_icmp_ne 9 49 rfl rfl dX10_records_6 (fun c6 => ?_) (fun c6 => absurd c6 (fun h => h40 ((nI_eq (by omega) (by decide)).mp h)))
    exact key I H mf.rf hn hH (by omega) (by rw [List.take_of_length_le]; simp only [List.length_cons]; omega) _
end M19
