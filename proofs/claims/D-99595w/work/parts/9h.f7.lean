/-! ===== the component's parser: what makes no cells ===== -/
set_option maxRecDepth 100000
/-- reading goes on: the token that stands next, the worst told -/
def pst (I : sm_I) (tk : tkf) (t : Nat) (w : Nat × Nat) : Prop := (t ≤ 400 ∧ (∀ j, j < t → cGd (tk j).1) ∧ w.1 ≤ 5 ∧ w.2 ≤ 400) ∧ I 73 3 = nI t ∧ I 73 5 = nI w.1 ∧ (¬ w.1 = 0 → I 73 6 = nI w.2)
/-- a fault was thrown -/
def pft (I : sm_I) (tk : tkf) (m j : Nat) : Prop := I 65 6 = nI m ∧ I 65 7 = nI (tk j).2.1
/-- what reading a token may change -/
def pJ (I J : sm_I) : Prop := (∀ a, ¬ (a = 65 ∨ a = 73) → J a = I a) ∧ J 73 4 = I 73 4
theorem pJ.rf {I : sm_I} : pJ I I := ⟨fun _ _ => rfl, rfl⟩
theorem pJ.tr {I J K : sm_I} (h : pJ I J) (h2 : pJ J K) : pJ I K := ⟨fun a ha => (h2.1 a ha).trans (h.1 a ha), h2.2.trans h.2⟩
/-- how a method of the parser ends that makes no cells -/
def xN (I : sm_I) (ρ : sm_R) (tk : tkf) (r : pR) (post : Option Value → Prop) : sm_O → sm_I → sm_R → Prop := fun o I1 ρ1 => ρ1 = ρ ∧ pJ I I1 ∧ match r with
  | .inl (m, j) => o = .inr 65 ∧ pft I1 tk m j
  | .inr (t, w) => ∃ v, o = .inl v ∧ pst I1 tk t w ∧ post v
theorem xN.ok {I I1 : sm_I} {ρ ρ1 : sm_R} {tk : tkf} {r : pR} {post : Option Value → Prop} {v : Option Value} (h : xN I ρ tk r post (.inl v) I1 ρ1) : ρ1 = ρ ∧ pJ I I1 ∧ ∃ t w, r = .inr (t, w) ∧ pst I1 tk t w ∧ post v := by
  obtain ⟨h1, h2, h3⟩ := h
  refine ⟨h1, h2, ?_⟩
  match r, h3 with
  | .inl (m, j), h3 => cases h3.1
  | .inr (t, w), ⟨v', e, h4, h5⟩ =>
    cases e
    exact ⟨t, w, rfl, h4, h5⟩
theorem xN.ex {I I1 : sm_I} {ρ ρ1 : sm_R} {tk : tkf} {r : pR} {post : Option Value → Prop} {b : Nat} (h : xN I ρ tk r post (.inr b) I1 ρ1) : ρ1 = ρ ∧ pJ I I1 ∧ b = 65 ∧ ∃ m j, r = .inl (m, j) ∧ pft I1 tk m j := by
  obtain ⟨h1, h2, h3⟩ := h
  refine ⟨h1, h2, ?_⟩
  match r, h3 with
  | .inl (m, j), h3 =>
    cases h3.1
    exact ⟨rfl, m, j, rfl, h3.2⟩
  | .inr (t, w), ⟨v', e, h4, h5⟩ => cases e
/-- a fault: its number, its place -/
def M_f (I : sm_I) (n p : Nat) : sm_I := sm_u (sm_u I 65 6 (nI n)) 65 7 (nI p)
theorem M_f_J {I : sm_I} {n p : Nat} : pJ I (M_f I n p) := ⟨fun a ha => by
  unfold M_f
  rw [sm_u_ne _ _ _ (by omega), sm_u_ne _ _ _ (by omega)], by
  unfold M_f
  rw [sm_u_ne _ _ _ (by decide), sm_u_ne _ _ _ (by decide)]⟩
theorem M_f_t {I : sm_I} {tk : tkf} {n j : Nat} : pft (M_f I n (tk j).2.1) tk n j := by
  unfold M_f pft
  rw [sm_u_eq, pk_us, pk_un (by decide), sm_u_eq, pk_us]
  exact ⟨rfl, rfl⟩
theorem ctk.J {I J : sm_I} {P : Nat × (Nat → Int32)} (h : ctk I P) (e : ∀ a, 69 ≤ a → a ≤ 72 → J a = I a) : ctk J P := fun k hk hg => by
  unfold cTok
  rw [e 69 (by decide) (by decide), e 70 (by decide) (by decide), e 71 (by decide) (by decide), e 72 (by decide) (by decide)]
  exact h k hk hg
theorem ctk.P {I J : sm_I} {P : Nat × (Nat → Int32)} (h : ctk I P) (e : pJ I J) : ctk J P := h.J (fun a h1 h2 => e.1 a (by omega))
theorem cP.P {I J : sm_I} {P : Nat × (Nat → Int32)} (h : cP I P) (e : pJ I J) : cP J P := by
  unfold cP
  rw [e.1 66 (by decide), e.1 68 (by decide)]
  exact h
theorem ctC_inj : ∀ a b : Fin 20, ctC b.val ≠ 0 → ctC a.val = ctC b.val → a.val = b.val := by decide +kernel
theorem ctC_lt (k : Nat) : ctC k < 100 := by
  unfold ctC
  repeat' split
  all_goals omega
theorem ctS_2 {c : Nat} : ctS c = 2 ↔ 4 ≤ c ∧ c < 20 := by
  unfold ctS
  repeat' split
  all_goals omega
theorem ctS_3 {c : Nat} : ctS c = 3 ↔ 20 ≤ c := by
  unfold ctS
  repeat' split
  all_goals omega
theorem ctS_5 {c : Nat} : ctS c = 5 ↔ c = 3 := by
  unfold ctS
  repeat' split
  all_goals omega
theorem ctS_0 {c : Nat} : ctS c = 0 ↔ c = 1 := by
  unfold ctS
  repeat' split
  all_goals omega
theorem ctS_1 {c : Nat} : ctS c = 1 ↔ c = 2 := by
  unfold ctS
  repeat' split
  all_goals omega
theorem ctS_4 {c : Nat} : ctS c = 4 ↔ c = 0 := by
  unfold ctS
  repeat' split
  all_goals omega
theorem ctS_lt (c : Nat) : ctS c < 6 := by
  unfold ctS
  repeat' split
  all_goals omega
theorem kt_int {P : Nat × (Nat → Int32)} {k : Nat} (hn : P.1 ≤ 2000) (h : (kt P k).1 = 2) : (kt P k).2.1 = kp P k ∧ kp P k ≤ kn P k ∧ kn P k ≤ kp P k + 4 ∧ (∀ j, kp P k ≤ j → j < kn P k → ky_D (ky_c P.1 P.2 j)) ∧ (kt P k).2.2.1 = ky_nu (ky_c P.1 P.2) (kp P k) (kn P k - kp P k) := by
  have hp := ky_pos_le (b := P.2) hn k
  have htk : kt P k = ky_at P.1 (ky_c P.1 P.2) (kp P k) := rfl
  have hkn : kn P k = ky_end P.1 (ky_c P.1 P.2) (kp P k) := rfl
  rw [htk] at h ⊢
  rw [hkn]
  have hp : kp P k ≤ P.1 := hp
  generalize kp P k = i at *
  unfold ky_at at h ⊢
  unfold ky_end
  by_cases h1 : P.1 ≤ i
  · rw [if_pos h1] at h
    cases h
  · rw [if_neg h1] at h ⊢
    rw [if_neg h1]
    by_cases h2 : ky_L (ky_c P.1 P.2 i)
    · rw [if_pos h2] at h
      have h : (if 8 < ky_le (ky_c P.1 P.2) i - i then 3 else ky_find (ky_nm (ky_c P.1 P.2) i (ky_le (ky_c P.1 P.2) i - i)) 21) = 2 := h
      have f1 := ky_find_in (ky_nm (ky_c P.1 P.2) i (ky_le (ky_c P.1 P.2) i - i)) 21
      split at h <;> omega
    · rw [if_neg h2] at h ⊢
      rw [if_neg h2]
      by_cases h3 : ky_D (ky_c P.1 P.2 i)
      · rw [if_pos h3] at h ⊢
        rw [if_pos h3]
        obtain ⟨a1, a2, a3, a4⟩ := ky_de_s (b := P.2) hn hp h3
        have h : (if 4 < ky_de (ky_c P.1 P.2) i - i then 3 else 2) = 2 := h
        refine ⟨rfl, by omega, ?_, a4, rfl⟩
        split at h <;> omega
      · rw [if_neg h3] at h
        have f2 := ky_sg_in (ky_c P.1 P.2 i)
        have h : ky_sg (ky_c P.1 P.2 i) = 2 := h
        omega
theorem kt_name {P : Nat × (Nat → Int32)} {k : Nat} (hn : P.1 ≤ 2000) (h : (kt P k).1 = 1) : (kt P k).2.1 = kp P k ∧ kp P k < kn P k ∧ kn P k ≤ kp P k + 8 ∧ kn P k ≤ P.1 ∧ (∀ j, kp P k ≤ j → j < kn P k → ky_L (ky_c P.1 P.2 j)) ∧ (kt P k).2.2.2 = ky_nm (ky_c P.1 P.2) (kp P k) (kn P k - kp P k) := by
  have hp := ky_pos_le (b := P.2) hn k
  have htk : kt P k = ky_at P.1 (ky_c P.1 P.2) (kp P k) := rfl
  have hkn : kn P k = ky_end P.1 (ky_c P.1 P.2) (kp P k) := rfl
  rw [htk] at h ⊢
  rw [hkn]
  have hp : kp P k ≤ P.1 := hp
  generalize kp P k = i at *
  unfold ky_at at h ⊢
  unfold ky_end
  by_cases h1 : P.1 ≤ i
  · rw [if_pos h1] at h
    cases h
  · rw [if_neg h1] at h ⊢
    rw [if_neg h1]
    by_cases h2 : ky_L (ky_c P.1 P.2 i)
    · rw [if_pos h2] at h ⊢
      rw [if_pos h2]
      obtain ⟨a1, a2, a3, a4⟩ := ky_le_s (b := P.2) hn hp h2
      have h : (if 8 < ky_le (ky_c P.1 P.2) i - i then 3 else ky_find (ky_nm (ky_c P.1 P.2) i (ky_le (ky_c P.1 P.2) i - i)) 21) = 1 := h
      refine ⟨rfl, a1, ?_, a2, a4, rfl⟩
      split at h <;> omega
    · rw [if_neg h2] at h
      exfalso
      by_cases h3 : ky_D (ky_c P.1 P.2 i)
      · rw [if_pos h3] at h
        have h : (if 4 < ky_de (ky_c P.1 P.2) i - i then 3 else 2) = 1 := h
        split at h <;> omega
      · rw [if_neg h3] at h
        have f2 := ky_sg_in (ky_c P.1 P.2 i)
        have h : ky_sg (ky_c P.1 P.2 i) = 1 := h
        omega
section F7
variable {G : sm_G} {d : Nat} {I : sm_I} {ρ : sm_R} {P : Nat × (Nat → Int32)} {t : Nat} {w : Nat × Nat}
theorem pst.ct (hC : ctk I P) (hp : pst I (kt P) t w) : cTok I P t := hC t hp.1.1 hp.1.2.1
/-- thrown on -/
theorem xN.out {X : sm_X} {pc b : Nat} {lv : List Value} {I0 I1 : sm_I} {ρ1 : sm_R} {tk : tkf} {r R : pR} {post post' : Option Value → Prop} (hh : X.2.2.2.2.2 = []) (hK : kd ρ) (h0 : pJ I0 I) (h : xN I ρ tk r post (.inr b) I1 ρ1) (hR : ∀ x, r = .inl x → R = .inl x) : sm_VX G X d pc lv b I1 ρ1 (xN I0 ρ tk R post') := by
  obtain ⟨e1, h2, e2, m, j, e3, h4⟩ := h.ex
  subst e1
  subst e2
  refine wp_out hh (o2 hK) ?_
  rw [hR _ e3]
  exact ⟨rfl, h0.tr h2, rfl, h4⟩
theorem s_fof (hK : kd ρ) {n p : Nat} : sm_M G xX1_of d [.ref 65, .int (nI n), .int (nI p)] I ρ (sm_Qe (some (.ref 65)) (M_f I n p) ρ) := by
  show sm_V G xX1_of d 0 [.ref 65, .int (nI n), .int (nI p)] [] I ρ _
  refine wp_aload0 1 rfl dX1_of_0 ?_
  refine wp_iload1 2 rfl dX1_of_1 ?_
  refine wp_puti 5 rfl dX1_of_2 pX1_9_2 (o2 hK) (⟨rfl, rfl⟩) ?_
  refine wp_aload0 6 rfl dX1_of_5 ?_
  refine wp_iload2 7 rfl dX1_of_6 ?_
  refine wp_puti 10 rfl dX1_of_7 pX1_15_2 (o2 hK) (⟨rfl, rfl⟩) ?_
  refine wp_aload0 11 rfl dX1_of_10 ?_
  refine wp_aret dX1_of_11 rfl (Or.inl ⟨_, rfl⟩) ?_
  exact ⟨rfl, rfl, rfl⟩
theorem s_pwrongAt (hK : kd ρ) (hC : ctk I P) {n j : Nat} (hj : j ≤ 400) (hg : ∀ q, q < j → cGd (kt P q).1) : sm_M G xX3_wrongAt (d + 1) [.ref 73, .int (nI n), .int (nI j)] I ρ (sm_Qe (some (.ref 65)) (M_f I n (kt P j).2.1) ρ) := by
  show sm_V G xX3_wrongAt (d + 1) 0 [.ref 73, .int (nI n), .int (nI j)] [] I ρ _
  have c1 := (hC j hj hg).2.1
  refine wp_aload0 1 rfl dX3_wrongAt_0 ?_
  refine wp_getr 4 rfl dX3_wrongAt_1 fX3_15_4 (o4 hK) (p4_1 hK) ?_
  refine wp_iload1 5 rfl dX3_wrongAt_4 ?_
  refine wp_aload0 6 rfl dX3_wrongAt_5 ?_
  refine wp_getr 9 rfl dX3_wrongAt_6 fX3_9_4 (o4 hK) (p4_0 hK) ?_
  refine wp_getr 12 rfl dX3_wrongAt_9 fX3_19_3 (o3 hK) (p3_4 hK) ?_
  refine wp_iload2 13 rfl dX3_wrongAt_12 ?_
  refine wp_sald 14 rfl dX3_wrongAt_13 (s3_4 hK) (j) (by first | rfl | simp only [pk_mul, nI_add]) (⟨by omega, by decide⟩) ?_
  rw [c1]
  refine wp_Ve2 17 rfl dX3_wrongAt_14 kX1_of lX3_25 (o2 hK) (nl rfl) (nl rfl) (s_fof hK) ?_
  refine wp_aret dX3_wrongAt_17 rfl (Or.inl ⟨_, rfl⟩) ?_
  exact ⟨rfl, rfl, rfl⟩
theorem s_pwrong (hK : kd ρ) (hC : ctk I P) (hp : pst I (kt P) t w) {n : Nat} : sm_M G xX3_wrong (d + 2) [.ref 73, .int (nI n)] I ρ (sm_Qe (some (.ref 65)) (M_f I n (kt P t).2.1) ρ) := by
  have p3 := hp.2.1
  show sm_V G xX3_wrong (d + 2) 0 [.ref 73, .int (nI n)] [] I ρ _
  refine wp_aload0 1 rfl dX3_wrong_0 ?_
  refine wp_iload1 2 rfl dX3_wrong_1 ?_
  refine wp_aload0 3 rfl dX3_wrong_2 ?_
  refine wp_geti 6 rfl dX3_wrong_3 fX3_31_4 (o4 hK) ?_
  rw [p3]
  refine wp_Ve2 9 rfl dX3_wrong_6 kX3_wrongAt lX3_35 (o4 hK) (nl rfl) (nl rfl) (s_pwrongAt hK hC hp.1.1 hp.1.2.1) ?_
  refine wp_aret dX3_wrong_9 rfl (Or.inl ⟨_, rfl⟩) ?_
  exact ⟨rfl, rfl, rfl⟩
theorem s_psort (hK : kd ρ) (hC : ctk I P) (hp : pst I (kt P) t w) : sm_M G xX3_sort (d + 3) [.ref 73] I ρ (xN I ρ (kt P) (if (kt P t).1 = 3 then .inl (1, t) else .inr (t, w)) (fun v => v = some (.int (nI (ctS (kt P t).1))))) := by
  have p3 := hp.2.1
  have p4 := hp.1.1
  obtain ⟨c1, -, -, -, -⟩ := hp.ct hC
  show sm_V G xX3_sort (d + 3) 0 [.ref 73] [] I ρ _
  refine wp_aload0 1 rfl dX3_sort_0 ?_
  refine wp_getr 4 rfl dX3_sort_1 fX3_9_4 (o4 hK) (p4_0 hK) ?_
  refine wp_getr 7 rfl dX3_sort_4 fX3_44_3 (o3 hK) (p3_3 hK) ?_
  refine wp_aload0 8 rfl dX3_sort_7 ?_
  refine wp_geti 11 rfl dX3_sort_8 fX3_31_4 (o4 hK) ?_
  refine wp_bald 12 rfl dX3_sort_11 (s3_3 hK) (t) (p3) (⟨by omega, by decide⟩) ?_
  rw [c1]
  by_cases h : (kt P t).1 = 3
  · rw [if_pos h]
    refine wp_iconst (nI 5) 13 rfl dX3_sort_12 (by decide) ?_
    refine wp_icmp_ne 16 22 rfl rfl dX3_sort_13 (fun c13 => absurd (by rw [h]; rfl) c13) (fun c13 => ?_)
    refine wp_aload0 17 rfl dX3_sort_16 ?_
    refine wp_iconst (nI 1) 18 rfl dX3_sort_17 (by decide) ?_
    refine wp_Ve1 21 rfl dX3_sort_18 kX3_wrong lX3_48 (o4 hK) (nl rfl) (nl rfl) (s_pwrong hK hC hp) ?_
    refine wp_athrow dX3_sort_21 ?_
    exact wp_out rfl (o2 hK) ⟨rfl, M_f_J, rfl, M_f_t⟩
  · rw [if_neg h]
    have := ctS_lt (kt P t).1
    refine wp_iconst (nI 5) 13 rfl dX3_sort_12 (by decide) ?_
    refine wp_icmp_ne 16 22 rfl rfl dX3_sort_13 (fun c13 => ?_) (fun c13 => absurd c13 (fun z => h (ctS_5.mp ((nI_eq (by omega) (by decide)).mp z))))
    refine wp_aload0 23 rfl dX3_sort_22 ?_
    refine wp_getr 26 rfl dX3_sort_23 fX3_9_4 (o4 hK) (p4_0 hK) ?_
    refine wp_getr 29 rfl dX3_sort_26 fX3_44_3 (o3 hK) (p3_3 hK) ?_
    refine wp_aload0 30 rfl dX3_sort_29 ?_
    refine wp_geti 33 rfl dX3_sort_30 fX3_31_4 (o4 hK) ?_
    refine wp_bald 34 rfl dX3_sort_33 (s3_3 hK) (t) (p3) (⟨by omega, by decide⟩) ?_
    rw [c1]
    refine wp_iret dX3_sort_34 rfl ?_
    exact ⟨rfl, pJ.rf, _, rfl, hp, rfl⟩
theorem s_ppass (hK : kd ρ) (hC : ctk I P) (hp : pst I (kt P) t w) (hg : cGd (kt P t).1) : sm_M G xX3_pass (d + 3) [.ref 73] I ρ (xN I ρ (kt P) (g_pass (.inr (t, w))) (fun v => v = none)) := by
  have p3 := hp.2.1
  have p4 := hp.1.1
  show sm_V G xX3_pass (d + 3) 0 [.ref 73] [] I ρ _
  refine wp_aload0 1 rfl dX3_pass_0 ?_
  refine wp_geti 4 rfl dX3_pass_1 fX3_31_4 (o4 hK) ?_
  rw [p3]
  by_cases h : t = 400
  · have eg : g_pass (.inr (t, w)) = .inl (2, t) := if_pos h
    rw [eg]
    refine wp_sipush (nI 400) 7 rfl dX3_pass_4 (by decide) ?_
    refine wp_icmp_lt 10 16 rfl rfl dX3_pass_7 (fun c7 => absurd c7 (nI_nlt (by omega) (by omega))) (fun c7 => ?_)
    refine wp_aload0 11 rfl dX3_pass_10 ?_
    refine wp_iconst (nI 2) 12 rfl dX3_pass_11 (by decide) ?_
    refine wp_Ve1 15 rfl dX3_pass_12 kX3_wrong lX3_48 (o4 hK) (nl rfl) (nl rfl) (s_pwrong hK hC hp) ?_
    refine wp_athrow dX3_pass_15 ?_
    exact wp_out rfl (o2 hK) ⟨rfl, M_f_J, rfl, M_f_t⟩
  · have eg : g_pass (.inr (t, w)) = .inr (t + 1, w) := if_neg h
    rw [eg]
    refine wp_sipush (nI 400) 7 rfl dX3_pass_4 (by decide) ?_
    refine wp_icmp_lt 10 16 rfl rfl dX3_pass_7 (fun c7 => ?_) (fun c7 => absurd (nI_lt (by omega) (by decide)) c7)
    refine wp_aload0 17 rfl dX3_pass_16 ?_
    refine wp_dup 18 rfl dX3_pass_17 rfl ?_
    refine wp_geti 21 rfl dX3_pass_18 fX3_31_4 (o4 hK) ?_
    rw [p3]
    refine wp_iconst (nI 1) 22 rfl dX3_pass_21 (by decide) ?_
    refine wp_iadd 23 rfl dX3_pass_22 ?_
    rw [nI_add]
    refine wp_puti 26 rfl dX3_pass_23 pX3_31_4 (o4 hK) (⟨rfl, rfl⟩) ?_
    refine wp_vret dX3_pass_26 rfl ?_
    refine ⟨rfl, ⟨fun a ha => sm_u_ne _ _ _ (by omega), by rw [sm_u_eq, pk_un (by decide)]⟩, none, rfl, ⟨⟨by omega, fun j hj => ?_, hp.1.2.2⟩, ?_, ?_, fun h0 => ?_⟩, rfl⟩
    · by_cases e : j = t
      · rw [e]; exact hg
      · exact hp.1.2.1 j (by omega)
    · rw [sm_u_eq, pk_us]
    · rw [sm_u_eq, pk_un (by decide)]; exact hp.2.2.1
    · rw [sm_u_eq, pk_un (by decide)]; exact hp.2.2.2 h0
theorem s_pisSign (hK : kd ρ) (hC : ctk I P) (hp : pst I (kt P) t w) (k c : Nat) (hk : k < 20) (hc : c = ctC k) (h0 : ctC k ≠ 0) : sm_M G xX3_isSign d [.ref 73, .int (nI c)] I ρ (sm_Qe (some (.int (z_b ((kt P t).1 = k)))) I ρ) := by
  have p3 := hp.2.1
  have p4 := hp.1.1
  obtain ⟨c1, -, -, c4, -⟩ := hp.ct hC
  have := ctS_lt (kt P t).1
  have := ctC_lt (kt P t).1
  have := ctC_lt k
  subst hc
  show sm_V G xX3_isSign d 0 [.ref 73, .int (nI (ctC k))] [] I ρ _
  refine wp_aload0 1 rfl dX3_isSign_0 ?_
  refine wp_getr 4 rfl dX3_isSign_1 fX3_9_4 (o4 hK) (p4_0 hK) ?_
  refine wp_getr 7 rfl dX3_isSign_4 fX3_44_3 (o3 hK) (p3_3 hK) ?_
  refine wp_aload0 8 rfl dX3_isSign_7 ?_
  refine wp_geti 11 rfl dX3_isSign_8 fX3_31_4 (o4 hK) ?_
  refine wp_bald 12 rfl dX3_isSign_11 (s3_3 hK) (t) (p3) (⟨by omega, by decide⟩) ?_
  rw [c1]
  by_cases h : ctS (kt P t).1 = 2
  · obtain ⟨h1, h2⟩ := ctS_2.mp h
    refine wp_iconst (nI 2) 13 rfl dX3_isSign_12 (by decide) ?_
    refine wp_icmp_ne 16 36 rfl rfl dX3_isSign_13 (fun c13 => absurd (by rw [h]) c13) (fun c13 => ?_)
    refine wp_aload0 17 rfl dX3_isSign_16 ?_
    refine wp_getr 20 rfl dX3_isSign_17 fX3_9_4 (o4 hK) (p4_0 hK) ?_
    refine wp_getr 23 rfl dX3_isSign_20 fX3_52_3 (o3 hK) (p3_6 hK) ?_
    refine wp_aload0 24 rfl dX3_isSign_23 ?_
    refine wp_geti 27 rfl dX3_isSign_24 fX3_31_4 (o4 hK) ?_
    refine wp_sald 28 rfl dX3_isSign_27 (s3_6 hK) (t) (p3) (⟨by omega, by decide⟩) ?_
    rw [c4 h1 h2]
    by_cases e : ctC (kt P t).1 = ctC k
    · have e9 : (kt P t).1 = k := ctC_inj ⟨(kt P t).1, h2⟩ ⟨k, hk⟩ h0 e
      refine wp_iload1 29 rfl dX3_isSign_28 ?_
      refine wp_icmp_ne 32 36 rfl rfl dX3_isSign_29 (fun c29 => absurd (by rw [e]) c29) (fun c29 => ?_)
      refine wp_iconst (nI 1) 33 rfl dX3_isSign_32 (by decide) ?_
      refine wp_goto 37 rfl dX3_isSign_33 ?_
      refine wp_zret dX3_isSign_37 rfl (rfl) ?_
      exact sm_ei (z_bt e9).symm
    · refine wp_iload1 29 rfl dX3_isSign_28 ?_
      refine wp_icmp_ne 32 36 rfl rfl dX3_isSign_29 (fun c29 => ?_) (fun c29 => absurd c29 (fun z => e ((nI_eq (by omega) (by omega)).mp z)))
      refine wp_iconst (nI 0) 37 rfl dX3_isSign_36 (by decide) ?_
      refine wp_zret dX3_isSign_37 rfl (rfl) ?_
      exact sm_ei (z_bf (fun z => e (by rw [z]))).symm
  · refine wp_iconst (nI 2) 13 rfl dX3_isSign_12 (by decide) ?_
    refine wp_icmp_ne 16 36 rfl rfl dX3_isSign_13 (fun c13 => ?_) (fun c13 => absurd c13 (fun z => h ((nI_eq (by omega) (by decide)).mp z)))
    refine wp_iconst (nI 0) 37 rfl dX3_isSign_36 (by decide) ?_
    refine wp_zret dX3_isSign_37 rfl (rfl) ?_
    refine sm_ei (z_bf (fun z => h (ctS_2.mpr ?_))).symm
    rw [z]
    refine ⟨?_, hk⟩
    by_cases h4 : 4 ≤ k
    · exact h4
    · exfalso
      apply h0
      have : k = 0 ∨ k = 1 ∨ k = 2 ∨ k = 3 := by omega
      rcases this with e | e | e | e <;> rw [e] <;> rfl
theorem s_pisWord (hK : kd ρ) (hP : cP I P) (hC : ctk I P) (hp : pst I (kt P) t w) (k : Nat) (hk : k < 100) : sm_M G xX3_isWord d [.ref 73, .int (nI k)] I ρ (sm_Qe (some (.int (z_b ((kt P t).1 = 20 + k)))) I ρ) := by
  have p3 := hp.2.1
  have p4 := hp.1.1
  have h100 := ((ky_tw (b := P.2) hP.2.1).1 t).1
  have h100 : (kt P t).1 < 100 := h100
  obtain ⟨c1, -, -, -, c5⟩ := hp.ct hC
  have := ctS_lt (kt P t).1
  show sm_V G xX3_isWord d 0 [.ref 73, .int (nI k)] [] I ρ _
  refine wp_aload0 1 rfl dX3_isWord_0 ?_
  refine wp_getr 4 rfl dX3_isWord_1 fX3_9_4 (o4 hK) (p4_0 hK) ?_
  refine wp_getr 7 rfl dX3_isWord_4 fX3_44_3 (o3 hK) (p3_3 hK) ?_
  refine wp_aload0 8 rfl dX3_isWord_7 ?_
  refine wp_geti 11 rfl dX3_isWord_8 fX3_31_4 (o4 hK) ?_
  refine wp_bald 12 rfl dX3_isWord_11 (s3_3 hK) (t) (p3) (⟨by omega, by decide⟩) ?_
  rw [c1]
  by_cases h : ctS (kt P t).1 = 3
  · have h1 := ctS_3.mp h
    refine wp_iconst (nI 3) 13 rfl dX3_isWord_12 (by decide) ?_
    refine wp_icmp_ne 16 36 rfl rfl dX3_isWord_13 (fun c13 => absurd (by rw [h]) c13) (fun c13 => ?_)
    refine wp_aload0 17 rfl dX3_isWord_16 ?_
    refine wp_getr 20 rfl dX3_isWord_17 fX3_9_4 (o4 hK) (p4_0 hK) ?_
    refine wp_getr 23 rfl dX3_isWord_20 fX3_52_3 (o3 hK) (p3_6 hK) ?_
    refine wp_aload0 24 rfl dX3_isWord_23 ?_
    refine wp_geti 27 rfl dX3_isWord_24 fX3_31_4 (o4 hK) ?_
    refine wp_sald 28 rfl dX3_isWord_27 (s3_6 hK) (t) (p3) (⟨by omega, by decide⟩) ?_
    rw [c5 h1]
    by_cases e : (kt P t).1 - 20 = k
    · refine wp_iload1 29 rfl dX3_isWord_28 ?_
      refine wp_icmp_ne 32 36 rfl rfl dX3_isWord_29 (fun c29 => absurd (by rw [e]) c29) (fun c29 => ?_)
      refine wp_iconst (nI 1) 33 rfl dX3_isWord_32 (by decide) ?_
      refine wp_goto 37 rfl dX3_isWord_33 ?_
      refine wp_zret dX3_isWord_37 rfl (rfl) ?_
      exact sm_ei (z_bt (by omega)).symm
    · refine wp_iload1 29 rfl dX3_isWord_28 ?_
      refine wp_icmp_ne 32 36 rfl rfl dX3_isWord_29 (fun c29 => ?_) (fun c29 => absurd c29 (fun z => e ((nI_eq (by omega) (by omega)).mp z)))
      refine wp_iconst (nI 0) 37 rfl dX3_isWord_36 (by decide) ?_
      refine wp_zret dX3_isWord_37 rfl (rfl) ?_
      exact sm_ei (z_bf (by omega)).symm
  · refine wp_iconst (nI 3) 13 rfl dX3_isWord_12 (by decide) ?_
    refine wp_icmp_ne 16 36 rfl rfl dX3_isWord_13 (fun c13 => ?_) (fun c13 => absurd c13 (fun z => h ((nI_eq (by omega) (by decide)).mp z)))
    refine wp_iconst (nI 0) 37 rfl dX3_isWord_36 (by decide) ?_
    refine wp_zret dX3_isWord_37 rfl (rfl) ?_
    exact sm_ei (z_bf (fun z => h (ctS_3.mpr (by omega)))).symm
theorem s_psign (hK : kd ρ) (hC : ctk I P) (hp : pst I (kt P) t w) (k c : Nat) (hk : k < 20) (hc : c = ctC k) (h0 : ctC k ≠ 0) : sm_M G xX3_sign (d + 4) [.ref 73, .int (nI c)] I ρ (xN I ρ (kt P) (g_must (kt P) k (.inr (t, w))) (fun v => v = none)) := by
  have k0 : ¬ k = 0 ∧ ¬ k = 3 := ⟨fun z => h0 (by rw [z]; rfl), fun z => h0 (by rw [z]; rfl)⟩
  show sm_V G xX3_sign (d + 4) 0 [.ref 73, .int (nI c)] [] I ρ _
  refine wp_aload0 1 rfl dX3_sign_0 ?_
  refine wp_iload1 2 rfl dX3_sign_1 ?_
  refine wp_Ve1 5 rfl dX3_sign_2 kX3_isSign lX3_55 (o4 hK) (nl rfl) (nl rfl) (s_pisSign hK hC hp k c hk hc h0) ?_
  by_cases h : (kt P t).1 = k
  · have eg : g_must (kt P) k (.inr (t, w)) = g_pass (.inr (t, w)) := if_pos h
    rw [z_bt h, eg]
    refine wp_if_ne 8 14 rfl rfl dX3_sign_5 (fun c5 => ?_) (fun c5 => absurd c5 (by decide))
    refine wp_aload0 15 rfl dX3_sign_14 ?_
    refine wp_Vx0 18 rfl dX3_sign_15 kX3_pass lX3_59 (o4 hK) (nl rfl) (nl rfl) (s_ppass hK hC hp (by rw [h]; exact k0)) (fun v J1 ρ1 h1 => ?_) (fun b J1 ρ1 h1 => h1.out rfl hK pJ.rf (fun x e => e))
    obtain ⟨rfl, j1, t', w', e1, p1, rfl⟩ := h1.ok
    rw [e1]
    refine wp_vret dX3_sign_18 rfl ?_
    exact ⟨rfl, j1, none, rfl, p1, rfl⟩
  · have eg : g_must (kt P) k (.inr (t, w)) = .inl (1, t) := if_neg h
    rw [z_bf h, eg]
    refine wp_if_ne 8 14 rfl rfl dX3_sign_5 (fun c5 => absurd (rfl) c5) (fun c5 => ?_)
    refine wp_aload0 9 rfl dX3_sign_8 ?_
    refine wp_iconst (nI 1) 10 rfl dX3_sign_9 (by decide) ?_
    refine wp_Ve1 13 rfl dX3_sign_10 kX3_wrong lX3_48 (o4 hK) (nl rfl) (nl rfl) (s_pwrong hK hC hp) ?_
    refine wp_athrow dX3_sign_13 ?_
    exact wp_out rfl (o2 hK) ⟨rfl, M_f_J, rfl, M_f_t⟩
theorem s_pword (hK : kd ρ) (hP : cP I P) (hC : ctk I P) (hp : pst I (kt P) t w) (k : Nat) (hk : k < 100) : sm_M G xX3_word (d + 4) [.ref 73, .int (nI k)] I ρ (xN I ρ (kt P) (g_must (kt P) (20 + k) (.inr (t, w))) (fun v => v = none)) := by
  show sm_V G xX3_word (d + 4) 0 [.ref 73, .int (nI k)] [] I ρ _
  refine wp_aload0 1 rfl dX3_word_0 ?_
  refine wp_iload1 2 rfl dX3_word_1 ?_
  refine wp_Ve1 5 rfl dX3_word_2 kX3_isWord lX3_62 (o4 hK) (nl rfl) (nl rfl) (s_pisWord hK hP hC hp k hk) ?_
  by_cases h : (kt P t).1 = 20 + k
  · have eg : g_must (kt P) (20 + k) (.inr (t, w)) = g_pass (.inr (t, w)) := if_pos h
    rw [z_bt h, eg]
    refine wp_if_ne 8 14 rfl rfl dX3_word_5 (fun c5 => ?_) (fun c5 => absurd c5 (by decide))
    refine wp_aload0 15 rfl dX3_word_14 ?_
    refine wp_Vx0 18 rfl dX3_word_15 kX3_pass lX3_59 (o4 hK) (nl rfl) (nl rfl) (s_ppass hK hC hp (by rw [h]; unfold cGd; omega)) (fun v J1 ρ1 h1 => ?_) (fun b J1 ρ1 h1 => h1.out rfl hK pJ.rf (fun x e => e))
    obtain ⟨rfl, j1, t', w', e1, p1, rfl⟩ := h1.ok
    rw [e1]
    refine wp_vret dX3_word_18 rfl ?_
    exact ⟨rfl, j1, none, rfl, p1, rfl⟩
  · have eg : g_must (kt P) (20 + k) (.inr (t, w)) = .inl (1, t) := if_neg h
    rw [z_bf h, eg]
    refine wp_if_ne 8 14 rfl rfl dX3_word_5 (fun c5 => absurd (rfl) c5) (fun c5 => ?_)
    refine wp_aload0 9 rfl dX3_word_8 ?_
    refine wp_iconst (nI 1) 10 rfl dX3_word_9 (by decide) ?_
    refine wp_Ve1 13 rfl dX3_word_10 kX3_wrong lX3_48 (o4 hK) (nl rfl) (nl rfl) (s_pwrong hK hC hp) ?_
    refine wp_athrow dX3_word_13 ?_
    exact wp_out rfl (o2 hK) ⟨rfl, M_f_J, rfl, M_f_t⟩
theorem s_ptake (hK : kd ρ) (hC : ctk I P) (hp : pst I (kt P) t w) (s k : Nat) (hs : ∀ c, ctS c = s ↔ c = k) (h6 : s < 6) (hk : cGd k) : sm_M G xX3_take (d + 4) [.ref 73, .int (nI s)] I ρ (xN I ρ (kt P) (g_must (kt P) k (.inr (t, w))) (fun v => v = some (.int (nI t)))) := by
  have := ctS_lt (kt P t).1
  show sm_V G xX3_take (d + 4) 0 [.ref 73, .int (nI s)] [] I ρ _
  by_cases h3 : (kt P t).1 = 3
  · have eg : g_must (kt P) k (.inr (t, w)) = .inl (1, t) := if_neg (fun z => hk.2 (z.symm.trans h3))
    rw [eg]
    refine wp_aload0 1 rfl dX3_take_0 ?_
    refine wp_Vx0 4 rfl dX3_take_1 kX3_sort lX3_65 (o4 hK) (nl rfl) (nl rfl) (s_psort hK hC hp) (fun v J1 ρ1 h1 => ?_) (fun b J1 ρ1 h1 => h1.out rfl hK pJ.rf (fun x e => by rw [if_pos h3] at e; exact e))
    refine wp_iload1 5 rfl dX3_take_4 ?_
    obtain ⟨-, -, t', w', e1, -⟩ := h1.ok
    rw [if_pos h3] at e1
    cases e1
  · have hso := s_psort (G := G) (d := d) hK hC hp
    rw [if_neg h3] at hso
    refine wp_aload0 1 rfl dX3_take_0 ?_
    refine wp_Vx0 4 rfl dX3_take_1 kX3_sort lX3_65 (o4 hK) (nl rfl) (nl rfl) (hso) (fun v J1 ρ1 h1 => ?_) (fun b J1 ρ1 h1 => by obtain ⟨-, -, -, m, j, e, -⟩ := h1.ex; cases e)
    obtain ⟨rfl, j1, t', w', e1, p1, rfl⟩ := h1.ok
    cases e1
    by_cases h : (kt P t).1 = k
    · have eg : g_must (kt P) k (.inr (t, w)) = g_pass (.inr (t, w)) := if_pos h
      rw [eg]
      show sm_V G xX3_take (d + 4) 4 _ (.int (nI (ctS (kt P t).1)) :: _) J1 _ _
      rw [(hs _).mpr h]
      refine wp_iload1 5 rfl dX3_take_4 ?_
      refine wp_icmp_eq 8 14 rfl rfl dX3_take_5 (fun c5 => ?_) (fun c5 => absurd (rfl) c5)
      refine wp_aload0 15 rfl dX3_take_14 ?_
      refine wp_Vx0 18 rfl dX3_take_15 kX3_pass lX3_59 (o4 hK) (nl rfl) (nl rfl) (s_ppass hK (hC.P j1) p1 (by rw [h]; exact hk)) (fun v J2 ρ2 h2 => ?_) (fun b J2 ρ2 h2 => h2.out rfl hK j1 (fun x e => e))
      obtain ⟨rfl, j2, t', w', e2, p2, rfl⟩ := h2.ok
      rw [e2]
      obtain ⟨t0, e0, q0, n0⟩ := g_pass_inv e2
      cases e0
      subst q0
      have p3 := p2.2.1
      refine wp_aload0 19 rfl dX3_take_18 ?_
      refine wp_geti 22 rfl dX3_take_19 fX3_31_4 (o4 hK) ?_
      rw [p3]
      refine wp_iconst (nI 1) 23 rfl dX3_take_22 (by decide) ?_
      refine wp_isub 24 rfl dX3_take_23 ?_
      rw [pk_sub (by omega), Nat.add_sub_cancel]
      refine wp_iret dX3_take_24 rfl ?_
      exact ⟨rfl, j1.tr j2, _, rfl, p2, rfl⟩
    · have eg : g_must (kt P) k (.inr (t, w)) = .inl (1, t) := if_neg h
      rw [eg]
      show sm_V G xX3_take (d + 4) 4 _ (.int (nI (ctS (kt P t).1)) :: _) J1 _ _
      refine wp_iload1 5 rfl dX3_take_4 ?_
      refine wp_icmp_eq 8 14 rfl rfl dX3_take_5 (fun c5 => absurd c5 (fun z => h ((hs _).mp ((nI_eq (by omega) (by omega)).mp z)))) (fun c5 => ?_)
      refine wp_aload0 9 rfl dX3_take_8 ?_
      refine wp_iconst (nI 1) 10 rfl dX3_take_9 (by decide) ?_
      refine wp_Ve1 13 rfl dX3_take_10 kX3_wrong lX3_48 (o4 hK) (nl rfl) (nl rfl) (s_pwrong hK (hC.P j1) p1) ?_
      refine wp_athrow dX3_take_13 ?_
      exact wp_out rfl (o2 hK) ⟨rfl, j1.tr M_f_J, rfl, M_f_t⟩
theorem s_ptell (hK : kd ρ) {tk : tkf} (hp : pst I tk t w) (n j : Nat) (hn : 0 < n ∧ n ≤ 5) (hj : j ≤ 400) : sm_M G xX3_tell d [.ref 73, .int (nI n), .int (nI j)] I ρ (sm_Qv (fun I1 ρ1 => ρ1 = ρ ∧ pJ I I1 ∧ pst I1 tk t (g_tell w n j))) := by
  obtain ⟨⟨q1, q2, q3, q4⟩, p3, p5, p6⟩ := hp
  have keep : ¬ w.1 = 0 ∧ (w.2 < j ∨ j = w.2 ∧ w.1 ≤ n) → pst I tk t (g_tell w n j) := fun h => by
    have e : g_tell w n j = w := if_pos h
    rw [e]
    exact ⟨⟨q1, q2, q3, q4⟩, p3, p5, p6⟩
  have put : ¬ (¬ w.1 = 0 ∧ (w.2 < j ∨ j = w.2 ∧ w.1 ≤ n)) → sm_V G xX3_tell d 32 [.ref 73, .int (nI n), .int (nI j)] [] I ρ (sm_Qv (fun I1 ρ1 => ρ1 = ρ ∧ pJ I I1 ∧ pst I1 tk t (g_tell w n j))) := fun h => by
    have e : g_tell w n j = (n, j) := if_neg h
    rw [e]
    refine wp_aload0 33 rfl dX3_tell_32 ?_
    refine wp_iload1 34 rfl dX3_tell_33 ?_
    refine wp_puti 37 rfl dX3_tell_34 pX3_38_4 (o4 hK) (⟨rfl, rfl⟩) ?_
    refine wp_aload0 38 rfl dX3_tell_37 ?_
    refine wp_iload2 39 rfl dX3_tell_38 ?_
    refine wp_puti 42 rfl dX3_tell_39 pX3_41_4 (o4 hK) (⟨rfl, rfl⟩) ?_
    refine wp_vret dX3_tell_42 rfl ?_
    refine ⟨rfl, rfl, ⟨fun a ha => ?_, ?_⟩, ⟨q1, q2, hn.2, hj⟩, ?_, ?_, fun _ => ?_⟩
    · rw [sm_u_ne _ _ _ (by omega), sm_u_ne _ _ _ (by omega)]
    · rw [sm_u_eq, pk_un (by decide), sm_u_eq, pk_un (by decide)]
    · rw [sm_u_eq, pk_un (by decide), sm_u_eq, pk_un (by decide)]; exact p3
    · rw [sm_u_eq, pk_un (by decide), sm_u_eq, pk_us]
    · rw [sm_u_eq, pk_us]
  show sm_V G xX3_tell d 0 [.ref 73, .int (nI n), .int (nI j)] [] I ρ _
  refine wp_aload0 1 rfl dX3_tell_0 ?_
  refine wp_geti 4 rfl dX3_tell_1 fX3_38_4 (o4 hK) ?_
  rw [p5]
  by_cases h0 : w.1 = 0
  · refine wp_if_eq 7 32 rfl rfl dX3_tell_4 (fun c4 => ?_) (fun c4 => absurd (by rw [h0]; rfl) c4)
    exact put (fun z => z.1 h0)
  · have p6 := p6 h0
    refine wp_if_eq 7 32 rfl rfl dX3_tell_4 (fun c4 => absurd c4 (nI_ne0 (by omega) (by omega))) (fun c4 => ?_)
    refine wp_iload2 8 rfl dX3_tell_7 ?_
    refine wp_aload0 9 rfl dX3_tell_8 ?_
    refine wp_geti 12 rfl dX3_tell_9 fX3_41_4 (o4 hK) ?_
    rw [p6]
    by_cases h1 : w.2 < j
    · refine wp_icmp_gt 15 31 rfl rfl dX3_tell_12 (fun c12 => ?_) (fun c12 => absurd (nI_lt h1 (by omega)) c12)
      refine wp_vret dX3_tell_31 rfl ?_
      exact ⟨rfl, rfl, pJ.rf, keep ⟨h0, Or.inl h1⟩⟩
    · refine wp_icmp_gt 15 31 rfl rfl dX3_tell_12 (fun c12 => absurd c12 (nI_nlt (by omega) (by omega))) (fun c12 => ?_)
      refine wp_iload2 16 rfl dX3_tell_15 ?_
      refine wp_aload0 17 rfl dX3_tell_16 ?_
      refine wp_geti 20 rfl dX3_tell_17 fX3_41_4 (o4 hK) ?_
      rw [p6]
      by_cases h2 : j = w.2
      · refine wp_icmp_ne 23 32 rfl rfl dX3_tell_20 (fun c20 => absurd (by rw [h2]) c20) (fun c20 => ?_)
        refine wp_iload1 24 rfl dX3_tell_23 ?_
        refine wp_aload0 25 rfl dX3_tell_24 ?_
        refine wp_geti 28 rfl dX3_tell_25 fX3_38_4 (o4 hK) ?_
        rw [p5]
        by_cases h3 : w.1 ≤ n
        · refine wp_icmp_lt 31 32 rfl rfl dX3_tell_28 (fun c28 => absurd c28 (nI_nlt h3 (by omega))) (fun c28 => ?_)
          refine wp_vret dX3_tell_31 rfl ?_
          exact ⟨rfl, rfl, pJ.rf, keep ⟨h0, Or.inr ⟨h2, h3⟩⟩⟩
        · refine wp_icmp_lt 31 32 rfl rfl dX3_tell_28 (fun c28 => ?_) (fun c28 => absurd (nI_lt (by omega) (by omega)) c28)
          exact put (fun z => by omega)
      · refine wp_icmp_ne 23 32 rfl rfl dX3_tell_20 (fun c20 => ?_) (fun c20 => absurd c20 (fun z => h2 ((nI_eq (by omega) (by omega)).mp z)))
        exact put (fun z => by omega)
theorem s_pnumber (hK : kd ρ) (hP : cP I P) (hC : ctk I P) (hp : pst I (kt P) t w) (lo hi : Nat) (hlo : lo < 10000) (hhi : hi < 10000) : sm_M G xX3_number (d + 5) [.ref 73, .int (nI lo), .int (nI hi)] I ρ (xN I ρ (kt P) (g_num (kt P) lo hi (.inr (t, w))) (fun v => v = some (.int (nI (kt P t).2.2.1)))) := by
  have h4 := hp.1.1
  have hv := ((ky_tw (b := P.2) hP.2.1).1 t).2.2.1
  have hv : (kt P t).2.2.1 < 10000 := hv
  have gl : ∀ x, g_must (kt P) 2 (.inr (t, w)) = .inl x → g_num (kt P) lo hi (.inr (t, w)) = .inl x := fun x e => by
    by_cases h : (kt P t).1 = 2
    · have e1 : g_must (kt P) 2 (.inr (t, w)) = g_pass (.inr (t, w)) := if_pos h
      rw [e1] at e
      show (if (kt P t).1 = 2 then g_pass (.inr (t, if (kt P t).2.2.1 < lo ∨ hi < (kt P t).2.2.1 then g_tell w 5 t else w)) else .inl (1, t)) = _
      rw [if_pos h, ← e]
      by_cases h9 : t = 400
      · have e2 : ∀ w, g_pass (.inr (t, w)) = .inl (2, t) := fun w => if_pos h9
        rw [e2, e2]
      · have e2 : g_pass (.inr (t, w)) = .inr (t + 1, w) := if_neg h9
        rw [e2] at e
        cases e
    · have e1 : g_must (kt P) 2 (.inr (t, w)) = .inl (1, t) := if_neg h
      rw [e1] at e
      have e3 : g_num (kt P) lo hi (.inr (t, w)) = .inl (1, t) := if_neg h
      rw [e3]
      exact e
  show sm_V G xX3_number (d + 5) 0 [.ref 73, .int (nI lo), .int (nI hi), .retAddr 0, .retAddr 0] [] I ρ _
  refine wp_aload0 1 rfl dX3_number_0 ?_
  refine wp_iconst (nI 1) 2 rfl dX3_number_1 (by decide) ?_
  refine wp_Vx1 5 rfl dX3_number_2 kX3_take lX3_68 (o4 hK) (nl rfl) (nl rfl) (s_ptake hK hC hp 1 2 (fun c => ctS_1) (by decide) (by decide)) (fun v J1 ρ1 h1 => ?_) (fun b J1 ρ1 h1 => h1.out rfl hK pJ.rf gl)
  obtain ⟨rfl, j1, t', w', e1, p1, rfl⟩ := h1.ok
  obtain ⟨t0, e0, k2, q0, n0⟩ := g_must_inv e1
  cases e0
  subst q0
  have hP1 := hP.P j1
  have hC1 := hC.P j1
  obtain ⟨-, c2, c3, -, -⟩ := hC1 t h4 hp.1.2.1
  obtain ⟨i1, i2, i3, i4, i5⟩ := kt_int hP.2.1 k2
  rw [i1] at c2
  have ht := s_tnumber (G := G) (d := d + 4) hK hP1 (t := t) (by omega) c2 c3 i2 i3 i4
  rw [← i5] at ht
  have eg : g_num (kt P) lo hi (.inr (t, w)) = .inr (t + 1, if (kt P t).2.2.1 < lo ∨ hi < (kt P t).2.2.1 then g_tell w 5 t else w) := by
    show (if (kt P t).1 = 2 then g_pass (.inr (t, _)) else .inl (1, t)) = _
    rw [if_pos k2]
    exact if_neg n0
  rw [eg]
  show sm_V G xX3_number (d + 5) 5 _ (.int (nI t) :: _) J1 _ _
  refine wp_istore3 6 rfl dX3_number_5 (by decide) rfl ?_
  refine wp_aload0 7 rfl dX3_number_6 ?_
  refine wp_getr 10 rfl dX3_number_7 fX3_9_4 (o4 hK) (p4_0 hK) ?_
  refine wp_iload3 11 rfl dX3_number_10 ?_
  refine wp_Ve1 14 rfl dX3_number_11 kX2_number lX3_72 (o3 hK) (nl rfl) (nl rfl) (ht) ?_
  refine wp_istore4 16 rfl dX3_number_14 (by decide) rfl ?_
  have tl : ∀ x3 : Value, sm_V G xX3_number (d + 5) 28 [.ref 73, .int (nI lo), .int (nI hi), .int (nI t), .int (nI (kt P t).2.2.1)] [] J1 ρ1 (xN I ρ1 (kt P) (.inr (t + 1, g_tell w 5 t)) (fun v => v = some (.int (nI (kt P t).2.2.1)))) := fun x3 => by
    refine wp_aload0 29 rfl dX3_number_28 ?_
    refine wp_iconst (nI 5) 30 rfl dX3_number_29 (by decide) ?_
    refine wp_iload3 31 rfl dX3_number_30 ?_
    refine wp_Vv2 34 rfl dX3_number_31 kX3_tell lX3_75 (o4 hK) (nl rfl) (nl rfl) (s_ptell hK p1 5 t (by decide) h4) (fun J2 ρ2 h2 => ?_)
    obtain ⟨rfl, j2, p2⟩ := h2
    refine wp_iload4 36 rfl dX3_number_34 ?_
    refine wp_iret dX3_number_36 rfl ?_
    exact ⟨rfl, j1.tr j2, _, rfl, p2, rfl⟩
  by_cases hl : (kt P t).2.2.1 < lo
  · rw [if_pos (Or.inl hl)]
    refine wp_iload4 18 rfl dX3_number_16 ?_
    refine wp_iload1 19 rfl dX3_number_18 ?_
    refine wp_icmp_lt 22 28 rfl rfl dX3_number_19 (fun c19 => ?_) (fun c19 => absurd (nI_lt hl (by omega)) c19)
    exact tl .null
  · by_cases hh : hi < (kt P t).2.2.1
    · rw [if_pos (Or.inr hh)]
      refine wp_iload4 18 rfl dX3_number_16 ?_
      refine wp_iload1 19 rfl dX3_number_18 ?_
      refine wp_icmp_lt 22 28 rfl rfl dX3_number_19 (fun c19 => absurd c19 (nI_nlt (by omega) (by omega))) (fun c19 => ?_)
      refine wp_iload4 24 rfl dX3_number_22 ?_
      refine wp_iload2 25 rfl dX3_number_24 ?_
      refine wp_icmp_le 28 34 rfl rfl dX3_number_25 (fun c25 => absurd c25 (nI_ge hh (by omega))) (fun c25 => ?_)
      exact tl .null
    · rw [if_neg (by omega)]
      refine wp_iload4 18 rfl dX3_number_16 ?_
      refine wp_iload1 19 rfl dX3_number_18 ?_
      refine wp_icmp_lt 22 28 rfl rfl dX3_number_19 (fun c19 => absurd c19 (nI_nlt (by omega) (by omega))) (fun c19 => ?_)
      refine wp_iload4 24 rfl dX3_number_22 ?_
      refine wp_iload2 25 rfl dX3_number_24 ?_
      refine wp_icmp_le 28 34 rfl rfl dX3_number_25 (fun c25 => ?_) (fun c25 => absurd (nI_le (by omega) (by omega)) c25)
      refine wp_iload4 36 rfl dX3_number_34 ?_
      refine wp_iret dX3_number_36 rfl ?_
      exact ⟨rfl, j1, _, rfl, p1, rfl⟩
theorem s_pbegins (hK : kd ρ) (hC : ctk I P) (hp : pst I (kt P) t w) (hg : cGd (kt P t).1) (a b : Nat) (ha : a < 1000) (hb : b < 1000) : sm_M G xX3_begins (d + 4) [.ref 73, .int (nI a), .int (nI b)] I ρ (xN I ρ (kt P) (g_room a b (.inr (t, w))) (fun v => v = none)) := by
  show sm_V G xX3_begins (d + 4) 0 [.ref 73, .int (nI a), .int (nI b)] [] I ρ _
  by_cases h : a = b
  · have eg : g_room a b (.inr (t, w)) = .inl (2, t) := by
      unfold g_room
      rw [if_pos h]
      rfl
    rw [eg]
    refine wp_iload1 1 rfl dX3_begins_0 ?_
    refine wp_iload2 2 rfl dX3_begins_1 ?_
    refine wp_icmp_ne 5 11 rfl rfl dX3_begins_2 (fun c2 => absurd (by rw [h]) c2) (fun c2 => ?_)
    refine wp_aload0 6 rfl dX3_begins_5 ?_
    refine wp_iconst (nI 2) 7 rfl dX3_begins_6 (by decide) ?_
    refine wp_Ve1 10 rfl dX3_begins_7 kX3_wrong lX3_48 (o4 hK) (nl rfl) (nl rfl) (s_pwrong hK hC hp) ?_
    refine wp_athrow dX3_begins_10 ?_
    exact wp_out rfl (o2 hK) ⟨rfl, M_f_J, rfl, M_f_t⟩
  · have eg : g_room a b (.inr (t, w)) = g_pass (.inr (t, w)) := by
      unfold g_room
      rw [if_neg h]
    rw [eg]
    refine wp_iload1 1 rfl dX3_begins_0 ?_
    refine wp_iload2 2 rfl dX3_begins_1 ?_
    refine wp_icmp_ne 5 11 rfl rfl dX3_begins_2 (fun c2 => ?_) (fun c2 => absurd c2 (fun z => h ((nI_eq (by omega) (by omega)).mp z)))
    refine wp_aload0 12 rfl dX3_begins_11 ?_
    refine wp_Vx0 15 rfl dX3_begins_12 kX3_pass lX3_59 (o4 hK) (nl rfl) (nl rfl) (s_ppass hK hC hp hg) (fun v J1 ρ1 h1 => ?_) (fun b J1 ρ1 h1 => h1.out rfl hK pJ.rf (fun x e => e))
    obtain ⟨rfl, j1, t', w', e1, p1, rfl⟩ := h1.ok
    rw [e1]
    refine wp_vret dX3_begins_15 rfl ?_
    exact ⟨rfl, j1, none, rfl, p1, rfl⟩
end F7
