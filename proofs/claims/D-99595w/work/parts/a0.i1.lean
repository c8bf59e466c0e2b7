/-! ===== the component: read ===== -/
set_option maxRecDepth 100000
theorem rQ.ex {I I1 : sm_I} {ρ ρ1 : sm_R} {P : Nat × (Nat → Int32)} {b : Nat} (h : rQ I ρ P (.inr b) I1 ρ1) : b = 65 ∧ ∃ m j, pft I1 (kt P) m j ∧ ∀ S, y_P S = P → y_read S = (nI m, y_rest S (nI (kt P j).2.1)) := by
  obtain ⟨-, h⟩ := h
  cases hg : g_read P with
  | mk r B =>
    rw [hg] at h
    match r, h, hg with
    | .inl (m, j), h, hg =>
      obtain ⟨h1, h2⟩ := h
      cases h1
      refine ⟨rfl, m, j, h2, fun S e => ?_⟩
      unfold y_read
      rw [e, hg]
    | .inr (t, w), h, hg =>
      have h : if w.1 = 0 then _ else _ := h
      by_cases hw : w.1 = 0
      · rw [if_pos hw] at h
        exact nomatch h.1
      · rw [if_neg hw] at h
        obtain ⟨h1, h2⟩ := h
        cases h1
        refine ⟨rfl, w.1, w.2, h2, fun S e => ?_⟩
        unfold y_read
        rw [e, hg]
        exact if_neg hw
theorem rQ.ok {I I1 : sm_I} {ρ ρ1 : sm_R} {P : Nat × (Nat → Int32)} {v : Option Value} (h : rQ I ρ P (.inl v) I1 ρ1) : v = some (.ref (ρ.2.2.2.1 + 64)) ∧ ∃ T, (∃ q nd nc, bT I1 ρ1 (ρ.2.2.2.1 + 64) q nd nc T) ∧ tok T ∧ ∀ S, y_P S = P → y_read S = (nI 0, (T, r_beg T, [], [], (fun _ => none), (0, P.2), -1)) := by
  obtain ⟨-, h⟩ := h
  cases hg : g_read P with
  | mk r B =>
    rw [hg] at h
    match r, h, hg with
    | .inl (m, j), h, hg => exact nomatch h.1
    | .inr (t, w), h, hg =>
      have h : if w.1 = 0 then _ else _ := h
      by_cases hw : w.1 = 0
      · rw [if_pos hw] at h
        obtain ⟨h1, h2, h3⟩ := h
        cases h1
        refine ⟨rfl, B.1, h2, h3, fun S e => ?_⟩
        unfold y_read
        rw [e, hg]
        exact if_pos hw
      · rw [if_neg hw] at h
        exact nomatch h.1
abbrev zA : Nat → Prop := fun x => x < 898
abbrev zB : Nat → Prop := fun x => x = 64 ∨ x = 73
/-- how the component's read ends -/
def zR (I : sm_I) (ρ : sm_R) (S : yS) : sm_O → sm_I → sm_R → Prop := sm_Qi (fun r I1 ρ1 => (∃ tp q, cZ I1 ρ1 tp q (y_read S).2) ∧ r = (y_read S).1 ∧ gF zA zB I ρ I1 ρ1 ∧ ρ1.2.2.2.1 ≤ ρ.2.2.2.1 + 4829 ∧ ρ1.2.2.2.2 ≤ ρ.2.2.2.2 + 24139)
section I1
variable {G : sm_G} {d : Nat} {I : sm_I} {ρ : sm_R} {tp : Nat} {q : tq4} {S : yS}
theorem z_rd (hZ : cZ I ρ tp q S) (hi : sm_In ρ) (hn : 879 ≤ ρ.2.2.2.1) : sm_M G xX0_read (d + 30) [.ref 64] I ρ (zR I ρ S) := by
  obtain ⟨hA, hH, hD, hC, hTp, hpl⟩ := hZ
  obtain ⟨hK, hP, hT, hk, hw, hR⟩ := hA
  have hP0 : cP (sm_u I 64 4 (-1)) (y_P S) := ⟨by rw [sm_u_ne _ _ _ (by decide)]; exact hTp.1, hTp.2.1, by rw [sm_u_ne _ _ _ (by decide)]; exact hTp.2.2⟩
  have f0 : gF zA zB I ρ (sm_u I 64 4 (-1)) ρ := (gF.u (B := zB)).wk (fun x _ z => by show x < 898; omega) (fun _ _ z => z)
  have u64 : ∀ k, ¬ k = 4 → sm_u I 64 4 (-1) 64 k = I 64 k := fun k hk => by rw [sm_u_eq, pk_un hk]
  have u4 : sm_u I 64 4 (-1) 64 4 = -1 := by rw [sm_u_eq, pk_us]
  have un : ∀ a, ¬ a = 64 → sm_u I 64 4 (-1) a = I a := fun a ha => sm_u_ne _ _ _ ha
  show sm_V G xX0_read (d + 30) 0 [.ref 64, .retAddr 0, .retAddr 0] [] I ρ _
  refine wp_iconst (nI 0) 1 rfl dX0_read_0 (by decide) ?_
  refine wp_istore1 2 rfl dX0_read_1 (by decide) rfl ?_
  refine wp_aload0 3 rfl dX0_read_2 ?_
  refine wp_iconst (-1) 4 rfl dX0_read_3 (by decide) ?_
  refine wp_puti 7 rfl dX0_read_4 pX0_55_1 (o1 hK) (⟨rfl, rfl⟩) ?_
  refine wp_aload0 8 rfl dX0_read_7 ?_
  refine wp_aload0 9 rfl dX0_read_8 ?_
  refine wp_getr 12 rfl dX0_read_9 fX0_44_1 (o1 hK) (p1_2 hK) ?_
  generalize sm_u I 64 4 (-1) = J0 at *
  have nl0 : ∀ k, k ≤ 878 → k + 64 < ρ.2.2.2.1 + 64 := fun k hk => by omega
  refine wp_Vx0 15 rfl dX0_read_12 kX3_read lX0_132 (o4 hK) (nl rfl) (nl rfl) (s_pread hK hn hP0) (fun v J1 ρ1 z => ?_) (fun b J1 ρ1 z => ?_)
  rotate_left
  · obtain ⟨rfl, m, j, ⟨e6, e7⟩, hy⟩ := z.ex
    obtain ⟨⟨f1, i66, p73, b1, b2⟩, -⟩ := z
    have hy := hy S rfl
    have hK1 : kd ρ1 := hK.g (fun a ha => f1.eS (by omega)) (fun a _ ha h => f1.eP (by omega) h) (fun k hk => p73 k hk) (fun k _ => by rw [f1.eP (by omega) (by decide)])
    refine wp_catch rfl ⟨by decide, by decide⟩ (by decide) (o2 hK1) q161 q163 ?_
    refine wp_astore2 63 rfl dX0_read_62 (by decide) rfl ?_
    refine wp_aload2 64 rfl dX0_read_63 ?_
    refine wp_geti 67 rfl dX0_read_64 fX0_142_2 (o2 hK1) ?_
    rw [e6]
    refine wp_istore1 68 rfl dX0_read_67 (by decide) rfl ?_
    refine wp_aload0 69 rfl dX0_read_68 ?_
    refine wp_aload2 70 rfl dX0_read_69 ?_
    refine wp_geti 73 rfl dX0_read_70 fX0_145_2 (o2 hK1) ?_
    rw [e7]
    refine wp_puti 76 rfl dX0_read_73 pX0_55_1 (o1 hK1) (⟨rfl, rfl⟩) ?_
    refine wp_aload0 77 rfl dX0_read_76 ?_
    refine wp_getr 80 rfl dX0_read_77 fX0_35_1 (o1 hK1) (p1_1 hK1) ?_
    refine wp_iconst (nI 0) 81 rfl dX0_read_80 (by decide) ?_
    refine wp_puti 84 rfl dX0_read_81 pX0_121_3 (o3 hK1) (⟨rfl, rfl⟩) ?_
    refine wp_iload1 85 rfl dX0_read_84 ?_
    refine wp_iret dX0_read_85 rfl ?_
    obtain ⟨J, hJ⟩ : ∃ J, J = sm_u (sm_u J1 64 4 (nI (kt (y_P S) j).2.1)) 66 2 (nI 0) := ⟨_, rfl⟩
    have jn : ∀ a, ¬ a = 64 → ¬ a = 66 → J a = J1 a := fun a h1 h2 => by rw [hJ, sm_u_ne _ _ _ h2, sm_u_ne _ _ _ h1]
    have j66 : J 66 2 = nI 0 := by rw [hJ, sm_u_eq, pk_us]
    have j64 : ∀ k, ¬ k = 4 → J 64 k = J1 64 k := fun k hk => by rw [hJ, sm_u_ne _ _ _ (by decide), sm_u_eq, pk_un hk]
    have j4 : J 64 4 = nI (kt (y_P S) j).2.1 := by rw [hJ, sm_u_ne _ _ _ (by decide), sm_u_eq, pk_us]
    show zR I ρ S (.inl (some (.int (nI m)))) (sm_u (sm_u J1 64 4 (nI (kt (y_P S) j).2.1)) 66 2 (nI 0)) ρ1
    rw [← hJ]
    clear hJ
    have e1 : ∀ a, 74 ≤ a → a < 943 → J a = I a := fun a h1 h2 => by
      rw [jn a (by omega) (by omega), f1.eI (by omega) (by omega), un a (by omega)]
    have e64 : ∀ k, ¬ k = 4 → J 64 k = I 64 k := fun k hk => by rw [j64 k hk, f1.eI (by omega) (by omega), u64 k hk]
    have F : gF (fun x => x < 74) rB I ρ J ρ1 := ⟨f1.1, f1.2.1, fun a ha hn => by
      have hn : ¬ a < 74 := hn
      rw [jn a (by omega) (by omega), f1.eI ha (by omega), un a (by omega)], f1.2.2.2⟩
    have hT1 : cT J ρ1 tp q (y_T S) := hT.gr (F.gT hi (fun a ha => by unfold tA at ha; omega) (fun a h => Or.inr h) (o1 hK) (o4 hK))
    refine ⟨_, rfl, ⟨tp, q, ?_⟩, by rw [hy], F.wk (fun x _ z => by show x < 898; have z : x < 74 := z; omega) (fun _ _ z => Or.inr z), b1, b2⟩
    rw [hy]
    refine ⟨⟨hK1, (by rw [f1.eP (by omega) (by decide)]; exact hP), hT1, hk, hw, hR.eq (fun k hk => e1 _ (by omega) (by omega))⟩, hH.kept (e64 5 (by decide)) (e64 6 (by decide)) (fun a h1 h2 => e1 a (by omega) (by omega)), ?_, hC.kept (fun a ha => e1 a (by omega) (by omega)), ⟨j66, Nat.zero_le _, fun j hj => absurd hj (Nat.not_lt_zero _)⟩, j4⟩
    refine ⟨(e64 17 (by decide)).trans hD.1, hD.2.1, fun i dd p v hi => ?_⟩
    rw [e1 254 (by decide) (by decide), e1 255 (by decide) (by decide), e1 256 (by decide) (by decide)]
    exact hD.2.2 i dd p v hi
  · obtain ⟨rfl, T, ⟨qq, nd, nc, hbT⟩, htk, hy⟩ := z.ok
    obtain ⟨⟨f1, i66, p73, b1, b2⟩, -⟩ := z
    have hy := hy S rfl
    have hK1 : kd ρ1 := hK.g (fun a ha => f1.eS (by omega)) (fun a _ ha h => f1.eP (by omega) h) (fun k hk => p73 k hk) (fun k _ => by rw [f1.eP (by omega) (by decide)])
    obtain ⟨lo, hlo⟩ : ∃ lo, ρ.2.2.2.1 + 64 = lo := ⟨_, rfl⟩
    rw [hlo] at hbT ⊢
    obtain ⟨ρ2, hρ2⟩ : ∃ ρ2 : sm_R, ρ2 = (ρ1.1, sm_up ρ1.2.1 64 3 (some lo), ρ1.2.2) := ⟨_, rfl⟩
    have pk : ∀ a, ¬ a = 64 → ρ2.2.1 a = ρ1.2.1 a := fun a ha => by rw [hρ2]; exact sm_up_ne _ _ _ ha
    have p64 : ρ2.2.1 64 = va_up (ρ1.2.1 64) 3 (some lo) := by rw [hρ2]; exact (sm_up_eq ρ1.2.1 64 3 (some lo) :)
    have sk : ρ2.2.2 = ρ1.2.2 := by rw [hρ2]
    have lk1 : ρ2.1 = ρ1.1 := by rw [hρ2]
    have hK2 : kd ρ2 := hK1.g (fun a _ => by rw [sk]) (fun a h _ _ => pk a (by omega)) (fun k hk => by rw [pk 73 (by decide)]) (fun k hk => by rw [p64]; exact if_neg hk)
    have hl2 : ρ2.2.1 64 3 = some lo := by rw [p64]; exact if_pos rfl
    have gT2 : gT J1 ρ1 J1 ρ2 := fun a ha => ⟨by rw [sk], fun z1 _ => pk a (fun e => z1 (by rw [e, o1 hK1])), fun _ => rfl⟩
    obtain ⟨q2, hT2⟩ : ∃ q2, cT J1 ρ2 lo q2 T := ⟨_, hbT.cT.gr gT2⟩
    show sm_V G xX0_read (d + 30) 15 [.ref 64, .int (nI 0), .retAddr 0] [.ref lo, .ref 64] J1 ρ1 _
    refine wp_putr 18 rfl dX0_read_15 pX0_51_1 (o1 hK1) (fun q => ⟨rfl, rfl⟩) ?_
    show sm_V G xX0_read (d + 30) 18 [.ref 64, .int (nI 0), .retAddr 0] [] J1 (ρ1.1, sm_up ρ1.2.1 64 3 (some lo), ρ1.2.2) _
    rw [← hρ2]
    clear hρ2
    refine wp_aload0 19 rfl dX0_read_18 ?_
    refine wp_getr 22 rfl dX0_read_19 fX0_62_1 (o1 hK2) (p1_7 hK2) ?_
    refine wp_aload0 23 rfl dX0_read_22 ?_
    refine wp_getr 26 rfl dX0_read_23 fX0_51_1 (o1 hK2) (hl2) ?_
    refine wp_Vv1 29 rfl dX0_read_26 kX5_begins lX0_117 (o6 (k_town hK2)) (nl rfl) (nl rfl) (s_cbegins (k_town hK2) (by decide) hT2 htk) (fun J2 ρx ⟨e0, f2, hR2⟩ => ?_)
    have e0 := e0.symm
    subst e0
    have c2 : ∀ a, a < 79 ∨ 95 ≤ a → J2 a = J1 a := fun a ha => f2 a (fun z => by
      have := tWs_mem.mp z
      omega)
    refine wp_aload0 30 rfl dX0_read_29 ?_
    refine wp_iconst (nI 0) 31 rfl dX0_read_30 (by decide) ?_
    refine wp_puti 34 rfl dX0_read_31 pX0_136_1 (o1 hK2) (⟨rfl, rfl⟩) ?_
    refine wp_aload0 35 rfl dX0_read_34 ?_
    refine wp_iconst (nI 0) 36 rfl dX0_read_35 (by decide) ?_
    refine wp_puti 39 rfl dX0_read_36 pX0_139_1 (o1 hK2) (⟨rfl, rfl⟩) ?_
    refine wp_iconst (nI 0) 40 rfl dX0_read_39 (by decide) ?_
    refine wp_istore2 41 rfl dX0_read_40 (by decide) rfl ?_
    obtain ⟨J3, hJ3⟩ : ∃ J3, J3 = sm_u (sm_u J2 64 5 (nI 0)) 64 17 (nI 0) := ⟨_, rfl⟩
    show sm_V G xX0_read (d + 30) 41 [.ref 64, .int (nI 0), .int (nI 0)] [] (sm_u (sm_u J2 64 5 (nI 0)) 64 17 (nI 0)) ρ2 _
    rw [← hJ3]
    have jn : ∀ a, ¬ a = 64 → J3 a = J2 a := fun a h1 => by rw [hJ3, sm_u_ne _ _ _ h1, sm_u_ne _ _ _ h1]
    have j64 : ∀ k, ¬ k = 5 → ¬ k = 17 → J3 64 k = J2 64 k := fun k h1 h2 => by rw [hJ3, sm_u_eq, pk_un h2, sm_u_eq, pk_un h1]
    have j5 : J3 64 5 = nI 0 := by rw [hJ3, sm_u_eq, pk_un (by decide), sm_u_eq, pk_us]
    have j17 : J3 64 17 = nI 0 := by rw [hJ3, sm_u_eq, pk_us]
    clear hJ3
    refine sm_for (P := fun p => ∀ J : sm_I, (∀ a, ¬ a = 244 → J a = J3 a) → (∀ k, k < p → J 244 k = nI 0) → sm_V G xX0_read (d + 30) 41 [.ref 64, .int (nI 0), .int (nI p)] [] J ρ2 (zR I ρ S)) 0 3 (by decide) ?_ (fun p _ hp ih => ?_) J3 (fun _ _ => rfl) (fun k h => absurd h (Nat.not_lt_zero _))
    · intro J f3 z3
      refine wp_iload2 42 rfl dX0_read_41 ?_
      refine wp_iconst (nI 3) 43 rfl dX0_read_42 (by decide) ?_
      refine wp_icmp_ge 46 59 rfl rfl dX0_read_43 (fun c43 => ?_) (fun c43 => absurd (by decide) c43)
      refine wp_goto 76 rfl dX0_read_59 ?_
      refine wp_aload0 77 rfl dX0_read_76 ?_
      refine wp_getr 80 rfl dX0_read_77 fX0_35_1 (o1 hK2) (p1_1 hK2) ?_
      refine wp_iconst (nI 0) 81 rfl dX0_read_80 (by decide) ?_
      refine wp_puti 84 rfl dX0_read_81 pX0_121_3 (o3 hK2) (⟨rfl, rfl⟩) ?_
      refine wp_iload1 85 rfl dX0_read_84 ?_
      refine wp_iret dX0_read_85 rfl ?_
      obtain ⟨K, hJ⟩ : ∃ K, K = sm_u J 66 2 (nI 0) := ⟨_, rfl⟩
      show zR I ρ S (.inl (some (.int (nI 0)))) (sm_u J 66 2 (nI 0)) ρ2
      rw [← hJ]
      have kn : ∀ a, ¬ a = 66 → K a = J a := fun a h1 => by rw [hJ, sm_u_ne _ _ _ h1]
      have k66 : K 66 2 = nI 0 := by rw [hJ, sm_u_eq, pk_us]
      clear hJ
      have eI : ∀ a, a < ρ.2.2.2.1 + 64 → 898 ≤ a → K a = I a := fun a h1 h2 => by
        rw [kn a (by omega), f3 a (by omega), jn a (by omega), c2 a (by omega), f1.eI h1 (by omega), un a (by omega)]
      have eT : ∀ a, tA a → K a = J1 a := fun a h => by
        unfold tA at h
        rw [kn a (by omega), f3 a (by omega), jn a (by omega), c2 a (by omega)]
      have e64 : ∀ k, ¬ k = 4 → ¬ k = 5 → ¬ k = 17 → K 64 k = I 64 k := fun k h4 h5 h17 => by
        rw [kn 64 (by decide), f3 64 (by decide), j64 k h5 h17, c2 64 (by decide), f1.eI (by omega) (by omega), u64 k h4]
      have v4 : K 64 4 = -1 := by
        rw [kn 64 (by decide), f3 64 (by decide), j64 4 (by decide) (by decide), c2 64 (by decide), f1.eI (by omega) (by omega)]
        exact u4
      have v5 : K 64 5 = nI 0 := by
        rw [kn 64 (by decide), f3 64 (by decide)]
        exact j5
      have v17 : K 64 17 = nI 0 := by
        rw [kn 64 (by decide), f3 64 (by decide)]
        exact j17
      refine ⟨_, rfl, ⟨lo, q2, ?_⟩, by rw [hy], ⟨⟨by rw [sk]; exact f1.1.1, by rw [sk]; exact f1.1.2.1, by rw [sk]; exact f1.1.2.2⟩, fun a ha => ⟨by rw [sk]; exact (f1.2.1 a ha).1, by rw [lk1]; exact (f1.2.1 a ha).2⟩, fun a ha h => eI a ha (by have h : ¬ a < 898 := h; omega), fun a ha h => ?_⟩, by rw [sk]; exact b1, by rw [sk]; exact b2⟩
      · rw [hy]
        refine ⟨⟨hK2, hl2, hT2.kept eT, htk, wok_beg htk, hR2.eq (fun k hk => ?_)⟩, ⟨v5, Nat.zero_le _, ?_⟩, ⟨v17, Nat.zero_le _, fun i dd p v hi => by cases hi⟩, fun s hs => ⟨fun _ => ?_, fun r hr => by cases hr⟩, ⟨k66, Nat.zero_le _, fun j hj => absurd hj (Nat.not_lt_zero _)⟩, v4⟩
        · rw [kn _ (by omega), f3 _ (by omega), jn _ (by omega)]
        · obtain ⟨-, -, u, u1, u2, -⟩ := hH
          exact ⟨u, u1, (e64 6 (by decide) (by decide) (by decide)).trans u2, fun i r hi => by cases hi⟩
        · rw [kn 244 (by decide)]
          exact z3 s hs
      · have h : ¬ (a = 64 ∨ a = 73) := h
        rw [pk a (by omega)]
        exact f1.eP ha (by show ¬ a = 73; omega)
    · intro J f3 z3
      refine wp_iload2 42 rfl dX0_read_41 ?_
      refine wp_iconst (nI 3) 43 rfl dX0_read_42 (by decide) ?_
      refine wp_icmp_ge 46 59 rfl rfl dX0_read_43 (fun c43 => absurd c43 (nI_ge hp (by decide))) (fun c43 => ?_)
      refine wp_aload0 47 rfl dX0_read_46 ?_
      refine wp_getr 50 rfl dX0_read_47 fX0_92_1 (o1 hK2) (p1_14 hK2) ?_
      refine wp_iload2 51 rfl dX0_read_50 ?_
      refine wp_iconst (nI 0) 52 rfl dX0_read_51 (by decide) ?_
      refine wp_zast 53 rfl dX0_read_52 (s1_14 hK2) (p) (by first | rfl | simp only [pk_mul, nI_add]) (⟨by omega, by decide⟩) ?_
      refine wp_iincN2 56 rfl dX0_read_53 (by decide) rfl ?_
      refine wp_goto 41 rfl dX0_read_56 ?_
      refine ih _ (fun a ha => by rw [sm_u_ne _ _ _ ha]; exact f3 a ha) (fun k hk => ?_)
      by_cases e : k = p
      · rw [e, sm_u_eq, pk_us]
        rfl
      · rw [sm_u_off e]
        exact z3 k (by omega)
end I1
