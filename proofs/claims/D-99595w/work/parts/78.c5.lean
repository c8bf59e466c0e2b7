/-! ===== laws of the component ===== -/
set_option maxRecDepth 100000
section C5
variable {G : sm_G} {d : Nat} {ρ : sm_R}
theorem p11 {I : sm_I} {lo : Nat} {L : lwt × ex} (h : cL I ρ lo L) : ρ.2.2.1 lo = (11, 0) := h.1.1
/-- a law's end: how much, nought if something was divided by nought -/
theorem lo_tail {b : Nat} (ht : td ρ b) (hb : 79 ≤ b ∧ b ≤ 882) {lo l2 k a : Nat} {x : ex} (J : sm_I) (hlo : ρ.2.2.1 lo = (11, 0)) (h2 : ρ.2.1 lo 2 = some l2) (hl2 : ρ.2.2.1 l2 = (108, 5)) (hk : k < 5) (ha : ρ.2.1 l2 k = some a) (hx : sT J ρ 401 a x) (hz : J (b + 14) 1 = nI 0 ∨ J (b + 14) 1 = nI 1) (v3 : Value) {Q : sm_O → sm_I → sm_R → Prop}
    (kk : ∀ I1, cf [b + 14] J I1 → Q (.inl (some (.int (if J (b + 14) 1 = nI 0 then z_max (nI 0) ((ex_ev (J (b + 15)) x).getD 0) else nI 0)))) I1 ρ) : sm_V G xX11_of ((d + 401) + 1) 44 [.ref lo, .ref (b + 14), .int (nI k), v3] [] J ρ Q := by
  refine wp_aload0 45 rfl dX11_of_44 ?_
  refine wp_getr 48 rfl dX11_of_45 fX11_20_11 (hlo) (h2) ?_
  refine wp_iload2 49 rfl dX11_of_48 ?_
  refine wp_aald (t := 8) 50 rfl dX11_of_49 (by decide) rfl rfl (hl2) (k) (rfl) (⟨by omega, by decide⟩) (ha) ?_
  refine wp_aload1 51 rfl dX11_of_50 ?_
  refine wp_of 54 rfl dX11_of_51 lX11_33_12 lX11_33_13 lX11_33_14 (nl rfl) hx (s_of ht hb 401 a x J hx) (fun y I1 ρ1 q1 => ?_)
  have eρ := q1.1.symm
  subst eρ
  obtain ⟨-, f1, g1, o, e1, s1, n1⟩ := q1
  have ev := e1.ev
  refine wp_istore3 55 rfl dX11_of_54 (by decide) rfl ?_
  refine wp_aload1 56 rfl dX11_of_55 ?_
  refine wp_geti 59 rfl dX11_of_56 fX11_23_7 (o7 ht) ?_
  cases o with
  | none =>
    rw [n1 rfl]
    have hk9 := kk I1 f1
    rw [ev] at hk9
    have e0 : (if J (b + 14) 1 = nI 0 then z_max (nI 0) ((none : Option Int32).getD 0) else nI 0) = nI 0 := by
      by_cases h : J (b + 14) 1 = nI 0
      · rw [if_pos h]
        decide
      · rw [if_neg h]
    rw [e0] at hk9
    refine wp_if_eq 62 66 rfl rfl dX11_of_59 (fun c59 => absurd c59 (by decide)) (fun c59 => ?_)
    refine wp_iconst (nI 0) 63 rfl dX11_of_62 (by decide) ?_
    refine wp_goto 71 rfl dX11_of_63 ?_
    refine wp_iret dX11_of_71 rfl ?_
    exact hk9
  | some v =>
    obtain ⟨ex, k1⟩ := s1 v rfl
    subst ex
    rw [k1]
    have hk9 := kk I1 f1
    rw [ev] at hk9
    rcases hz with hz | hz
    · rw [hz, if_pos rfl] at hk9
      rw [hz]
      refine wp_if_eq 62 66 rfl rfl dX11_of_59 (fun c59 => ?_) (fun c59 => absurd (rfl) c59)
      refine wp_iconst (nI 0) 67 rfl dX11_of_66 (by decide) ?_
      refine wp_iload3 68 rfl dX11_of_67 ?_
      refine wp_mmax 71 rfl dX11_of_68 q1236 (nl rfl) ?_
      refine wp_iret dX11_of_71 rfl ?_
      exact hk9
    · rw [hz, if_neg (by decide)] at hk9
      rw [hz]
      refine wp_if_eq 62 66 rfl rfl dX11_of_59 (fun c59 => absurd c59 (by decide)) (fun c59 => ?_)
      refine wp_iconst (nI 0) 63 rfl dX11_of_62 (by decide) ?_
      refine wp_goto 71 rfl dX11_of_63 ?_
      refine wp_iret dX11_of_71 rfl ?_
      exact hk9
theorem s_lawOf {b : Nat} (ht : td ρ b) (hb : 79 ≤ b ∧ b ≤ 882) {I : sm_I} {lo : Nat} {L : lwt × ex} (hL : cL I ρ lo L) : sm_M G xX11_of ((d + 401) + 1) [.ref lo, .ref (b + 14)] I ρ (sm_Qi (fun r I1 ρ1 => ρ1 = ρ ∧ cf [b + 14] I I1 ∧ r = z_max (nI 0) ((lw_ev (I (b + 15)) L.1 L.2).getD 0))) := by
  show sm_V G xX11_of ((d + 401) + 1) 0 [.ref lo, .ref (b + 14), .retAddr 0, .retAddr 0] [] I ρ _
  obtain ⟨ts, e⟩ := L
  have hlo := hL.1.1
  have htl := hL.1.2
  obtain ⟨-, ⟨hn, hn4⟩, l0, l1, l2, ⟨a0, a1, a2⟩, ⟨s0, s1, s2⟩, hts, ⟨ae, ae1, ae2⟩⟩ := hL
  have hn : I lo 3 = nI ts.length := hn
  have hn4 : ts.length ≤ 4 := hn4
  have hts : ∀ i t, ts[i]? = some t → (∃ a, ρ.2.1 l0 i = some a ∧ sT I ρ 401 a t.1) ∧ (∃ a, ρ.2.1 l1 i = some a ∧ sT I ρ 401 a t.2.1) ∧ ∃ a, ρ.2.1 l2 i = some a ∧ sT I ρ 401 a t.2.2 := hts
  have ae1 : ρ.2.1 l2 ts.length = some ae := ae1
  have ae2 : sT I ρ 401 ae e := ae2
  obtain ⟨R, hR⟩ : ∃ R, R = lw_ev (I (b + 15)) ts e := ⟨_, rfl⟩
  show sm_V G xX11_of ((d + 401) + 1) 0 [.ref lo, .ref (b + 14), .retAddr 0, .retAddr 0] [] I ρ (sm_Qi (fun r I1 ρ1 => ρ1 = ρ ∧ cf [b + 14] I I1 ∧ r = z_max (nI 0) ((lw_ev (I (b + 15)) ts e).getD 0)))
  rw [← hR]
  have tq : ∀ {J : sm_I}, cf [b + 14] I J → (∀ a, tA a → J a = I a) ∧ J (b + 15) = I (b + 15) := fun {J} h => ⟨h.T (fun a ha => by
    have : a = b + 14 := by simpa using ha
    omega), h _ (by simp)⟩
  refine wp_aload1 1 rfl dX11_of_0 ?_
  refine wp_iconst (nI 0) 2 rfl dX11_of_1 (by decide) ?_
  refine wp_puti 5 rfl dX11_of_2 pX11_23_7 (o7 ht) ⟨rfl, rfl⟩ ?_
  refine wp_iconst (nI 0) 6 rfl dX11_of_5 (by decide) ?_
  refine wp_istore2 7 rfl dX11_of_6 (by decide) rfl ?_
  refine sm_for (P := fun k => ∀ J : sm_I, cf [b + 14] I J → (J (b + 14) 1 = nI 0 ∧ lw_ev (I (b + 15)) (ts.drop k) e = R) ∨ (J (b + 14) 1 = nI 1 ∧ R = none) → sm_V G xX11_of ((d + 401) + 1) 7 [.ref lo, .ref (b + 14), .int (nI k), .retAddr 0] [] J ρ (sm_Qi (fun r I1 ρ1 => ρ1 = ρ ∧ cf [b + 14] I I1 ∧ r = z_max (nI 0) (R.getD 0)))) 0 ts.length (Nat.zero_le _) ?_ (fun k _ hk ih => ?_) _ (cf.u List.mem_cons_self) (Or.inl ⟨by rw [sm_u_eq, pk_us], by rw [List.drop_zero, hR]⟩)
  · intro J hf hz
    obtain ⟨t1, t2⟩ := tq hf
    refine wp_iload2 8 rfl dX11_of_7 ?_
    refine wp_aload0 9 rfl dX11_of_8 ?_
    refine wp_geti 12 rfl dX11_of_9 fX11_29_11 (hlo) ?_
    rw [t1 lo htl, hn]
    refine wp_icmp_ge 15 44 rfl rfl dX11_of_12 (fun c12 => ?_) (fun c12 => absurd (nI_le (Nat.le_refl _) (by omega)) c12)
    refine lo_tail ht hb J hlo a2 s2 (by omega) ae1 (ae2.kept t1) (hz.elim (fun h => Or.inl h.1) (fun h => Or.inr h.1)) _ (fun I1 f1 => ⟨_, rfl, rfl, hf.tr f1, ?_⟩)
    rcases hz with ⟨z1, z2⟩ | ⟨z1, z2⟩
    · rw [z1, if_pos rfl, t2, ← z2, List.drop_length]
      rfl
    · rw [z1, if_neg (by decide), z2]
      decide
  · intro J hf hz
    obtain ⟨t1, t2⟩ := tq hf
    obtain ⟨t, htk⟩ : ∃ t, ts[k]? = some t := ⟨_, List.getElem?_eq_getElem hk⟩
    obtain ⟨⟨b0, b1, b2⟩, ⟨c0, c1, c2⟩, ⟨w0, w1, w2⟩⟩ := hts k t htk
    have hdrop : ts.drop k = t :: ts.drop (k + 1) := by
      rw [List.drop_eq_getElem_cons hk, (List.getElem?_eq_some_iff.mp htk).2]
    refine wp_iload2 8 rfl dX11_of_7 ?_
    refine wp_aload0 9 rfl dX11_of_8 ?_
    refine wp_geti 12 rfl dX11_of_9 fX11_29_11 (hlo) ?_
    rw [t1 lo htl, hn]
    refine wp_icmp_ge 15 44 rfl rfl dX11_of_12 (fun c12 => absurd c12 (nI_ge hk (by omega))) (fun c12 => ?_)
    refine wp_aload0 16 rfl dX11_of_15 ?_
    refine wp_getr 19 rfl dX11_of_16 fX11_11_11 (hlo) (a0) ?_
    refine wp_iload2 20 rfl dX11_of_19 ?_
    refine wp_aald (t := 8) 21 rfl dX11_of_20 (by decide) rfl rfl (s0) (k) (rfl) (⟨by omega, by decide⟩) (b1) ?_
    refine wp_aload1 22 rfl dX11_of_21 ?_
    refine wp_of 25 rfl dX11_of_22 lX11_33_12 lX11_33_13 lX11_33_14 (nl rfl) (b2.kept t1) (s_of ht hb 401 b0 t.1 J (b2.kept t1)) (fun x J1 ρ1 q1 => ?_)
    have eρ := q1.1.symm
    subst eρ
    have hf1 := hf.tr q1.2.1
    obtain ⟨t3, t4⟩ := tq hf1
    refine wp_aload0 26 rfl dX11_of_25 ?_
    refine wp_getr 29 rfl dX11_of_26 fX11_17_11 (hlo) (a1) ?_
    refine wp_iload2 30 rfl dX11_of_29 ?_
    refine wp_aald (t := 8) 31 rfl dX11_of_30 (by decide) rfl rfl (s1) (k) (rfl) (⟨by omega, by decide⟩) (c1) ?_
    refine wp_aload1 32 rfl dX11_of_31 ?_
    refine wp_of 35 rfl dX11_of_32 lX11_33_12 lX11_33_13 lX11_33_14 (nl rfl) (c2.kept t3) (s_of ht hb 401 c0 t.2.1 J1 (c2.kept t3)) (fun y J2 ρ1 q2 => ?_)
    have eρ := q2.1.symm
    subst eρ
    have hf2 := hf1.tr q2.2.1
    obtain ⟨t5, t6⟩ := tq hf2
    rw [t2] at q1
    rw [t4] at q2
    obtain ⟨-, -, -, o1, e1, x1, n1⟩ := q1
    obtain ⟨-, -, -, o2, e2, x2, n2⟩ := q2
    have elw : lw_ev (I (b + 15)) (ts.drop k) e = match o1 with
        | none => none
        | some a => match o2 with
          | none => none
          | some c => if a < c then ex_ev (I (b + 15)) t.2.2 else lw_ev (I (b + 15)) (ts.drop (k + 1)) e := by
      rw [hdrop]
      obtain ⟨tu, tv, tw⟩ := t
      show (match ex_ev (I (b + 15)) tu with
        | none => none
        | some a => match ex_ev (I (b + 15)) tv with
          | none => none
          | some c => if a < c then ex_ev (I (b + 15)) tw else lw_ev (I (b + 15)) (ts.drop (k + 1)) e) = _
      rw [e1.ev, e2.ev]
      cases o1 with
      | none => rfl
      | some a =>
        cases o2 with
        | none => rfl
        | some c => rfl
    -- what holds behind both: the flag, and what is to come
    have key : (J2 (b + 14) 1 = nI 0 ∧ (x < y → ex_ev (I (b + 15)) t.2.2 = R) ∧ (¬ x < y → lw_ev (I (b + 15)) (ts.drop (k + 1)) e = R)) ∨ (J2 (b + 14) 1 = nI 1 ∧ R = none) := by
      rcases hz with ⟨z1, z2⟩ | ⟨z1, z2⟩
      · rw [elw] at z2
        cases o1 with
        | none =>
          right
          refine ⟨?_, z2.symm⟩
          cases o2 with
          | none => exact n2 rfl
          | some c => exact (x2 c rfl).2.trans (n1 rfl)
        | some a =>
          cases o2 with
          | none => exact Or.inr ⟨n2 rfl, z2.symm⟩
          | some c =>
            left
            obtain ⟨ex, k1⟩ := x1 a rfl
            obtain ⟨ey, k2⟩ := x2 c rfl
            subst ex
            subst ey
            refine ⟨(k2.trans k1).trans z1, fun h => ?_, fun h => ?_⟩
            · rw [← z2]
              exact (if_pos h).symm
            · rw [← z2]
              exact (if_neg h).symm
      · right
        refine ⟨?_, z2⟩
        have k1 : J1 (b + 14) 1 = nI 1 := by
          cases o1 with
          | none => exact n1 rfl
          | some a => exact (x1 a rfl).2.trans z1
        cases o2 with
        | none => exact n2 rfl
        | some c => exact (x2 c rfl).2.trans k1
    refine wp_icmp_lt 38 44 rfl rfl dX11_of_35 (fun c35 => ?_) (fun c35 => ?_)
    · refine lo_tail ht hb J2 hlo a2 s2 (by omega) w1 (w2.kept t5) (key.elim (fun h => Or.inl h.1) (fun h => Or.inr h.1)) _ (fun I1 f1 => ⟨_, rfl, rfl, hf2.tr f1, ?_⟩)
      rcases key with ⟨z1, z2, z3⟩ | ⟨z1, z2⟩
      · rw [z1, if_pos rfl, t6, z2 c35]
      · rw [z1, if_neg (by decide), z2]
        decide
    · refine wp_iincN2 41 rfl dX11_of_38 (by decide) rfl ?_
      refine wp_goto 7 rfl dX11_of_41 ?_
      refine ih J2 hf2 ?_
      rcases key with ⟨z1, z2, z3⟩ | h
      · exact Or.inl ⟨z1, z3 c35⟩
      · exact Or.inr h
end C5
