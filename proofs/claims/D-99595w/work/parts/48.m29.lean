/-! ===== reading: emit, comesOut ===== -/
set_option maxRecDepth 100000
def M_em (I : sm_I) (c : Nat) (k v : Int32) : sm_I := sm_u (sm_u (sm_u I m_code c k) m_codeInt c v) mM 43 (nI (c + 1))
/-- the code from c0 on is e, and there is an end at c1 -/
def cdR (I : sm_I) (c0 c1 : Nat) (e : ex) : Prop := I mM 43 = nI (c0 + e.length) ∧ ex_at I c0 e ∧ c0 + e.length ≤ c1 ∧ c1 ≤ 840
/-- what emitting may change -/
def emF (c0 c1 : Nat) (I J : sm_I) : Prop := mf [m_code, m_codeInt, m_waits] [43, 47] I J ∧ ∀ j, (j < c0 ∨ c1 ≤ j) → J m_code j = I m_code j ∧ J m_codeInt j = I m_codeInt j
theorem emF.rf {c0 c1 : Nat} {I : sm_I} : emF c0 c1 I I := ⟨mf.rf, fun _ _ => ⟨rfl, rfl⟩⟩
theorem emF.tr {c0 c1 : Nat} {I J K : sm_I} (h : emF c0 c1 I J) (h2 : emF c0 c1 J K) : emF c0 c1 I K := ⟨h.1.tr h2.1, fun j hj => ⟨(h2.2 j hj).1.trans (h.2 j hj).1, (h2.2 j hj).2.trans (h.2 j hj).2⟩⟩
theorem M_em_c {I : sm_I} {c : Nat} {k v : Int32} : M_em I c k v m_code = upd (I m_code) c k := rfl
theorem M_em_i {I : sm_I} {c : Nat} {k v : Int32} : M_em I c k v m_codeInt = upd (I m_codeInt) c v := rfl
theorem M_em_f {I : sm_I} {c c0 c1 : Nat} {k v : Int32} (h0 : c0 ≤ c) (h1 : c < c1) : emF c0 c1 I (M_em I c k v) := by
  refine ⟨((mf.u (by decide) (by decide)).tr (mf.u (by decide) (by decide))).tr (mf.uM (by decide)), fun j hj => ?_⟩
  rw [M_em_c, M_em_i, pk_un (by omega), pk_un (by omega)]
  exact ⟨rfl, rfl⟩
theorem cdR.add {I : sm_I} {c0 c1 : Nat} {e : ex} (h : cdR I c0 c1 e) (hl : c0 + e.length < c1) (k : Nat) (v : Int32) : cdR (M_em I (c0 + e.length) (nI k) v) c0 c1 (e ++ [(k, v)]) := by
  obtain ⟨h1, h2, h3, h4⟩ := h
  refine ⟨?_, fun i k' v' hi => ?_, ?_, h4⟩
  · rw [List.length_append]
    show M_em I (c0 + e.length) (nI k) v mM 43 = nI (c0 + (e.length + 1))
    unfold M_em
    rw [sm_u_eq, pk_us]
    rfl
  · rw [M_em_c, M_em_i]
    by_cases hlt : i < e.length
    · rw [List.getElem?_append_left hlt] at hi
      rw [pk_un (by omega), pk_un (by omega)]
      exact h2 i k' v' hi
    · rw [List.getElem?_append_right (by omega)] at hi
      have hi0 : i = e.length := by
        have := (List.getElem?_eq_some_iff.mp hi).1
        simp only [List.length_cons, List.length_nil] at this
        omega
      rw [hi0, Nat.sub_self] at hi
      cases hi
      rw [hi0, pk_us, pk_us]
      exact ⟨rfl, rfl⟩
  · rw [List.length_append]
    show c0 + (e.length + 1) ≤ c1
    omega
/-- signs that wait, the last first -/
def wtR (I : sm_I) (s : List Nat) : Prop := I mM 47 = nI s.length ∧ s.length ≤ 60 ∧ ∀ i k, s[i]? = some k → k < 100 ∧ I m_waits (s.length - 1 - i) = nI k
def co_c (k : Nat) : Nat := if k = 8 then 2 else if k = 9 then 3 else if k = 10 then 4 else 5
def co_stop (b : Bool) (k : Nat) : Prop := k = 6 ∨ b = true ∧ (k = 8 ∨ k = 9)
theorem wtR.tl {I J : sm_I} {k : Nat} {s : List Nat} (h : wtR I (k :: s)) (h47 : J mM 47 = nI s.length) (hw : J m_waits = I m_waits) : wtR J s := by
  have hl : s.length + 1 ≤ 60 := h.2.1
  refine ⟨h47, by omega, fun i q hi => ?_⟩
  obtain ⟨a, b⟩ := h.2.2 (i + 1) q hi
  rw [hw]
  refine ⟨a, ?_⟩
  have hl2 : (k :: s).length - 1 - (i + 1) = s.length - 1 - i := by
    simp only [List.length_cons]
    omega
  rw [hl2] at b
  exact b
section M29
variable {G : sm_G} {d : Nat} {I : sm_I} {ρ : sm_R}
theorem s_emit (hm : md ρ) (c : Nat) (hc : I mM 43 = nI c) (h : c < 840) (k v : Int32) : sm_M G xX10_emit d [.ref mM, .int k, .int v] I ρ (sm_Qe none (M_em I c k v) ρ) := by
  show sm_V G xX10_emit d 0 [.ref mM, .int k, .int v] [] I ρ _
  refine wp_aload0 1 rfl dX10_emit_0 ?_
  refine wp_getr 4 rfl dX10_emit_1 fX10_104_10 (md_M hm) (mp_code hm) ?_
  refine wp_aload0 5 rfl dX10_emit_4 ?_
  refine wp_geti 8 rfl dX10_emit_5 fX10_245_10 (md_M hm) ?_
  refine wp_iload1 9 rfl dX10_emit_8 ?_
  refine wp_iast 10 rfl dX10_emit_9 (ms_code hm) (c) (hc) (⟨by omega, by decide⟩) ?_
  refine wp_aload0 11 rfl dX10_emit_10 ?_
  refine wp_getr 14 rfl dX10_emit_11 fX10_107_10 (md_M hm) (mp_codeInt hm) ?_
  refine wp_aload0 15 rfl dX10_emit_14 ?_
  refine wp_geti 18 rfl dX10_emit_15 fX10_245_10 (md_M hm) ?_
  refine wp_iload2 19 rfl dX10_emit_18 ?_
  refine wp_iast 20 rfl dX10_emit_19 (ms_codeInt hm) (c) (hc) (⟨by omega, by decide⟩) ?_
  refine wp_aload0 21 rfl dX10_emit_20 ?_
  refine wp_dup 22 rfl dX10_emit_21 rfl ?_
  refine wp_geti 25 rfl dX10_emit_22 fX10_245_10 (md_M hm) ?_
  refine wp_iconst (nI 1) 26 rfl dX10_emit_25 (by decide) ?_
  refine wp_iadd 27 rfl dX10_emit_26 ?_
  refine wp_puti 30 rfl dX10_emit_27 pX10_245_10 (md_M hm) ⟨rfl, rfl⟩ ?_
  refine wp_vret dX10_emit_30 rfl ?_
  have e : I mM 43 + nI 1 = nI (c + 1) := by rw [hc]; exact nI_add c 1
  unfold M_em
  rw [← e]
  exact ⟨rfl, rfl, rfl⟩
/-- signs p come out until the rest s begins with one that stops, or is empty -/
theorem s_comesOut (hm : md ρ) (b : Bool) (c0 c1 : Nat) (s : List Nat) (hs : ∀ k r, s = k :: r → co_stop b k) : ∀ (p : List Nat) (J : sm_I) (e : ex) (a : Value), (∀ k ∈ p, ¬ co_stop b k) → wtR J (p ++ s) → cdR J c0 c1 e → c0 + e.length + p.length ≤ c1 →
    sm_V G xX10_comesOut (d + 1) 0 [.ref mM, .int (if b = true then nI 1 else nI 0), a] [] J ρ (sm_Qv (fun I1 ρ1 => ρ1 = ρ ∧ emF c0 c1 J I1 ∧ wtR I1 s ∧ cdR I1 c0 c1 (e ++ p.map (fun k => (co_c k, nI 0))))) := by
  intro p
  induction p with
  | nil =>
    intro J e a _ hw hc hl
    have hw : wtR J s := hw
    rw [show e ++ ([] : List Nat).map (fun k => (co_c k, nI 0)) = e from List.append_nil e]
    cases s with
    | nil =>
      refine wp_aload0 1 rfl dX10_comesOut_0 ?_
      refine wp_geti 4 rfl dX10_comesOut_1 fX10_296_10 (md_M hm) ?_
      rw [hw.1]
      refine wp_if_le 7 91 rfl rfl dX10_comesOut_4 (fun c4 => ?_) (fun c4 => absurd (by decide) c4)
      refine wp_vret dX10_comesOut_91 rfl ?_
      exact ⟨rfl, rfl, emF.rf, hw, hc⟩
    | cons k r =>
      obtain ⟨k100, hk⟩ := hw.2.2 0 k rfl
      have hl60 : r.length + 1 ≤ 60 := hw.2.1
      have h47 : J mM 47 = nI (r.length + 1) := hw.1
      rw [show (k :: r).length - 1 - 0 = r.length by simp only [List.length_cons]; omega] at hk
      refine wp_aload0 1 rfl dX10_comesOut_0 ?_
      refine wp_geti 4 rfl dX10_comesOut_1 fX10_296_10 (md_M hm) ?_
      rw [h47]
      refine wp_if_le 7 91 rfl rfl dX10_comesOut_4 (fun c4 => absurd c4 (nI_nle (by omega) (by omega))) (fun c4 => ?_)
      refine wp_aload0 8 rfl dX10_comesOut_7 ?_
      refine wp_getr 11 rfl dX10_comesOut_8 fX10_110_10 (md_M hm) (mp_waits hm) ?_
      refine wp_aload0 12 rfl dX10_comesOut_11 ?_
      refine wp_geti 15 rfl dX10_comesOut_12 fX10_296_10 (md_M hm) ?_
      rw [h47]
      refine wp_iconst (nI 1) 16 rfl dX10_comesOut_15 (by decide) ?_
      refine wp_isub 17 rfl dX10_comesOut_16 ?_
      refine wp_iald 18 rfl dX10_comesOut_17 (ms_waits hm) (r.length) (by rw [pk_sub (by omega)]; rfl) (⟨by omega, by decide⟩) ?_
      rw [hk]
      by_cases h6 : k = 6
      · refine wp_istore2 19 rfl dX10_comesOut_18 (by decide) rfl ?_
        refine wp_iload2 20 rfl dX10_comesOut_19 ?_
        refine wp_bipush (nI 6) 22 rfl dX10_comesOut_20 (by decide) ?_
        refine wp_icmp_eq 25 41 rfl rfl dX10_comesOut_22 (fun c22 => ?_) (fun c22 => absurd (by rw [h6]) c22)
        refine wp_vret dX10_comesOut_41 rfl ?_
        exact ⟨rfl, rfl, emF.rf, hw, hc⟩
      · obtain ⟨hb, h89⟩ := (hs k r rfl).resolve_left h6
        rw [if_pos hb]
        by_cases h8 : k = 8
        · refine wp_istore2 19 rfl dX10_comesOut_18 (by decide) rfl ?_
          refine wp_iload2 20 rfl dX10_comesOut_19 ?_
          refine wp_bipush (nI 6) 22 rfl dX10_comesOut_20 (by decide) ?_
          refine wp_icmp_eq 25 41 rfl rfl dX10_comesOut_22 (fun c22 => absurd c22 (fun h => h6 ((nI_eq (by omega) (by decide)).mp h))) (fun c22 => ?_)
          refine wp_iload1 26 rfl dX10_comesOut_25 ?_
          refine wp_if_eq 29 42 rfl rfl dX10_comesOut_26 (fun c26 => absurd c26 (by decide)) (fun c26 => ?_)
          refine wp_iload2 30 rfl dX10_comesOut_29 ?_
          refine wp_bipush (nI 8) 32 rfl dX10_comesOut_30 (by decide) ?_
          refine wp_icmp_eq 35 41 rfl rfl dX10_comesOut_32 (fun c32 => ?_) (fun c32 => absurd (by rw [h8]) c32)
          refine wp_vret dX10_comesOut_41 rfl ?_
          exact ⟨rfl, rfl, emF.rf, hw, hc⟩
        · have h9 : k = 9 := h89.resolve_left h8
          refine wp_istore2 19 rfl dX10_comesOut_18 (by decide) rfl ?_
          refine wp_iload2 20 rfl dX10_comesOut_19 ?_
          refine wp_bipush (nI 6) 22 rfl dX10_comesOut_20 (by decide) ?_
          refine wp_icmp_eq 25 41 rfl rfl dX10_comesOut_22 (fun c22 => absurd c22 (fun h => h6 ((nI_eq (by omega) (by decide)).mp h))) (fun c22 => ?_)
          refine wp_iload1 26 rfl dX10_comesOut_25 ?_
          refine wp_if_eq 29 42 rfl rfl dX10_comesOut_26 (fun c26 => absurd c26 (by decide)) (fun c26 => ?_)
          refine wp_iload2 30 rfl dX10_comesOut_29 ?_
          refine wp_bipush (nI 8) 32 rfl dX10_comesOut_30 (by decide) ?_
          refine wp_icmp_eq 35 41 rfl rfl dX10_comesOut_32 (fun c32 => absurd c32 (fun h => h8 ((nI_eq (by omega) (by decide)).mp h))) (fun c32 => ?_)
          refine wp_iload2 36 rfl dX10_comesOut_35 ?_
          refine wp_bipush (nI 9) 38 rfl dX10_comesOut_36 (by decide) ?_
          refine wp_icmp_ne 41 42 rfl rfl dX10_comesOut_38 (fun c38 => absurd (by rw [h9]) c38) (fun c38 => ?_)
          refine wp_vret dX10_comesOut_41 rfl ?_
          exact ⟨rfl, rfl, emF.rf, hw, hc⟩
  | cons k p ih =>
    intro J e a hp hw hc hl
    have hw : wtR J (k :: (p ++ s)) := hw
    obtain ⟨k100, hk⟩ := hw.2.2 0 k rfl
    obtain ⟨L, hL⟩ : ∃ L, L = (p ++ s).length := ⟨_, rfl⟩
    have hl60 : L + 1 ≤ 60 := by rw [hL]; exact hw.2.1
    have h47 : J mM 47 = nI (L + 1) := by rw [hL]; exact hw.1
    have hl : c0 + e.length + (p.length + 1) ≤ c1 := hl
    rw [show (k :: (p ++ s)).length - 1 - 0 = L by rw [hL]; simp only [List.length_cons]; omega] at hk
    have hns := hp k (List.mem_cons_self)
    have h6 : ¬ k = 6 := fun h => hns (Or.inl h)
    have hc1 := hc.2.2.2
    have go : ∀ _ : Value, sm_V G xX10_comesOut (d + 1) 42 [.ref mM, .int (if b = true then nI 1 else nI 0), .int (nI k)] [] J ρ (sm_Qv (fun I1 ρ1 => ρ1 = ρ ∧ emF c0 c1 J I1 ∧ wtR I1 s ∧ cdR I1 c0 c1 (e ++ (k :: p).map (fun k => (co_c k, nI 0))))) := by
      intro a
      refine wp_aload0 43 rfl dX10_comesOut_42 ?_
      refine wp_dup 44 rfl dX10_comesOut_43 rfl ?_
      refine wp_geti 47 rfl dX10_comesOut_44 fX10_296_10 (md_M hm) ?_
      rw [h47]
      refine wp_iconst (nI 1) 48 rfl dX10_comesOut_47 (by decide) ?_
      refine wp_isub 49 rfl dX10_comesOut_48 ?_
      rw [pk_sub (by omega), show L + 1 - 1 = L by omega]
      refine wp_puti 52 rfl dX10_comesOut_49 pX10_296_10 (md_M hm) ⟨rfl, rfl⟩ ?_
      obtain ⟨J1, hJ1⟩ : ∃ J1, J1 = sm_u J mM 47 (nI L) := ⟨_, rfl⟩
      rw [← hJ1]
      have f1 : emF c0 c1 J J1 := by rw [hJ1]; exact ⟨mf.uM (by decide), fun j _ => ⟨rfl, rfl⟩⟩
      have hc2 : cdR J1 c0 c1 e := by
        refine ⟨?_, ?_, hc.2.2.1, hc1⟩
        · rw [hJ1, sm_u_eq, pk_un (by decide)]
          exact hc.1
        · rw [hJ1]
          exact hc.2.1
      have hw1 : J1 m_waits = J m_waits := by rw [hJ1]; rfl
      have h47' : J1 mM 47 = nI L := by rw [hJ1, sm_u_eq, pk_us]
      have fin : sm_V G xX10_comesOut (d + 1) 84 [.ref mM, .int (if b = true then nI 1 else nI 0), .int (nI k)] [.int (nI (co_c k)), .ref mM] J1 ρ (sm_Qv (fun I1 ρ1 => ρ1 = ρ ∧ emF c0 c1 J I1 ∧ wtR I1 s ∧ cdR I1 c0 c1 (e ++ (k :: p).map (fun k => (co_c k, nI 0))))) := by
        have ih := ih (M_em J1 (c0 + e.length) (nI (co_c k)) (nI 0)) (e ++ [(co_c k, nI 0)]) (.int (nI k)) (fun q hq => hp q (List.mem_cons_of_mem _ hq)) (hw.tl (by rw [← hL]; show M_em J1 (c0 + e.length) (nI (co_c k)) (nI 0) mM 47 = nI L; unfold M_em; rw [sm_u_eq, pk_un (by decide)]; exact h47') (by show J1 m_waits = J m_waits; exact hw1)) (hc2.add (by omega) _ _) (by rw [List.length_append]; show c0 + (e.length + 1) + p.length ≤ c1; omega)
        have f2 : emF c0 c1 J1 (M_em J1 (c0 + e.length) (nI (co_c k)) (nI 0)) := M_em_f (by omega) (by omega)
        rw [List.append_assoc] at ih
        refine wp_iconst (nI 0) 85 rfl dX10_comesOut_84 (by decide) ?_
        refine wp_Ve2 88 rfl dX10_comesOut_85 kX10_emit lX10_299 (md_M hm) (nl rfl) (nl rfl) (s_emit hm (c0 + e.length) hc2.1 (by omega) _ _) ?_
        refine wp_goto 0 rfl dX10_comesOut_88 ?_
        exact ih.mono (fun o I' ρ' hq => by
          obtain ⟨h1, h2, h3, h4⟩ := hq
          exact ⟨h1, h2, (f1.tr f2).tr h3, h4⟩)
      by_cases k8 : k = 8
      · rw [show co_c k = 2 by rw [k8]; rfl] at fin
        refine wp_aload0 53 rfl dX10_comesOut_52 ?_
        refine wp_iload2 54 rfl dX10_comesOut_53 ?_
        refine wp_bipush (nI 8) 56 rfl dX10_comesOut_54 (by decide) ?_
        refine wp_icmp_ne 59 63 rfl rfl dX10_comesOut_56 (fun c56 => absurd (by rw [k8]) c56) (fun c56 => ?_)
        refine wp_iconst (nI 2) 60 rfl dX10_comesOut_59 (by decide) ?_
        refine wp_goto 84 rfl dX10_comesOut_60 ?_
        exact fin
      · by_cases k9 : k = 9
        · rw [show co_c k = 3 by rw [k9]; rfl] at fin
          refine wp_aload0 53 rfl dX10_comesOut_52 ?_
          refine wp_iload2 54 rfl dX10_comesOut_53 ?_
          refine wp_bipush (nI 8) 56 rfl dX10_comesOut_54 (by decide) ?_
          refine wp_icmp_ne 59 63 rfl rfl dX10_comesOut_56 (fun c56 => ?_) (fun c56 => absurd c56 (fun h => k8 ((nI_eq (by omega) (by decide)).mp h)))
          refine wp_iload2 64 rfl dX10_comesOut_63 ?_
          refine wp_bipush (nI 9) 66 rfl dX10_comesOut_64 (by decide) ?_
          refine wp_icmp_ne 69 73 rfl rfl dX10_comesOut_66 (fun c66 => absurd (by rw [k9]) c66) (fun c66 => ?_)
          refine wp_iconst (nI 3) 70 rfl dX10_comesOut_69 (by decide) ?_
          refine wp_goto 84 rfl dX10_comesOut_70 ?_
          exact fin
        · by_cases k10 : k = 10
          · rw [show co_c k = 4 by rw [k10]; rfl] at fin
            refine wp_aload0 53 rfl dX10_comesOut_52 ?_
            refine wp_iload2 54 rfl dX10_comesOut_53 ?_
            refine wp_bipush (nI 8) 56 rfl dX10_comesOut_54 (by decide) ?_
            refine wp_icmp_ne 59 63 rfl rfl dX10_comesOut_56 (fun c56 => ?_) (fun c56 => absurd c56 (fun h => k8 ((nI_eq (by omega) (by decide)).mp h)))
            refine wp_iload2 64 rfl dX10_comesOut_63 ?_
            refine wp_bipush (nI 9) 66 rfl dX10_comesOut_64 (by decide) ?_
            refine wp_icmp_ne 69 73 rfl rfl dX10_comesOut_66 (fun c66 => ?_) (fun c66 => absurd c66 (fun h => k9 ((nI_eq (by omega) (by decide)).mp h)))
            refine wp_iload2 74 rfl dX10_comesOut_73 ?_
            refine wp_bipush (nI 10) 76 rfl dX10_comesOut_74 (by decide) ?_
            refine wp_icmp_ne 79 83 rfl rfl dX10_comesOut_76 (fun c76 => absurd (by rw [k10]) c76) (fun c76 => ?_)
            refine wp_iconst (nI 4) 80 rfl dX10_comesOut_79 (by decide) ?_
            refine wp_goto 84 rfl dX10_comesOut_80 ?_
            exact fin
          · rw [show co_c k = 5 by unfold co_c; rw [if_neg k8, if_neg k9, if_neg k10]] at fin
            refine wp_aload0 53 rfl dX10_comesOut_52 ?_
            refine wp_iload2 54 rfl dX10_comesOut_53 ?_
            refine wp_bipush (nI 8) 56 rfl dX10_comesOut_54 (by decide) ?_
            refine wp_icmp_ne 59 63 rfl rfl dX10_comesOut_56 (fun c56 => ?_) (fun c56 => absurd c56 (fun h => k8 ((nI_eq (by omega) (by decide)).mp h)))
            refine wp_iload2 64 rfl dX10_comesOut_63 ?_
            refine wp_bipush (nI 9) 66 rfl dX10_comesOut_64 (by decide) ?_
            refine wp_icmp_ne 69 73 rfl rfl dX10_comesOut_66 (fun c66 => ?_) (fun c66 => absurd c66 (fun h => k9 ((nI_eq (by omega) (by decide)).mp h)))
            refine wp_iload2 74 rfl dX10_comesOut_73 ?_
            refine wp_bipush (nI 10) 76 rfl dX10_comesOut_74 (by decide) ?_
            refine wp_icmp_ne 79 83 rfl rfl dX10_comesOut_76 (fun c76 => ?_) (fun c76 => absurd c76 (fun h => k10 ((nI_eq (by omega) (by decide)).mp h)))
            refine wp_iconst (nI 5) 84 rfl dX10_comesOut_83 (by decide) ?_
            exact fin
    refine wp_aload0 1 rfl dX10_comesOut_0 ?_
    refine wp_geti 4 rfl dX10_comesOut_1 fX10_296_10 (md_M hm) ?_
    rw [h47]
    refine wp_if_le 7 91 rfl rfl dX10_comesOut_4 (fun c4 => absurd c4 (nI_nle (by omega) (by omega))) (fun c4 => ?_)
    refine wp_aload0 8 rfl dX10_comesOut_7 ?_
    refine wp_getr 11 rfl dX10_comesOut_8 fX10_110_10 (md_M hm) (mp_waits hm) ?_
    refine wp_aload0 12 rfl dX10_comesOut_11 ?_
    refine wp_geti 15 rfl dX10_comesOut_12 fX10_296_10 (md_M hm) ?_
    rw [h47]
    refine wp_iconst (nI 1) 16 rfl dX10_comesOut_15 (by decide) ?_
    refine wp_isub 17 rfl dX10_comesOut_16 ?_
    refine wp_iald 18 rfl dX10_comesOut_17 (ms_waits hm) (L) (by rw [pk_sub (by omega)]; rfl) (⟨by omega, by decide⟩) ?_
    rw [hk]
    by_cases hb : b = true
    · have h8 : ¬ k = 8 := fun h => hns (Or.inr ⟨hb, Or.inl h⟩)
      have h9 : ¬ k = 9 := fun h => hns (Or.inr ⟨hb, Or.inr h⟩)
      rw [if_pos hb] at go ⊢
      refine wp_istore2 19 rfl dX10_comesOut_18 (by decide) rfl ?_
      refine wp_iload2 20 rfl dX10_comesOut_19 ?_
      refine wp_bipush (nI 6) 22 rfl dX10_comesOut_20 (by decide) ?_
      refine wp_icmp_eq 25 41 rfl rfl dX10_comesOut_22 (fun c22 => absurd c22 (fun h => h6 ((nI_eq (by omega) (by decide)).mp h))) (fun c22 => ?_)
      refine wp_iload1 26 rfl dX10_comesOut_25 ?_
      refine wp_if_eq 29 42 rfl rfl dX10_comesOut_26 (fun c26 => absurd c26 (by decide)) (fun c26 => ?_)
      refine wp_iload2 30 rfl dX10_comesOut_29 ?_
      refine wp_bipush (nI 8) 32 rfl dX10_comesOut_30 (by decide) ?_
      refine wp_icmp_eq 35 41 rfl rfl dX10_comesOut_32 (fun c32 => absurd c32 (fun h => h8 ((nI_eq (by omega) (by decide)).mp h))) (fun c32 => ?_)
      refine wp_iload2 36 rfl dX10_comesOut_35 ?_
      refine wp_bipush (nI 9) 38 rfl dX10_comesOut_36 (by decide) ?_
      refine wp_icmp_ne 41 42 rfl rfl dX10_comesOut_38 (fun c38 => ?_) (fun c38 => absurd c38 (fun h => h9 ((nI_eq (by omega) (by decide)).mp h)))
      exact go a
    · rw [if_neg hb] at go ⊢
      refine wp_istore2 19 rfl dX10_comesOut_18 (by decide) rfl ?_
      refine wp_iload2 20 rfl dX10_comesOut_19 ?_
      refine wp_bipush (nI 6) 22 rfl dX10_comesOut_20 (by decide) ?_
      refine wp_icmp_eq 25 41 rfl rfl dX10_comesOut_22 (fun c22 => absurd c22 (fun h => h6 ((nI_eq (by omega) (by decide)).mp h))) (fun c22 => ?_)
      refine wp_iload1 26 rfl dX10_comesOut_25 ?_
      refine wp_if_eq 29 42 rfl rfl dX10_comesOut_26 (fun c26 => ?_) (fun c26 => absurd (rfl) c26)
      exact go a
end M29
