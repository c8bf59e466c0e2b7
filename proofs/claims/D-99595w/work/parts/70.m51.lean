/-! ===== read ===== -/
set_option maxRecDepth 100000
/-- all but the tape's length -/
theorem mZ.rest {A F : List Nat} {I J : sm_I} {lv : Nat} {S : yS} (h : mZ I lv S) (hf : mf A F I J) (hA : ∀ a ∈ mt_A ++ [m_now, m_row, m_history, m_toldDoor, m_toldPart, m_toldWay, m_isHeld, m_heldRows], a ∉ A) (hF : ∀ k ∈ [18, 56, 60, 17], k ∉ F) (h2 : J mM 2 = nI 0) : mZ J lv (y_rest S (y_p S)) := by
  obtain ⟨⟨h1, ht, h3, h4, h5⟩, h6, h7, h8, h9, h10⟩ := h
  have inA : ∀ a ∈ [m_now, m_row, m_history, m_toldDoor, m_toldPart, m_toldWay, m_isHeld, m_heldRows], a ∉ A := fun a ha => hA a (List.mem_append_right _ ha)
  have nM : ∀ a ∈ [m_now, m_row, m_history, m_toldDoor, m_toldPart, m_toldWay, m_isHeld, m_heldRows], a ≠ mM := by decide
  refine ⟨⟨h1.kept hf (fun a ha => hA a (List.mem_append_left _ ha)) (hF 18 (by decide)), ht, ?_, h4, ?_⟩, h6.kept hf (inA _ (by decide)) (hF 56 (by decide)), h7.kept hf (fun a ha => inA a (by
    have q : ∀ a ∈ [m_toldDoor, m_toldPart, m_toldWay], a ∈ [m_now, m_row, m_history, m_toldDoor, m_toldPart, m_toldWay, m_isHeld, m_heldRows] := by decide
    exact q a ha)) (hF 60 (by decide)), h8.kept hf (fun a ha => inA a (by
    have q : ∀ a ∈ [m_isHeld, m_heldRows], a ∈ [m_now, m_row, m_history, m_toldDoor, m_toldPart, m_toldWay, m_isHeld, m_heldRows] := by decide
    exact q a ha)), ⟨h2, Nat.zero_le _, fun j hj => absurd hj (Nat.not_lt_zero _)⟩, (hf.2 17 (hF 17 (by decide))).trans h10⟩
  · rw [hf.1 m_now (inA _ (by decide)) (by decide)]
    exact h3
  · rw [hf.1 m_row (inA _ (by decide)) (by decide)]
    exact h5
theorem y_rest_2 (S : yS) (p q : Int32) : y_rest (y_rest S p) q = y_rest S q := rfl
/-- the place is told -/
theorem mZ.pl {I J : sm_I} {lv : Nat} {S : yS} {p v : Int32} (h : mZ I lv (y_rest S p)) (hf : mf [] [17] I J) (h17 : J mM 17 = v) : mZ J lv (y_rest S v) := by
  obtain ⟨⟨h1, ht, h3, h4, h5⟩, h6, h7, h8, h9, h10⟩ := h
  refine ⟨⟨h1.kept hf (fun a _ => List.not_mem_nil) (by decide), ht, ?_, h4, ?_⟩, h6.kept hf List.not_mem_nil (by decide), h7.kept hf (fun a _ => List.not_mem_nil) (by decide), h8.kept hf (fun a _ => List.not_mem_nil), ⟨(hf.2 2 (by decide)).trans h9.1, h9.2.1, fun j hj => absurd hj (Nat.not_lt_zero _)⟩, h17⟩
  · rw [hf.1 m_now List.not_mem_nil (by decide)]
    exact h3
  · rw [hf.1 m_row List.not_mem_nil (by decide)]
    exact h5
theorem tok_0 : tok x_0 := by
  refine ⟨⟨Nat.zero_le _, Nat.zero_le _, Nat.zero_le _⟩, fun j hj => ?_, fun j hj => ?_, fun r hr => ?_, ⟨40, by decide, rfl⟩, fun k hk => ?_⟩
  · have hj : j < 4 * 0 := hj
    omega
  · have hj : j < 4 * 0 := hj
    omega
  · have hr : r < 0 := hr
    omega
  · intro ts e h
    cases h
/-- the text that was read stands at its side -/
theorem bR.mT {I J : sm_I} {ρ : sm_R} {s t : Nat} {w : Nat × Nat} {B : rb} (h : bR I ρ s t w B) (ht : t ≤ 400) (h0 : w.1 = 0) (hf : mf [] [17, 18] I J) (hl : J mM 18 = nI s) : mT J s B.1 ∧ tok B.1 := by
  obtain ⟨⟨⟨c1, c2⟩, ⟨c3, c4, c5⟩, c6, c7, c8, c9⟩, ⟨b, c, ⟨l1, l2, l3⟩, ⟨l4, l5, l6⟩, l7, l8⟩, v⟩ := h
  obtain ⟨⟨v1, v2, v3, v4⟩, v5⟩ := v h0
  refine ⟨mT.kept (I := sm_u I mM 18 (nI s)) (A := []) (F := [17]) ⟨⟨by rw [sm_u_eq, pk_us], c2⟩, ⟨c3, c4, c5⟩, v1, v2, v3, v4, fun k hk => ?_⟩ ⟨fun a h1 h2 => by rw [hf.1 a h1 h2, sm_u_ne _ _ _ h2], fun k hk => ?_⟩ (fun a _ => List.not_mem_nil) (by decide), v5⟩
  · have e3 : (3 * s + k) / 3 = s := by omega
    have h9 := l8 k hk
    cases hL : tx_law B.1 k with
    | none =>
      rw [hL] at h9
      exact h9
    | some L =>
      rw [hL] at h9
      obtain ⟨ts, e⟩ := L
      obtain ⟨b0, k1, k2, k3, k4, k5⟩ := h9
      refine ⟨b0, k1, k2, by rw [e3]; omega, ?_⟩
      rw [e3]
      exact lw_at2.kp (I := I) (J := sm_u I mM 18 (nI s)) (lo := 420 * s) (hi := c) (hi' := 420 * s + 420) (by omega) (fun j _ _ => ⟨rfl, rfl⟩) k5 (fun j _ _ => ⟨rfl, rfl, rfl, rfl, rfl⟩)
  · by_cases e : k = 18
    · rw [e, hl, sm_u_eq, pk_us]
    · rw [sm_u_eq, pk_un e]
      refine hf.2 k (fun q => ?_)
      have : k = 17 ∨ k = 18 := by simpa using q
      rcases this with q | q
      · exact hk (by rw [q]; exact List.mem_cons_self)
      · exact e q
section M51
variable {G : sm_G} {d : Nat} {I : sm_I} {ρ : sm_R} {QQ : sm_O → sm_I → sm_R → Prop}
theorem rd_loop (tk : tkf) (hw : tw tk) (s : Nat) (a1 : Value) : ∀ (f : Nat) (J : sm_I) (ρ : sm_R) (r : pR) (B : rb), md ρ → tq J ρ tk → prs J tk r → (∀ t w, r = .inr (t, w) → bR J ρ s t w B ∧ 402 ≤ f + t) →
    (∀ J1 ρ1, rF s J J1 → kyF [m_nameOf] ρ ρ1 → prs J1 tk (g_all tk f r B).1 → (∀ t w, (g_all tk f r B).1 = .inr (t, w) → bR J1 ρ1 s t w (g_all tk f r B).2) → sm_V G xX10_read (d + 7) 134 [.ref mM, a1] [] J1 ρ1 QQ) →
    sm_V G xX10_read (d + 7) 112 [.ref mM, a1] [] J ρ QQ := by
  intro f
  induction f with
  | zero =>
    intro J ρ r B hm hq hr hB kk
    match r, hr, hB, kk with
    | .inl (n, j), hr, hB, kk =>
      have h13 : ¬ J mM 13 = 0 := by
        rw [hr.2.1]
        rcases hr.1 with e | e
        · rw [e]; decide
        · rw [e]; decide
      refine wp_aload0 113 rfl dX10_read_112 ?_
      refine wp_geti 116 rfl dX10_read_113 fX10_203_10 (md_M hm) ?_
      refine wp_if_ne 119 134 rfl rfl dX10_read_116 (fun c116 => ?_) (fun c116 => absurd c116 (h13))
      exact kk J ρ rF.rf kyF.rf hr (fun t w h => nomatch h)
    | .inr (t, w), hr, hB, kk =>
      have h1 := (hB t w rfl).2
      have h2 := hr.1.1
      omega
  | succ f ih =>
    intro J ρ r B hm hq hr hB kk
    match r, hr, hB, kk with
    | .inl (n, j), hr, hB, kk =>
      have h13 : ¬ J mM 13 = 0 := by
        rw [hr.2.1]
        rcases hr.1 with e | e
        · rw [e]; decide
        · rw [e]; decide
      refine wp_aload0 113 rfl dX10_read_112 ?_
      refine wp_geti 116 rfl dX10_read_113 fX10_203_10 (md_M hm) ?_
      refine wp_if_ne 119 134 rfl rfl dX10_read_116 (fun c116 => ?_) (fun c116 => absurd c116 (h13))
      exact kk J ρ rF.rf kyF.rf hr (fun t w h => nomatch h)
    | .inr (t, w), hr, hB, kk =>
      have h13 : J mM 13 = 0 := hr.2.1
      obtain ⟨hb, hf⟩ := hB t w rfl
      by_cases h0 : (tk t).1 = 0
      · have eg : g_all tk (f + 1) (.inr (t, w)) B = (.inr (t, w), B) := by
          show (if (tk t).1 = 0 then (Sum.inr (t, w), B) else g_all tk f (g_one tk t w B).1 (g_one tk t w B).2) = _
          rw [if_pos h0]
        rw [eg] at kk
        refine wp_aload0 113 rfl dX10_read_112 ?_
        refine wp_geti 116 rfl dX10_read_113 fX10_203_10 (md_M hm) ?_
        refine wp_if_ne 119 134 rfl rfl dX10_read_116 (fun c116 => absurd (h13) c116) (fun c116 => ?_)
        refine wp_aload0 120 rfl dX10_read_119 ?_
        refine wp_iconst (nI 0) 121 rfl dX10_read_120 (by decide) ?_
        refine wp_Vi1 124 rfl dX10_read_121 kX10_is lX10_221 (md_M hm) (nl rfl) (nl rfl) (s_is hm tk hq hw (.inr (t, w)) hr 0 (by decide)) (fun v I1 ρ1 ⟨e1, e2, e3, e4⟩ => ?_)
        have e1 := e1.symm
        subst e1
        have e2 := e2.symm
        subst e2
        have e5 : v = nI 1 := e4.mpr h0
        subst e5
        refine wp_if_ne 127 134 rfl rfl dX10_read_124 (fun c124 => ?_) (fun c124 => absurd c124 (by decide))
        exact kk _ _ rF.rf kyF.rf hr (fun t' w' h => by cases h; exact hb)
      · have eg : g_all tk (f + 1) (.inr (t, w)) B = g_all tk f (g_one tk t w B).1 (g_one tk t w B).2 := by
          show (if (tk t).1 = 0 then (Sum.inr (t, w), B) else g_all tk f (g_one tk t w B).1 (g_one tk t w B).2) = _
          rw [if_neg h0]
        rw [eg] at kk
        refine wp_aload0 113 rfl dX10_read_112 ?_
        refine wp_geti 116 rfl dX10_read_113 fX10_203_10 (md_M hm) ?_
        refine wp_if_ne 119 134 rfl rfl dX10_read_116 (fun c116 => absurd (h13) c116) (fun c116 => ?_)
        refine wp_aload0 120 rfl dX10_read_119 ?_
        refine wp_iconst (nI 0) 121 rfl dX10_read_120 (by decide) ?_
        refine wp_Vi1 124 rfl dX10_read_121 kX10_is lX10_221 (md_M hm) (nl rfl) (nl rfl) (s_is hm tk hq hw (.inr (t, w)) hr 0 (by decide)) (fun v I1 ρ1 ⟨e1, e2, e3, e4⟩ => ?_)
        have e1 := e1.symm
        subst e1
        have e2 := e2.symm
        subst e2
        have e5 : v = nI 0 := by
          rcases e3 with e | e
          · exact e
          · exact absurd (e4.mp e) h0
        subst e5
        refine wp_if_ne 127 134 rfl rfl dX10_read_124 (fun c124 => absurd (rfl) c124) (fun c124 => ?_)
        refine wp_aload0 128 rfl dX10_read_127 ?_
        refine wp_Vv0 131 rfl dX10_read_128 kX10_tellOne lX10_248 (md_M hm) (nl rfl) (nl rfl) (s_tellOne hm tk hw hq t w hr h0 s B hb) (fun J1 ρ1 ⟨y1, y2, y3, y4⟩ => ?_)
        refine wp_goto 112 rfl dX10_read_131 ?_
        refine ih J1 ρ1 _ _ (y1.mdl hm) (hq.kept y2.1 (by decide) (y1.2 _ (by decide))) y3 (fun t' w' e => ⟨(y4 t' w' e).2, ?_⟩) (fun J2 ρ2 z1 z2 z3 z4 => kk J2 ρ2 (y2.tr z1) (y1.tr z2) z3 z4)
        have := (y4 t' w' e).1
        omega
/-- a fault: the end -/
theorem rd_fault (hm : md ρ) (J : sm_I) (lv : Nat) (S : yS) (tk : tkf) (a1 : Value) (m j : Nat) (hZ : mZ J lv (y_rest S (y_p S))) (hr : prs J tk (.inl (m, j)))
    (kk : ∀ J1, mZ J1 lv (y_rest S (nI (tk j).2.1)) → mFr J J1 → QQ (.inl (some (.int (nI m)))) J1 ρ) : sm_V G xX10_read (d + 7) 134 [.ref mM, a1] [] J ρ QQ := by
  obtain ⟨h1, h2, h3, -⟩ := hr
  have pos : ¬ J mM 13 ≤ 0 := by
    rw [h2]
    rcases h1 with e | e
    · rw [e]; decide
    · rw [e]; decide
  refine wp_aload0 135 rfl dX10_read_134 ?_
  refine wp_aload0 136 rfl dX10_read_135 ?_
  refine wp_geti 139 rfl dX10_read_136 fX10_203_10 (md_M hm) ?_
  refine wp_if_le 142 149 rfl rfl dX10_read_139 (fun c139 => absurd c139 (pos)) (fun c139 => ?_)
  refine wp_aload0 143 rfl dX10_read_142 ?_
  refine wp_geti 146 rfl dX10_read_143 fX10_209_10 (md_M hm) ?_
  refine wp_goto 164 rfl dX10_read_146 ?_
  refine wp_puti 167 rfl dX10_read_164 pX10_37_10 (md_M hm) ⟨rfl, rfl⟩ ?_
  refine wp_aload0 168 rfl dX10_read_167 ?_
  refine wp_geti 171 rfl dX10_read_168 fX10_203_10 (md_M hm) ?_
  refine wp_if_le 174 179 rfl rfl dX10_read_171 (fun c171 => absurd c171 (pos)) (fun c171 => ?_)
  refine wp_aload0 175 rfl dX10_read_174 ?_
  refine wp_geti 178 rfl dX10_read_175 fX10_203_10 (md_M hm) ?_
  refine wp_iret dX10_read_178 rfl ?_
  show QQ (.inl (some (.int (J mM 13)))) (sm_u J mM 17 (J mM 14)) ρ
  rw [h2]
  refine kk _ (hZ.pl (mf.uM (by decide)) ?_) (mFr.of (A := []) (F := [17]) (mf.uM (by decide)) (by decide))
  rw [sm_u_eq, pk_us, h3]
/-- something wrong: the end -/
theorem rd_worst (hm : md ρ) (J : sm_I) (lv : Nat) (S : yS) (tk : tkf) (a1 : Value) (t : Nat) (w : Nat × Nat) (hw0 : ¬ w.1 = 0) (hZ : mZ J lv (y_rest S (y_p S))) (hr : prs J tk (.inr (t, w)))
    (kk : ∀ J1, mZ J1 lv (y_rest S (nI (tk w.2).2.1)) → mFr J J1 → QQ (.inl (some (.int (nI w.1)))) J1 ρ) : sm_V G xX10_read (d + 7) 134 [.ref mM, a1] [] J ρ QQ := by
  obtain ⟨⟨-, -, p3, -⟩, h2, h3, h4, h5⟩ := hr
  have z13 : J mM 13 ≤ 0 := by rw [h2]; decide
  have pos : ¬ J mM 15 ≤ 0 := by
    rw [h4]
    exact nI_nle (by omega) (by omega)
  refine wp_aload0 135 rfl dX10_read_134 ?_
  refine wp_aload0 136 rfl dX10_read_135 ?_
  refine wp_geti 139 rfl dX10_read_136 fX10_203_10 (md_M hm) ?_
  refine wp_if_le 142 149 rfl rfl dX10_read_139 (fun c139 => ?_) (fun c139 => absurd (z13) c139)
  refine wp_aload0 150 rfl dX10_read_149 ?_
  refine wp_geti 153 rfl dX10_read_150 fX10_212_10 (md_M hm) ?_
  refine wp_if_le 156 163 rfl rfl dX10_read_153 (fun c153 => absurd c153 (pos)) (fun c153 => ?_)
  refine wp_aload0 157 rfl dX10_read_156 ?_
  refine wp_geti 160 rfl dX10_read_157 fX10_215_10 (md_M hm) ?_
  refine wp_goto 164 rfl dX10_read_160 ?_
  refine wp_puti 167 rfl dX10_read_164 pX10_37_10 (md_M hm) ⟨rfl, rfl⟩ ?_
  refine wp_aload0 168 rfl dX10_read_167 ?_
  refine wp_geti 171 rfl dX10_read_168 fX10_203_10 (md_M hm) ?_
  refine wp_if_le 174 179 rfl rfl dX10_read_171 (fun c171 => ?_) (fun c171 => absurd (z13) c171)
  refine wp_aload0 180 rfl dX10_read_179 ?_
  refine wp_geti 183 rfl dX10_read_180 fX10_212_10 (md_M hm) ?_
  refine wp_if_le 186 191 rfl rfl dX10_read_183 (fun c183 => absurd c183 (pos)) (fun c183 => ?_)
  refine wp_aload0 187 rfl dX10_read_186 ?_
  refine wp_geti 190 rfl dX10_read_187 fX10_212_10 (md_M hm) ?_
  refine wp_iret dX10_read_190 rfl ?_
  show QQ (.inl (some (.int (J mM 15)))) (sm_u J mM 17 (J mM 16)) ρ
  rw [h4]
  refine kk _ (hZ.pl (mf.uM (by decide)) ?_) (mFr.of (A := []) (F := [17]) (mf.uM (by decide)) (by decide))
  rw [sm_u_eq, pk_us, h5 hw0]
end M51
