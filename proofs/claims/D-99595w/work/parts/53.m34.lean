/-! ===== reading: expression, signs ===== -/
set_option maxRecDepth 100000
section M34
variable {G : sm_G} {d : Nat} {I : sm_I} {ρ : sm_R} {QQ : sm_O → sm_I → sm_R → Prop}
/-- a sign follows -/
theorem ex_some (hm : md ρ) (tk : tkf) (hw : tw tk) (J : sm_I) (hq : tq J ρ tk) (r : pR) (hr : prs J tk r) (hs : g_is tk 8 r ∨ g_is tk 9 r ∨ g_is tk 10 r ∨ g_is tk 15 r) (a : Int32) (b : Value)
    (kk : sm_V G xX10_expression (d + 3) 210 [.ref mM, .int a, .int (nI 1)] [] J ρ QQ) : sm_V G xX10_expression (d + 3) 145 [.ref mM, .int a, b] [] J ρ QQ := by
  have go : sm_V G xX10_expression (d + 3) 181 [.ref mM, .int a, b] [] J ρ QQ := by
    refine wp_iconst (nI 1) 182 rfl dX10_expression_181 (by decide) ?_
    refine wp_goto 186 rfl dX10_expression_182 ?_
    refine wp_istore2 187 rfl dX10_expression_186 (by decide) rfl ?_
    refine wp_iload2 188 rfl dX10_expression_187 ?_
    refine wp_if_ne 191 210 rfl rfl dX10_expression_188 (fun c188 => ?_) (fun c188 => absurd c188 (by decide))
    exact kk
  refine wp_aload0 146 rfl dX10_expression_145 ?_
  refine wp_bipush (nI 8) 148 rfl dX10_expression_146 (by decide) ?_
  refine wp_Vi1 151 rfl dX10_expression_148 kX10_is lX10_221 (md_M hm) (nl rfl) (nl rfl) (s_is hm tk hq hw r hr 8 (by decide)) (fun v J1 ρ1 hq1 => ?_)
  obtain ⟨rfl, rfl, h01, hv⟩ := hq1
  by_cases g8 : g_is tk 8 r
  · rw [hv.mpr g8]
    refine wp_if_ne 154 181 rfl rfl dX10_expression_151 (fun c151 => ?_) (fun c151 => absurd c151 (by decide))
    exact go
  · rw [h01.resolve_right (fun h => g8 (hv.mp h))]
    refine wp_if_ne 154 181 rfl rfl dX10_expression_151 (fun c151 => absurd (rfl) c151) (fun c151 => ?_)
    refine wp_aload0 155 rfl dX10_expression_154 ?_
    refine wp_bipush (nI 9) 157 rfl dX10_expression_155 (by decide) ?_
    refine wp_Vi1 160 rfl dX10_expression_157 kX10_is lX10_221 (md_M hm) (nl rfl) (nl rfl) (s_is hm tk hq hw r hr 9 (by decide)) (fun v J2 ρ2 hq2 => ?_)
    obtain ⟨rfl, rfl, h01, hv⟩ := hq2
    by_cases g9 : g_is tk 9 r
    · rw [hv.mpr g9]
      refine wp_if_ne 163 181 rfl rfl dX10_expression_160 (fun c160 => ?_) (fun c160 => absurd c160 (by decide))
      exact go
    · rw [h01.resolve_right (fun h => g9 (hv.mp h))]
      refine wp_if_ne 163 181 rfl rfl dX10_expression_160 (fun c160 => absurd (rfl) c160) (fun c160 => ?_)
      refine wp_aload0 164 rfl dX10_expression_163 ?_
      refine wp_bipush (nI 10) 166 rfl dX10_expression_164 (by decide) ?_
      refine wp_Vi1 169 rfl dX10_expression_166 kX10_is lX10_221 (md_M hm) (nl rfl) (nl rfl) (s_is hm tk hq hw r hr 10 (by decide)) (fun v J3 ρ3 hq3 => ?_)
      obtain ⟨rfl, rfl, h01, hv⟩ := hq3
      by_cases g10 : g_is tk 10 r
      · rw [hv.mpr g10]
        refine wp_if_ne 172 181 rfl rfl dX10_expression_169 (fun c169 => ?_) (fun c169 => absurd c169 (by decide))
        exact go
      · rw [h01.resolve_right (fun h => g10 (hv.mp h))]
        have g15 : g_is tk 15 r := ((hs.resolve_left g8).resolve_left g9).resolve_left g10
        refine wp_if_ne 172 181 rfl rfl dX10_expression_169 (fun c169 => absurd (rfl) c169) (fun c169 => ?_)
        refine wp_aload0 173 rfl dX10_expression_172 ?_
        refine wp_bipush (nI 15) 175 rfl dX10_expression_173 (by decide) ?_
        refine wp_Vi1 178 rfl dX10_expression_175 kX10_is lX10_221 (md_M hm) (nl rfl) (nl rfl) (s_is hm tk hq hw r hr 15 (by decide)) (fun v J4 ρ4 hq4 => ?_)
        obtain ⟨rfl, rfl, h01, hv⟩ := hq4
        rw [hv.mpr g15]
        refine wp_if_eq 181 185 rfl rfl dX10_expression_178 (fun c178 => absurd c178 (by decide)) (fun c178 => ?_)
        exact go
/-- a sign: what binds more comes out, it waits itself -/
theorem ex_sign (hm : md ρ) (tk : tkf) (hw : tw tk) (hq0 : tq I ρ tk) (w : Nat × Nat) (c0 c1 : Nat) (J : sm_I) (t op : Nat) (p s : List Nat) (e : ex) (b : Bool) (h : xS I tk w c0 c1 J t op (p ++ s) e) (hb : b = true ↔ ((tk t).1 = 10 ∨ (tk t).1 = 15)) (hk : (tk t).1 = 8 ∨ (tk t).1 = 9 ∨ (tk t).1 = 10 ∨ (tk t).1 = 15)
    (hs : ∀ k r, s = k :: r → co_stop b k) (hp : ∀ k ∈ p, ¬ co_stop b k) (hl : s.length ≤ 3 * op + 1)
    (kf : t = 400 → ∀ J1, xF c0 c1 I J1 → prs J1 tk (.inl (2, t)) → QQ (.inl none) J1 ρ)
    (kk : ¬ t = 400 → ∀ J1, xS I tk w c0 c1 J1 (t + 1) op ((tk t).1 :: s) (e ++ p.map (fun k => (co_c k, nI 0))) → sm_V G xX10_expression (d + 3) 23 [.ref mM, .int (nI 0), .int (nI 1)] [] J1 ρ QQ) : sm_V G xX10_expression (d + 3) 96 [.ref mM, .int (nI 0), .int (nI 1)] [] J ρ QQ := by
  have hq : tq J ρ tk := h.tq hq0
  obtain ⟨hx, hr, h12, hwt, hc, b1, b2, b3⟩ := h
  have t4 : t ≤ 400 := hr.1.1
  have hlen : (p ++ s).length = p.length + s.length := List.length_append
  have bb : ∀ v : Int32, v = (if b = true then nI 1 else nI 0) → sm_V G xX10_expression (d + 3) 234 [.ref mM, .int (nI 0), .int (nI 1)] [.int v, .ref mM] J ρ QQ := by
    intro v hv
    refine wp_Vv1 237 rfl dX10_expression_234 kX10_comesOut lX10_305 (md_M hm) (nl rfl) (nl rfl) (s_come hm b c0 c1 p s e hs hp hwt hc (by omega) v hv) (fun J1 ρ1 hq1 => ?_)
    obtain ⟨rfl, hf1, hw1, hc1⟩ := hq1
    have hr1 := hr.kept hf1.1 (by decide)
    have hq1 := hq.kept hf1.1 (by decide) (σ := ρ1) rfl
    obtain ⟨⟨p1, p2, p3, p4⟩, h13, h11, h15, h16⟩ := hr1
    obtain ⟨q1, -⟩ := hq1 t p1 p2
    obtain ⟨L, hL⟩ : ∃ L, L = s.length := ⟨_, rfl⟩
    have h47 : J1 mM 47 = nI L := by rw [hL]; exact hw1.1
    refine wp_aload0 238 rfl dX10_expression_237 ?_
    refine wp_getr 241 rfl dX10_expression_238 fX10_110_10 (md_M hm) (mp_waits hm) ?_
    refine wp_aload0 242 rfl dX10_expression_241 ?_
    refine wp_geti 245 rfl dX10_expression_242 fX10_296_10 (md_M hm) ?_
    refine wp_aload0 246 rfl dX10_expression_245 ?_
    refine wp_getr 249 rfl dX10_expression_246 fX10_20_10 (md_M hm) (mp_tKind hm) ?_
    refine wp_aload0 250 rfl dX10_expression_249 ?_
    refine wp_geti 253 rfl dX10_expression_250 fX10_206_10 (md_M hm) ?_
    refine wp_iald 254 rfl dX10_expression_253 (ms_tKind hm) (t) (h11) (⟨by omega, by decide⟩) ?_
    rw [q1]
    refine wp_iast 255 rfl dX10_expression_254 (ms_waits hm) (L) (h47) (⟨by omega, by decide⟩) ?_
    refine wp_aload0 256 rfl dX10_expression_255 ?_
    refine wp_dup 257 rfl dX10_expression_256 rfl ?_
    refine wp_geti 260 rfl dX10_expression_257 fX10_296_10 (md_M hm) ?_
    refine wp_iconst (nI 1) 261 rfl dX10_expression_260 (by decide) ?_
    refine wp_iadd 262 rfl dX10_expression_261 ?_
    refine wp_puti 265 rfl dX10_expression_262 pX10_296_10 (md_M hm) ⟨rfl, rfl⟩ ?_
    rw [show sm_u J1 m_waits L (nI (tk t).1) mM 47 = nI L from h47]
    obtain ⟨K2, hK2⟩ : ∃ K2, K2 = sm_u (sm_u J1 m_waits L (nI (tk t).1)) mM 47 (nI L + nI 1) := ⟨_, rfl⟩
    have hf : mf [m_waits] [47] J1 K2 := by rw [hK2]; exact (mf.u (by decide) (by decide)).tr (mf.uM (by decide))
    have hx2 : xF c0 c1 J1 K2 := ⟨hf.wk (by decide) (by decide), fun j _ => by rw [hf.1 m_code (by decide) (by decide), hf.1 m_codeInt (by decide) (by decide)]; exact ⟨rfl, rfl⟩⟩
    have g47 : K2 mM 47 = nI (L + 1) := by rw [hK2, sm_u_eq, pk_us]; exact nI_add L 1
    have gw : K2 m_waits = upd (J1 m_waits) L (nI (tk t).1) := by rw [hK2]; rfl
    rw [← hK2]
    have hr2 : prs K2 tk (.inr (t, w)) := (hr.kept hf1.1 (by decide)).kept hf (by decide)
    have hq2 : tq K2 ρ1 tk := hq1.kept hf (by decide) rfl
    have hw2 : wtR K2 ((tk t).1 :: s) := hw1.push (by omega) (hw.1 t).1 (by rw [← hL]; exact g47) (by rw [← hL]; exact gw)
    have hc2 : cdR K2 c0 c1 (e ++ p.map (fun k => (co_c k, nI 0))) := by
      refine ⟨(hf.2 43 (by decide)).trans hc1.1, fun i k v hi => ?_, hc1.2.2.1, hc1.2.2.2⟩
      rw [hf.1 m_code (by decide) (by decide), hf.1 m_codeInt (by decide) (by decide)]
      exact hc1.2.1 i k v hi
    have g12 : K2 mM 12 = nI op := ((hf.2 12 (by decide)).trans (hf1.1.2 12 (by decide))).trans h12
    refine wp_aload0 266 rfl dX10_expression_265 ?_
    refine wp_Vv0 269 rfl dX10_expression_266 kX10_goesOn lX10_224 (md_M hm) (nl rfl) (nl rfl) (s_goesOn hm tk hq2 _ hr2 (fun t' w' e => by cases e; omega)) (fun K3 ρ3 hq3 => ?_)
    obtain ⟨rfl, hf3, hp3⟩ := hq3
    have hx3 : xF c0 c1 I K3 := ((hx.tr hf1.x).tr hx2).tr (hf3.x (by decide))
    by_cases h4 : t = 400
    · have hp4 : prs K3 tk (.inl (2, t)) := by
        have e3 : g_pass (.inr (t, w)) = .inl (2, t) := if_pos h4
        rw [e3] at hp3
        exact hp3
      refine wp_goto 12 rfl dX10_expression_269 ?_
      refine wp_iload2 13 rfl dX10_expression_12 ?_
      refine wp_if_eq 16 272 rfl rfl dX10_expression_13 (fun c13 => absurd c13 (by decide)) (fun c13 => ?_)
      refine wp_aload0 17 rfl dX10_expression_16 ?_
      refine wp_geti 20 rfl dX10_expression_17 fX10_203_10 (md_M hm) ?_
      rw [hp4.2.1]
      refine wp_if_ne 23 272 rfl rfl dX10_expression_20 (fun c20 => ?_) (fun c20 => absurd c20 (by decide))
      refine wp_vret dX10_expression_272 rfl ?_
      exact kf h4 K3 hx3 hp4
    · have hp4 : prs K3 tk (.inr (t + 1, w)) := by
        have e3 : g_pass (.inr (t, w)) = .inr (t + 1, w) := if_neg h4
        rw [e3] at hp3
        exact hp3
      refine wp_goto 12 rfl dX10_expression_269 ?_
      refine wp_iload2 13 rfl dX10_expression_12 ?_
      refine wp_if_eq 16 272 rfl rfl dX10_expression_13 (fun c13 => absurd c13 (by decide)) (fun c13 => ?_)
      refine wp_aload0 17 rfl dX10_expression_16 ?_
      refine wp_geti 20 rfl dX10_expression_17 fX10_203_10 (md_M hm) ?_
      rw [hp4.2.1]
      refine wp_if_ne 23 272 rfl rfl dX10_expression_20 (fun c20 => absurd (rfl) c20) (fun c20 => ?_)
      refine kk h4 K3 ⟨hx3, hp4, (hf3.2 12 (by decide)).trans g12, hw2.kept hf3 (by decide) (by decide), hc2.kept hf3 (by decide), ?_, ?_, b3⟩
      · rw [List.length_append, List.length_map]
        simp only [List.length_cons]
        omega
      · simp only [List.length_cons]
        omega
  refine wp_aload0 97 rfl dX10_expression_96 ?_
  refine wp_bipush (nI 7) 99 rfl dX10_expression_97 (by decide) ?_
  refine wp_Vi1 102 rfl dX10_expression_99 kX10_is lX10_221 (md_M hm) (nl rfl) (nl rfl) (s_is hm tk hq hw _ hr 7 (by decide)) (fun v J1 ρ1 hq1 => ?_)
  obtain ⟨rfl, rfl, h01, hv⟩ := hq1
  rw [h01.resolve_right (fun h => by have h : (tk t).1 = 7 := hv.mp h; omega)]
  refine wp_if_eq 105 145 rfl rfl dX10_expression_102 (fun c102 => ?_) (fun c102 => absurd (rfl) c102)
  refine ex_some hm tk hw J1 hq _ hr hk (nI 0) _ ?_
  refine wp_aload0 211 rfl dX10_expression_210 ?_
  refine wp_aload0 212 rfl dX10_expression_211 ?_
  refine wp_bipush (nI 10) 214 rfl dX10_expression_212 (by decide) ?_
  refine wp_Vi1 217 rfl dX10_expression_214 kX10_is lX10_221 (md_M hm) (nl rfl) (nl rfl) (s_is hm tk hq hw _ hr 10 (by decide)) (fun v J2 ρ2 hq2 => ?_)
  obtain ⟨rfl, rfl, h01, hv⟩ := hq2
  by_cases k10 : (tk t).1 = 10
  · rw [hv.mpr k10]
    refine wp_if_ne 220 229 rfl rfl dX10_expression_217 (fun c217 => ?_) (fun c217 => absurd c217 (by decide))
    refine wp_iconst (nI 1) 230 rfl dX10_expression_229 (by decide) ?_
    refine wp_goto 234 rfl dX10_expression_230 ?_
    exact bb _ (if_pos (hb.mpr (Or.inl k10))).symm
  · rw [h01.resolve_right (fun h => k10 (hv.mp h))]
    refine wp_if_ne 220 229 rfl rfl dX10_expression_217 (fun c217 => absurd (rfl) c217) (fun c217 => ?_)
    refine wp_aload0 221 rfl dX10_expression_220 ?_
    refine wp_bipush (nI 15) 223 rfl dX10_expression_221 (by decide) ?_
    refine wp_Vi1 226 rfl dX10_expression_223 kX10_is lX10_221 (md_M hm) (nl rfl) (nl rfl) (s_is hm tk hq hw _ hr 15 (by decide)) (fun v J3 ρ3 hq3 => ?_)
    obtain ⟨rfl, rfl, h01, hv⟩ := hq3
    by_cases k15 : (tk t).1 = 15
    · rw [hv.mpr k15]
      refine wp_if_eq 229 233 rfl rfl dX10_expression_226 (fun c226 => absurd c226 (by decide)) (fun c226 => ?_)
      refine wp_iconst (nI 1) 230 rfl dX10_expression_229 (by decide) ?_
      refine wp_goto 234 rfl dX10_expression_230 ?_
      exact bb _ (if_pos (hb.mpr (Or.inr k15))).symm
    · rw [h01.resolve_right (fun h => k15 (hv.mp h))]
      refine wp_if_eq 229 233 rfl rfl dX10_expression_226 (fun c226 => ?_) (fun c226 => absurd (rfl) c226)
      refine wp_iconst (nI 0) 234 rfl dX10_expression_233 (by decide) ?_
      exact bb _ (if_neg (fun h => (hb.mp h).elim k10 k15)).symm
end M34
