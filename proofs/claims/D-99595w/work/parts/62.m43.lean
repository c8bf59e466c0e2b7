/-! ===== reading: one thing told ===== -/
set_option maxRecDepth 100000
def g_ti (tk : tkf) (hi : Nat) (r : pR) : pR := g_must tk 4 (g_num tk 0 hi (g_pass r))
theorem g_ti_inv {tk : tkf} {hi t : Nat} {w : Nat × Nat} {t' : Nat} {w' : Nat × Nat} (h : g_ti tk hi (.inr (t, w)) = .inr (t', w')) : t' = t + 3 ∧ g_nv tk 0 (g_pass (.inr (t, w))) = (tk (t + 1)).2.2.1 ∧ (w'.1 = 0 → w.1 = 0 ∧ (tk (t + 1)).2.2.1 ≤ hi) := by
  obtain ⟨t1, e1, k1, q1, n1⟩ := g_must_inv h
  obtain ⟨t2, w2, e2, k2, q2, n2, z2, v2⟩ := g_num_inv e1
  obtain ⟨t3, e3, q3, n3⟩ := g_pass_inv e2
  cases e3
  subst q3
  exact ⟨by omega, v2, fun h0 => ⟨(z2 h0).1, (z2 h0).2.2⟩⟩
section M43
variable {G : sm_G} {d : Nat} {I : sm_I} {ρ : sm_R} {QQ : sm_O → sm_I → sm_R → Prop}
theorem t1_wind (hm : md ρ) (tk : tkf) (hw : tw tk) (hq : tq I ρ tk) (t : Nat) (w : Nat × Nat) (hr : prs I tk (.inr (t, w))) (k0 : ¬ (tk t).1 = 0) (s : Nat) (hs : s < 2) (h19 : I mM 19 = nI s)
    (kk : ∀ I1, mf [m_wind] mPF I I1 → prs I1 tk (g_ti tk 100 (.inr (t, w))) → (∀ j, ¬ j = s → I1 m_wind j = I m_wind j) → (∀ t' w', g_ti tk 100 (.inr (t, w)) = .inr (t', w') → I1 m_wind s = nI (tk (t + 1)).2.2.1) → QQ (.inl none) I1 ρ) :
    sm_V G xX10_tellOne (d + 6) 313 [.ref mM, .retAddr 0, .retAddr 0] [] I ρ QQ := by
  refine wp_aload0 314 rfl dX10_tellOne_313 ?_
  refine wp_getr 317 rfl dX10_tellOne_314 fX10_73_10 (md_M hm) (mp_wind hm) ?_
  refine wp_aload0 318 rfl dX10_tellOne_317 ?_
  refine wp_geti 321 rfl dX10_tellOne_318 fX10_236_10 (md_M hm) ?_
  rw [h19]
  refine wp_aload0 322 rfl dX10_tellOne_321 ?_
  refine wp_iconst (nI 0) 323 rfl dX10_tellOne_322 (by decide) ?_
  refine wp_bipush (nI 100) 325 rfl dX10_tellOne_323 (by decide) ?_
  refine wp_Vi2 328 rfl dX10_tellOne_325 kX10_toldInt lX10_278 (md_M hm) (nl rfl) (nl rfl) (s_toldInt hm tk hq hw _ hr (fun t' w' e => by cases e; exact k0) 0 100 (by decide) (by decide)) (fun v J1 ρ1 hq1 => ?_)
  obtain ⟨rfl, f1, p1, rfl⟩ := hq1
  refine wp_iast 329 rfl dX10_tellOne_328 (ms_wind hm) (s) (by first | rfl | simp only [pk_mul, nI_add]) (⟨by omega, by decide⟩) ?_
  refine wp_goto 425 rfl dX10_tellOne_329 ?_
  refine wp_vret dX10_tellOne_425 rfl ?_
  have g1 : mf [m_wind] [] J1 (sm_u J1 m_wind s (nI (g_nv tk 0 (g_pass (.inr (t, w)))))) := mf.u (by decide) (by decide)
  refine kk _ ((f1.wk (by decide) (by decide)).tr (g1.wk (by decide) (by decide))) (prs.kept (r := g_ti tk 100 (.inr (t, w))) p1 g1 (by decide)) (fun j hj => ?_) (fun t' w' e => ?_)
  · rw [sm_u_eq, pk_un hj, f1.1 m_wind (by decide) (by decide)]
  · rw [sm_u_eq, pk_us, (g_ti_inv e).2.1]
theorem t1_near (hm : md ρ) (tk : tkf) (hw : tw tk) (hq : tq I ρ tk) (t : Nat) (w : Nat × Nat) (hr : prs I tk (.inr (t, w))) (k0 : ¬ (tk t).1 = 0) (s : Nat) (hs : s < 2) (h19 : I mM 19 = nI s)
    (kk : ∀ I1, mf [m_near] mPF I I1 → prs I1 tk (g_ti tk 396 (.inr (t, w))) → (∀ j, ¬ j = s → I1 m_near j = I m_near j) → (∀ t' w', g_ti tk 396 (.inr (t, w)) = .inr (t', w') → I1 m_near s = nI (tk (t + 1)).2.2.1) → QQ (.inl none) I1 ρ) :
    sm_V G xX10_tellOne (d + 6) 332 [.ref mM, .retAddr 0, .retAddr 0] [] I ρ QQ := by
  refine wp_aload0 333 rfl dX10_tellOne_332 ?_
  refine wp_getr 336 rfl dX10_tellOne_333 fX10_76_10 (md_M hm) (mp_near hm) ?_
  refine wp_aload0 337 rfl dX10_tellOne_336 ?_
  refine wp_geti 340 rfl dX10_tellOne_337 fX10_236_10 (md_M hm) ?_
  rw [h19]
  refine wp_aload0 341 rfl dX10_tellOne_340 ?_
  refine wp_iconst (nI 0) 342 rfl dX10_tellOne_341 (by decide) ?_
  refine wp_sipush (nI 396) 345 rfl dX10_tellOne_342 (by decide) ?_
  refine wp_Vi2 348 rfl dX10_tellOne_345 kX10_toldInt lX10_278 (md_M hm) (nl rfl) (nl rfl) (s_toldInt hm tk hq hw _ hr (fun t' w' e => by cases e; exact k0) 0 396 (by decide) (by decide)) (fun v J1 ρ1 hq1 => ?_)
  obtain ⟨rfl, f1, p1, rfl⟩ := hq1
  refine wp_iast 349 rfl dX10_tellOne_348 (ms_near hm) (s) (by first | rfl | simp only [pk_mul, nI_add]) (⟨by omega, by decide⟩) ?_
  refine wp_goto 425 rfl dX10_tellOne_349 ?_
  refine wp_vret dX10_tellOne_425 rfl ?_
  have g1 : mf [m_near] [] J1 (sm_u J1 m_near s (nI (g_nv tk 0 (g_pass (.inr (t, w)))))) := mf.u (by decide) (by decide)
  refine kk _ ((f1.wk (by decide) (by decide)).tr (g1.wk (by decide) (by decide))) (prs.kept (r := g_ti tk 396 (.inr (t, w))) p1 g1 (by decide)) (fun j hj => ?_) (fun t' w' e => ?_)
  · rw [sm_u_eq, pk_un hj, f1.1 m_near (by decide) (by decide)]
  · rw [sm_u_eq, pk_us, (g_ti_inv e).2.1]
theorem t1_seed (hm : md ρ) (tk : tkf) (hw : tw tk) (hq : tq I ρ tk) (t : Nat) (w : Nat × Nat) (hr : prs I tk (.inr (t, w))) (k0 : ¬ (tk t).1 = 0) (s : Nat) (hs : s < 2) (h19 : I mM 19 = nI s)
    (kk : ∀ I1, mf [m_seed] mPF I I1 → prs I1 tk (g_ti tk 9999 (.inr (t, w))) → (∀ j, ¬ j = s → I1 m_seed j = I m_seed j) → (∀ t' w', g_ti tk 9999 (.inr (t, w)) = .inr (t', w') → I1 m_seed s = nI (tk (t + 1)).2.2.1) → QQ (.inl none) I1 ρ) :
    sm_V G xX10_tellOne (d + 6) 352 [.ref mM, .retAddr 0, .retAddr 0] [] I ρ QQ := by
  refine wp_aload0 353 rfl dX10_tellOne_352 ?_
  refine wp_getr 356 rfl dX10_tellOne_353 fX10_79_10 (md_M hm) (mp_seed hm) ?_
  refine wp_aload0 357 rfl dX10_tellOne_356 ?_
  refine wp_geti 360 rfl dX10_tellOne_357 fX10_236_10 (md_M hm) ?_
  rw [h19]
  refine wp_aload0 361 rfl dX10_tellOne_360 ?_
  refine wp_iconst (nI 0) 362 rfl dX10_tellOne_361 (by decide) ?_
  refine wp_sipush (nI 9999) 365 rfl dX10_tellOne_362 (by decide) ?_
  refine wp_Vi2 368 rfl dX10_tellOne_365 kX10_toldInt lX10_278 (md_M hm) (nl rfl) (nl rfl) (s_toldInt hm tk hq hw _ hr (fun t' w' e => by cases e; exact k0) 0 9999 (by decide) (by decide)) (fun v J1 ρ1 hq1 => ?_)
  obtain ⟨rfl, f1, p1, rfl⟩ := hq1
  refine wp_iast 369 rfl dX10_tellOne_368 (ms_seed hm) (s) (by first | rfl | simp only [pk_mul, nI_add]) (⟨by omega, by decide⟩) ?_
  refine wp_goto 425 rfl dX10_tellOne_369 ?_
  refine wp_vret dX10_tellOne_425 rfl ?_
  have g1 : mf [m_seed] [] J1 (sm_u J1 m_seed s (nI (g_nv tk 0 (g_pass (.inr (t, w)))))) := mf.u (by decide) (by decide)
  refine kk _ ((f1.wk (by decide) (by decide)).tr (g1.wk (by decide) (by decide))) (prs.kept (r := g_ti tk 9999 (.inr (t, w))) p1 g1 (by decide)) (fun j hj => ?_) (fun t' w' e => ?_)
  · rw [sm_u_eq, pk_un hj, f1.1 m_seed (by decide) (by decide)]
  · rw [sm_u_eq, pk_us, (g_ti_inv e).2.1]
theorem t1_round (hm : md ρ) (tk : tkf) (hw : tw tk) (hq : tq I ρ tk) (t : Nat) (w : Nat × Nat) (hr : prs I tk (.inr (t, w))) (k0 : ¬ (tk t).1 = 0) (N : List (Nat × Nat)) (hN : nmR I ρ N) (hl : N.length ≤ 11) (s R : Nat) (hs : s < 2) (h19 : I mM 19 = nI s) (hR : I m_rounds s = nI R) (hR10 : R ≤ 10)
    (kk : ∀ I1, mf [m_whoOf, m_doorOf, m_everyOf, m_fromOf, m_rounds] mPF I I1 → prs I1 tk (g_rnd tk N (g_room R 10 (.inr (t, w)))) → (∀ j, ¬ (j = 10 * s + R ∧ R < 10) → I1 m_whoOf j = I m_whoOf j ∧ I1 m_doorOf j = I m_doorOf j ∧ I1 m_everyOf j = I m_everyOf j ∧ I1 m_fromOf j = I m_fromOf j) → (∀ j, ¬ j = s → I1 m_rounds j = I m_rounds j) →
      (∀ t' w', g_rnd tk N (g_room R 10 (.inr (t, w))) = .inr (t', w') → I1 m_rounds s = nI (R + 1) ∧ I1 m_everyOf (10 * s + R) = nI (tk (t + 3)).2.2.1 ∧ I1 m_fromOf (10 * s + R) = nI (tk (t + 4)).2.2.1 ∧ (∀ k, g_find (tk (t + 1)).2.2.2 10 N = some k → I1 m_whoOf (10 * s + R) = nI k) ∧ ∀ k, g_find (tk (t + 2)).2.2.2 0 N = some k → I1 m_doorOf (10 * s + R) = nI k) → QQ (.inl none) I1 ρ) :
    sm_V G xX10_tellOne (d + 6) 284 [.ref mM, .retAddr 0, .retAddr 0] [] I ρ QQ := by
  refine wp_aload0 285 rfl dX10_tellOne_284 ?_
  refine wp_aload0 286 rfl dX10_tellOne_285 ?_
  refine wp_getr 289 rfl dX10_tellOne_286 fX10_58_10 (md_M hm) (mp_rounds hm) ?_
  refine wp_aload0 290 rfl dX10_tellOne_289 ?_
  refine wp_geti 293 rfl dX10_tellOne_290 fX10_236_10 (md_M hm) ?_
  refine wp_iald 294 rfl dX10_tellOne_293 (ms_rounds hm) (s) (h19) (⟨by omega, by decide⟩) ?_
  rw [hR]
  refine wp_bipush (nI 10) 296 rfl dX10_tellOne_294 (by decide) ?_
  refine wp_Vv2 299 rfl dX10_tellOne_296 kX10_roomFor lX10_264 (md_M hm) (nl rfl) (nl rfl) (s_roomFor hm tk hq _ hr (fun t' w' e => by cases e; exact k0) R 10 (by omega) (by omega)) (fun J1 ρ1 hq1 => ?_)
  obtain ⟨rfl, f1, p1⟩ := hq1
  refine wp_aload0 300 rfl dX10_tellOne_299 ?_
  refine wp_geti 303 rfl dX10_tellOne_300 fX10_203_10 (md_M hm) ?_
  generalize hg : g_room R 10 (.inr (t, w)) = r1 at p1 kk
  cases r1 with
  | inl y =>
    obtain ⟨m, j⟩ := y
    have hm12 := p1.1
    rw [p1.2.1]
    refine wp_if_ne 306 425 rfl rfl dX10_tellOne_303 (fun c303 => ?_) (fun c303 => absurd c303 (nI_ne0 (by omega) (by omega)))
    refine wp_vret dX10_tellOne_425 rfl ?_
    refine kk J1 (f1.wk (by decide) (by decide)) p1 (fun j _ => ?_) (fun j _ => ?_) (fun t' w' e => by cases e)
    · rw [f1.1 m_whoOf (by decide) (by decide), f1.1 m_doorOf (by decide) (by decide), f1.1 m_everyOf (by decide) (by decide), f1.1 m_fromOf (by decide) (by decide)]
      exact ⟨rfl, rfl, rfl, rfl⟩
    · rw [f1.1 m_rounds (by decide) (by decide)]
  | inr y =>
    obtain ⟨t1, w1⟩ := y
    obtain ⟨t0, e0, nR, q0, n0⟩ := g_room_inv hg
    cases e0
    subst q0
    rw [p1.2.1]
    have hq1 : tq J1 ρ1 tk := hq.kept f1 (by decide) rfl
    have hN1 : nmR J1 ρ1 N := hN.kept f1 (by decide) (by decide) rfl
    refine wp_if_ne 306 425 rfl rfl dX10_tellOne_303 (fun c303 => absurd (rfl) c303) (fun c303 => ?_)
    refine wp_aload0 307 rfl dX10_tellOne_306 ?_
    refine wp_Vv0 310 rfl dX10_tellOne_307 kX10_tellRound lX10_275 (md_M hm) (nl rfl) (nl rfl) (s_tellRound hm tk hw hq1 _ _ p1 N hN1 hl s R hs ((f1.2 19 (by decide)).trans h19) (by rw [f1.1 m_rounds (by decide) (by decide)]; exact hR) (by omega)) (fun J2 ρ2 hq2 => ?_)
    obtain ⟨rfl, f2, p2, z1, z2, z3⟩ := hq2
    refine wp_goto 425 rfl dX10_tellOne_310 ?_
    refine wp_vret dX10_tellOne_425 rfl ?_
    refine kk J2 ((f1.wk (by decide) (by decide)).tr f2) p2 (fun j hj => ?_) (fun j hj => ?_) z3
    · obtain ⟨a1, a2, a3, a4⟩ := z1 j (fun e => hj ⟨e, by omega⟩)
      rw [a1, a2, a3, a4, f1.1 m_whoOf (by decide) (by decide), f1.1 m_doorOf (by decide) (by decide), f1.1 m_everyOf (by decide) (by decide), f1.1 m_fromOf (by decide) (by decide)]
      exact ⟨rfl, rfl, rfl, rfl⟩
    · rw [z2 j hj, f1.1 m_rounds (by decide) (by decide)]
theorem t1_none (hm : md ρ) (tk : tkf) (hw : tw tk) (hq : tq I ρ tk) (t : Nat) (w : Nat × Nat) (hr : prs I tk (.inr (t, w))) (h23 : ¬ (23 ≤ (tk t).1 ∧ (tk t).1 ≤ 25))
    (kk : ∀ I1, mf [] mPF I I1 → prs I1 tk (.inl (1, t)) → QQ (.inl none) I1 ρ) : sm_V G xX10_tellOne (d + 6) 372 [.ref mM, .retAddr 0, .retAddr 0] [] I ρ QQ := by
  obtain ⟨⟨p1, p2, p3, p4⟩, h13, h11, h15, h16⟩ := id hr
  obtain ⟨q1, q2, q3, q4⟩ := hq t p1 p2
  obtain ⟨b1, b2, b3, b4⟩ := hw.1 t
  have bad : ∀ v, sm_V G xX10_tellOne (d + 6) 403 [.ref mM, .int v, .retAddr 0] [] I ρ QQ := by
    intro v
    refine wp_aload0 404 rfl dX10_tellOne_403 ?_
    refine wp_iconst (nI 1) 405 rfl dX10_tellOne_404 (by decide) ?_
    refine wp_Vv1 408 rfl dX10_tellOne_405 kX10_fail lX10_218 (md_M hm) (nl rfl) (nl rfl) (s_fail hm tk hq _ hr 1 (Or.inl rfl)) (fun J1 ρ1 hq1 => ?_)
    obtain ⟨rfl, f1, r1⟩ := hq1
    have r1 : prs J1 tk (.inl (1, t)) := r1
    refine wp_aload0 409 rfl dX10_tellOne_408 ?_
    refine wp_geti 412 rfl dX10_tellOne_409 fX10_203_10 (md_M hm) ?_
    rw [r1.2.1]
    refine wp_if_le 415 416 rfl rfl dX10_tellOne_412 (fun c412 => absurd c412 (by decide)) (fun c412 => ?_)
    refine wp_vret dX10_tellOne_415 rfl ?_
    exact kk J1 f1 r1
  refine wp_aload0 373 rfl dX10_tellOne_372 ?_
  refine wp_getr 376 rfl dX10_tellOne_373 fX10_20_10 (md_M hm) (mp_tKind hm) ?_
  refine wp_aload0 377 rfl dX10_tellOne_376 ?_
  refine wp_geti 380 rfl dX10_tellOne_377 fX10_206_10 (md_M hm) ?_
  refine wp_iald 381 rfl dX10_tellOne_380 (ms_tKind hm) (t) (h11) (⟨by omega, by decide⟩) ?_
  rw [q1]
  by_cases hlt : (tk t).1 < 23
  · refine wp_bipush (nI 23) 383 rfl dX10_tellOne_381 (by decide) ?_
    refine wp_isub 384 rfl dX10_tellOne_383 ?_
    refine wp_istore1 385 rfl dX10_tellOne_384 (by decide) rfl ?_
    refine wp_iload1 386 rfl dX10_tellOne_385 ?_
    refine wp_if_lt 389 403 rfl rfl dX10_tellOne_386 (fun c386 => ?_) (fun c386 => absurd (by have hh : ∀ k, k < 23 → nI k - nI 23 < 0 := (by decide); exact hh _ hlt) c386)
    exact bad _
  · refine wp_bipush (nI 23) 383 rfl dX10_tellOne_381 (by decide) ?_
    refine wp_isub 384 rfl dX10_tellOne_383 ?_
    rw [pk_sub (by omega)]
    refine wp_istore1 385 rfl dX10_tellOne_384 (by decide) rfl ?_
    refine wp_iload1 386 rfl dX10_tellOne_385 ?_
    refine wp_if_lt 389 403 rfl rfl dX10_tellOne_386 (fun c386 => absurd c386 (nI_nlt (Nat.zero_le _) (by omega))) (fun c386 => ?_)
    refine wp_aload0 390 rfl dX10_tellOne_389 ?_
    refine wp_getr 393 rfl dX10_tellOne_390 fX10_20_10 (md_M hm) (mp_tKind hm) ?_
    refine wp_aload0 394 rfl dX10_tellOne_393 ?_
    refine wp_geti 397 rfl dX10_tellOne_394 fX10_206_10 (md_M hm) ?_
    refine wp_iald 398 rfl dX10_tellOne_397 (ms_tKind hm) (t) (h11) (⟨by omega, by decide⟩) ?_
    rw [q1]
    refine wp_bipush (nI 25) 400 rfl dX10_tellOne_398 (by decide) ?_
    refine wp_icmp_le 403 408 rfl rfl dX10_tellOne_400 (fun c400 => absurd c400 (nI_ge (by omega) (by omega))) (fun c400 => ?_)
    exact bad _
theorem t1_law (hm : md ρ) (tk : tkf) (hw : tw tk) (hq : tq I ρ tk) (t : Nat) (w : Nat × Nat) (hr : prs I tk (.inr (t, w))) (k : Nat) (hk : k < 3) (hkt : (tk t).1 = 23 + k) (s b c : Nat) (hs : s < 2) (h19 : I mM 19 = nI s) (hb : 130 * s ≤ b ∧ b < 130 * s + 125) (h37 : I mM 37 = nI b) (h12 : I mM 12 = nI 0) (h43 : I mM 43 = nI c) (hct : c + (401 - t) ≤ 420 * s + 420) (hc : 420 * s ≤ c)
    (kk : ∀ I1, prs I1 tk (g_must tk 4 (g_law tk (g_pass (.inr (t, w)))).1) → ((∃ x, g_must tk 4 (g_law tk (g_pass (.inr (t, w)))).1 = .inl x ∧ tF s c b I I1) ∨ ∃ t' w' J0, g_must tk 4 (g_law tk (g_pass (.inr (t, w)))).1 = .inr (t', w') ∧ tF s c b I J0 ∧ I1 = sm_u (sm_u J0 m_lawFirst (3 * s + k) (nI b)) m_lawLast (3 * s + k) (nI (b + (g_law tk (g_pass (.inr (t, w)))).2.1.length + 1)) ∧ J0 mM 12 = nI 0 ∧ J0 mM 43 = nI (c + lw_len (g_law tk (g_pass (.inr (t, w)))).2.1 (g_law tk (g_pass (.inr (t, w)))).2.2) ∧ J0 mM 37 = nI (b + (g_law tk (g_pass (.inr (t, w)))).2.1.length + 1) ∧ lw_at2 (420 * s) (c + lw_len (g_law tk (g_pass (.inr (t, w)))).2.1 (g_law tk (g_pass (.inr (t, w)))).2.2) J0 (g_law tk (g_pass (.inr (t, w)))).2.1 (g_law tk (g_pass (.inr (t, w)))).2.2 b) → QQ (.inl none) I1 ρ) :
    sm_V G xX10_tellOne (d + 6) 372 [.ref mM, .retAddr 0, .retAddr 0] [] I ρ QQ := by
  obtain ⟨⟨p1, p2, p3, p4⟩, h13, h11, h15, h16⟩ := id hr
  obtain ⟨q1, q2, q3, q4⟩ := hq t p1 p2
  refine wp_aload0 373 rfl dX10_tellOne_372 ?_
  refine wp_getr 376 rfl dX10_tellOne_373 fX10_20_10 (md_M hm) (mp_tKind hm) ?_
  refine wp_aload0 377 rfl dX10_tellOne_376 ?_
  refine wp_geti 380 rfl dX10_tellOne_377 fX10_206_10 (md_M hm) ?_
  refine wp_iald 381 rfl dX10_tellOne_380 (ms_tKind hm) (t) (h11) (⟨by omega, by decide⟩) ?_
  rw [q1, hkt]
  refine wp_bipush (nI 23) 383 rfl dX10_tellOne_381 (by decide) ?_
  refine wp_isub 384 rfl dX10_tellOne_383 ?_
  rw [pk_sub (by omega), show 23 + k - 23 = k by omega]
  refine wp_istore1 385 rfl dX10_tellOne_384 (by decide) rfl ?_
  refine wp_iload1 386 rfl dX10_tellOne_385 ?_
  refine wp_if_lt 389 403 rfl rfl dX10_tellOne_386 (fun c386 => absurd c386 (nI_nlt (Nat.zero_le _) (by omega))) (fun c386 => ?_)
  refine wp_aload0 390 rfl dX10_tellOne_389 ?_
  refine wp_getr 393 rfl dX10_tellOne_390 fX10_20_10 (md_M hm) (mp_tKind hm) ?_
  refine wp_aload0 394 rfl dX10_tellOne_393 ?_
  refine wp_geti 397 rfl dX10_tellOne_394 fX10_206_10 (md_M hm) ?_
  refine wp_iald 398 rfl dX10_tellOne_397 (ms_tKind hm) (t) (h11) (⟨by omega, by decide⟩) ?_
  rw [q1, hkt]
  refine wp_bipush (nI 25) 400 rfl dX10_tellOne_398 (by decide) ?_
  refine wp_icmp_le 403 408 rfl rfl dX10_tellOne_400 (fun c400 => ?_) (fun c400 => absurd (nI_le (by omega) (by omega)) c400)
  refine wp_aload0 409 rfl dX10_tellOne_408 ?_
  refine wp_geti 412 rfl dX10_tellOne_409 fX10_203_10 (md_M hm) ?_
  rw [h13]
  refine wp_if_le 415 416 rfl rfl dX10_tellOne_412 (fun c412 => ?_) (fun c412 => absurd (by decide) c412)
  refine wp_aload0 417 rfl dX10_tellOne_416 ?_
  refine wp_Vv0 420 rfl dX10_tellOne_417 kX10_goesOn lX10_224 (md_M hm) (nl rfl) (nl rfl) (s_goesOn hm tk hq _ hr (fun t' w' e => by cases e; omega)) (fun J1 ρ1 hq1 => ?_)
  obtain ⟨rfl, f1, r1⟩ := hq1
  have hq1 : tq J1 ρ1 tk := hq.kept f1 (by decide) rfl
  have T1 : tF s c b I J1 := tF.of f1 (by decide) (by decide)
  refine wp_aload0 421 rfl dX10_tellOne_420 ?_
  refine wp_iload1 422 rfl dX10_tellOne_421 ?_
  refine wp_Vv1 425 rfl dX10_tellOne_422 kX10_tellLaw lX10_281 (md_M hm) (nl rfl) (nl rfl) (s_tellLaw hm tk hw hq1 _ r1 s b c k hs hk ((f1.2 19 (by decide)).trans h19) hb ((f1.2 37 (by decide)).trans h37) (fun t' w' e => by obtain ⟨t0, e0, q0, n0⟩ := g_pass_inv e; cases e0; exact ⟨(f1.2 12 (by decide)).trans h12, (f1.2 43 (by decide)).trans h43, by omega⟩) hc) (fun J2 ρ2 hq2 => ?_)
  obtain ⟨rfl, r2, o2⟩ := hq2
  refine wp_vret dX10_tellOne_425 rfl ?_
  refine kk J2 r2 ?_
  rcases o2 with ⟨x, e, t2⟩ | ⟨t', w', J0, e, t2, o2⟩
  · exact Or.inl ⟨x, e, T1.tr t2 (Nat.le_refl _) (Nat.le_refl _)⟩
  · exact Or.inr ⟨t', w', J0, e, T1.tr t2 (Nat.le_refl _) (Nat.le_refl _), o2⟩
end M43
