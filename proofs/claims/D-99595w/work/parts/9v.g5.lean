/-! ===== the component's parser: wind, near, seed, a law; told ===== -/
set_option maxRecDepth 100000
section G5p
variable {G : sm_G} {D : Nat} {I : sm_I} {ρ : sm_R} {P : Nat × (Nat → Int32)} {lo : Nat} {q : bQ} {nd nc : Nat → Nat} {T : tx} {N : List (Nat × Nat)} {t : Nat} {w : Nat × Nat}
theorem td_wind (hS : tS I ρ P lo q nd nc T N t w) (hk : (kt P t).1 = 26) (x2 : Value) : sm_V G xX3_told (D + 9) 294 [.ref 73, .int (nI 6), x2] [] I ρ (xO (oA lo) (oB lo) I ρ (kt P) t 0 (g_num (kt P) 0 100 (g_pass (.inr (t, w)))) (tE lo (x_wind T (nI (kt P (t + 1)).2.2.1)) N)) := by
  obtain ⟨hR, hp, ho, hl, hT, hN, m6, m5, m10⟩ := hS
  have hK := hR.1
  have h8 := hR.2.1
  have p4 := hp.1.1
  have b1 := hT.1.1
  have b2 := hT.1.2.1
  have b3 := hT.1.2.2.1
  refine wp_aload0 295 rfl dX3_told_294 ?_
  refine wp_Vx0 298 rfl dX3_told_295 kX3_pass lX3_59 (o4 hK) (nl rfl) (nl rfl) (s_ppass hK hR.2.2.2 hp (by rw [hk]; decide)) (fun v J1 ρ1 z => ?_) (fun b J1 ρ1 z => z.outO rfl hK gF.rf (fun _ _ z => Or.inl z) (bud.rf (Nat.le_refl t)) (by omega) (fun x e => by rw [e, g_num_l]))
  obtain ⟨e0, j1, t', w', e1, p1, rfl⟩ := z.ok
  have e0 := e0.symm
  subst e0
  rw [e1]
  obtain ⟨t9, e9, q9, n9⟩ := g_pass_inv e1
  cases e9
  subst q9
  have hR1 := hR.P j1
  have f1 : gF pA pNo I ρ J1 ρ := j1.g (fun _ z => z)
  have f1' : gF (oA lo) (oB lo) I ρ J1 ρ := f1.wk (fun _ _ z => Or.inl z) (fun _ _ z => z.elim)
  show sm_V G xX3_told (D + 9) 298 [.ref 73, .int (nI 6), x2] [] J1 ρ _
  refine wp_aload0 299 rfl dX3_told_298 ?_
  refine wp_getr 302 rfl dX3_told_299 fX3_83_4 (o4 hK) (hl) ?_
  refine wp_aload0 303 rfl dX3_told_302 ?_
  refine wp_iconst (nI 0) 304 rfl dX3_told_303 (by decide) ?_
  refine wp_bipush (nI 100) 306 rfl dX3_told_304 (by decide) ?_
  refine wp_Vx2 309 rfl dX3_told_306 kX3_number lX3_168 (o4 hK) (nl rfl) (nl rfl) (s_pnumber hK hR1.2.2.1 hR1.2.2.2 p1 0 100 (by decide) (by decide)) (fun v J2 ρ2 z => ?_) (fun b J2 ρ2 z => z.outO rfl hK f1' (fun _ _ z => Or.inl z) (bud.rf (show t ≤ t + 1 by omega)) (by omega) (fun x e => e))
  obtain ⟨e0, j2, t2, w2, e2, p2, rfl⟩ := z.ok
  have e0 := e0.symm
  subst e0
  rw [e2]
  obtain ⟨t9, w9, e9, k9, q9, n9', -, -⟩ := g_num_inv e2
  cases e9
  subst q9
  show sm_V G xX3_told (D + 9) 309 [.ref 73, .int (nI 6), x2] [.int (nI (kt P (t + 1)).2.2.1), .ref lo] J2 ρ _
  refine wp_puti 312 rfl dX3_told_309 pX3_176_5 (b3) (⟨rfl, rfl⟩) ?_
  refine wp_goto 365 rfl dX3_told_312 ?_
  refine wp_vret dX3_told_365 rfl ?_
  have j12 := j1.tr j2
  have fu : gF (fun x => x = lo) pNo J2 ρ (sm_u J2 lo 4 (nI (kt P (t + 1)).2.2.1)) ρ := gF.u
  have F : gF (fun y => pA y ∨ y = lo) pNo I ρ (sm_u J2 lo 4 (nI (kt P (t + 1)).2.2.1)) ρ := (j12.g (A := fun y => pA y ∨ y = lo) (B := pNo) (fun _ z => Or.inl z)).tr fu (fun _ _ z => Or.inr z) (fun _ _ z => z)
  have e73 : sm_u J2 lo 4 (nI (kt P (t + 1)).2.2.1) 73 = J2 73 := sm_u_ne _ _ _ (by omega)
  have elo : J2 lo = I lo := j12.1 lo (by omega)
  obtain ⟨v4, v5, v6⟩ := hT.2.2.2.2.2.1
  refine ⟨F.wk (fun x hx z => by rcases z with z | z; exact Or.inl z; exact Or.inr (by omega)) (fun _ _ z => z.elim), none, rfl, p2.I e73, by rw [e73, j2.2, j1.2]; exact ho, bud.rf (by omega), rfl, hl, q, nd, nc, hT.num F rfl rfl rfl rfl rfl ⟨?_, ?_, ?_⟩, hN⟩
  · rw [sm_u_eq, pk_us]; rfl
  · rw [sm_u_eq, pk_un (by decide), elo]; exact v5
  · rw [sm_u_eq, pk_un (by decide), elo]; exact v6
theorem td_near (hS : tS I ρ P lo q nd nc T N t w) (hk : (kt P t).1 = 27) (x2 : Value) : sm_V G xX3_told (D + 9) 315 [.ref 73, .int (nI 7), x2] [] I ρ (xO (oA lo) (oB lo) I ρ (kt P) t 0 (g_num (kt P) 0 396 (g_pass (.inr (t, w)))) (tE lo (x_near T (nI (kt P (t + 1)).2.2.1)) N)) := by
  obtain ⟨hR, hp, ho, hl, hT, hN, m6, m5, m10⟩ := hS
  have hK := hR.1
  have h8 := hR.2.1
  have p4 := hp.1.1
  have b1 := hT.1.1
  have b2 := hT.1.2.1
  have b3 := hT.1.2.2.1
  refine wp_aload0 316 rfl dX3_told_315 ?_
  refine wp_Vx0 319 rfl dX3_told_316 kX3_pass lX3_59 (o4 hK) (nl rfl) (nl rfl) (s_ppass hK hR.2.2.2 hp (by rw [hk]; decide)) (fun v J1 ρ1 z => ?_) (fun b J1 ρ1 z => z.outO rfl hK gF.rf (fun _ _ z => Or.inl z) (bud.rf (Nat.le_refl t)) (by omega) (fun x e => by rw [e, g_num_l]))
  obtain ⟨e0, j1, t', w', e1, p1, rfl⟩ := z.ok
  have e0 := e0.symm
  subst e0
  rw [e1]
  obtain ⟨t9, e9, q9, n9⟩ := g_pass_inv e1
  cases e9
  subst q9
  have hR1 := hR.P j1
  have f1 : gF pA pNo I ρ J1 ρ := j1.g (fun _ z => z)
  have f1' : gF (oA lo) (oB lo) I ρ J1 ρ := f1.wk (fun _ _ z => Or.inl z) (fun _ _ z => z.elim)
  show sm_V G xX3_told (D + 9) 319 [.ref 73, .int (nI 7), x2] [] J1 ρ _
  refine wp_aload0 320 rfl dX3_told_319 ?_
  refine wp_getr 323 rfl dX3_told_320 fX3_83_4 (o4 hK) (hl) ?_
  refine wp_aload0 324 rfl dX3_told_323 ?_
  refine wp_iconst (nI 0) 325 rfl dX3_told_324 (by decide) ?_
  refine wp_sipush (nI 396) 328 rfl dX3_told_325 (by decide) ?_
  refine wp_Vx2 331 rfl dX3_told_328 kX3_number lX3_168 (o4 hK) (nl rfl) (nl rfl) (s_pnumber hK hR1.2.2.1 hR1.2.2.2 p1 0 396 (by decide) (by decide)) (fun v J2 ρ2 z => ?_) (fun b J2 ρ2 z => z.outO rfl hK f1' (fun _ _ z => Or.inl z) (bud.rf (show t ≤ t + 1 by omega)) (by omega) (fun x e => e))
  obtain ⟨e0, j2, t2, w2, e2, p2, rfl⟩ := z.ok
  have e0 := e0.symm
  subst e0
  rw [e2]
  obtain ⟨t9, w9, e9, k9, q9, n9', -, -⟩ := g_num_inv e2
  cases e9
  subst q9
  show sm_V G xX3_told (D + 9) 331 [.ref 73, .int (nI 7), x2] [.int (nI (kt P (t + 1)).2.2.1), .ref lo] J2 ρ _
  refine wp_puti 334 rfl dX3_told_331 pX3_179_5 (b3) (⟨rfl, rfl⟩) ?_
  refine wp_goto 365 rfl dX3_told_334 ?_
  refine wp_vret dX3_told_365 rfl ?_
  have j12 := j1.tr j2
  have fu : gF (fun x => x = lo) pNo J2 ρ (sm_u J2 lo 5 (nI (kt P (t + 1)).2.2.1)) ρ := gF.u
  have F : gF (fun y => pA y ∨ y = lo) pNo I ρ (sm_u J2 lo 5 (nI (kt P (t + 1)).2.2.1)) ρ := (j12.g (A := fun y => pA y ∨ y = lo) (B := pNo) (fun _ z => Or.inl z)).tr fu (fun _ _ z => Or.inr z) (fun _ _ z => z)
  have e73 : sm_u J2 lo 5 (nI (kt P (t + 1)).2.2.1) 73 = J2 73 := sm_u_ne _ _ _ (by omega)
  have elo : J2 lo = I lo := j12.1 lo (by omega)
  obtain ⟨v4, v5, v6⟩ := hT.2.2.2.2.2.1
  refine ⟨F.wk (fun x hx z => by rcases z with z | z; exact Or.inl z; exact Or.inr (by omega)) (fun _ _ z => z.elim), none, rfl, p2.I e73, by rw [e73, j2.2, j1.2]; exact ho, bud.rf (by omega), rfl, hl, q, nd, nc, hT.num F rfl rfl rfl rfl rfl ⟨?_, ?_, ?_⟩, hN⟩
  · rw [sm_u_eq, pk_un (by decide), elo]; exact v4
  · rw [sm_u_eq, pk_us]; rfl
  · rw [sm_u_eq, pk_un (by decide), elo]; exact v6
theorem td_seed (hS : tS I ρ P lo q nd nc T N t w) (hk : (kt P t).1 = 28) (x2 : Value) : sm_V G xX3_told (D + 9) 337 [.ref 73, .int (nI 8), x2] [] I ρ (xO (oA lo) (oB lo) I ρ (kt P) t 0 (g_num (kt P) 0 9999 (g_pass (.inr (t, w)))) (tE lo (x_seed T (nI (kt P (t + 1)).2.2.1)) N)) := by
  obtain ⟨hR, hp, ho, hl, hT, hN, m6, m5, m10⟩ := hS
  have hK := hR.1
  have h8 := hR.2.1
  have p4 := hp.1.1
  have b1 := hT.1.1
  have b2 := hT.1.2.1
  have b3 := hT.1.2.2.1
  refine wp_aload0 338 rfl dX3_told_337 ?_
  refine wp_Vx0 341 rfl dX3_told_338 kX3_pass lX3_59 (o4 hK) (nl rfl) (nl rfl) (s_ppass hK hR.2.2.2 hp (by rw [hk]; decide)) (fun v J1 ρ1 z => ?_) (fun b J1 ρ1 z => z.outO rfl hK gF.rf (fun _ _ z => Or.inl z) (bud.rf (Nat.le_refl t)) (by omega) (fun x e => by rw [e, g_num_l]))
  obtain ⟨e0, j1, t', w', e1, p1, rfl⟩ := z.ok
  have e0 := e0.symm
  subst e0
  rw [e1]
  obtain ⟨t9, e9, q9, n9⟩ := g_pass_inv e1
  cases e9
  subst q9
  have hR1 := hR.P j1
  have f1 : gF pA pNo I ρ J1 ρ := j1.g (fun _ z => z)
  have f1' : gF (oA lo) (oB lo) I ρ J1 ρ := f1.wk (fun _ _ z => Or.inl z) (fun _ _ z => z.elim)
  show sm_V G xX3_told (D + 9) 341 [.ref 73, .int (nI 8), x2] [] J1 ρ _
  refine wp_aload0 342 rfl dX3_told_341 ?_
  refine wp_getr 345 rfl dX3_told_342 fX3_83_4 (o4 hK) (hl) ?_
  refine wp_aload0 346 rfl dX3_told_345 ?_
  refine wp_iconst (nI 0) 347 rfl dX3_told_346 (by decide) ?_
  refine wp_sipush (nI 9999) 350 rfl dX3_told_347 (by decide) ?_
  refine wp_Vx2 353 rfl dX3_told_350 kX3_number lX3_168 (o4 hK) (nl rfl) (nl rfl) (s_pnumber hK hR1.2.2.1 hR1.2.2.2 p1 0 9999 (by decide) (by decide)) (fun v J2 ρ2 z => ?_) (fun b J2 ρ2 z => z.outO rfl hK f1' (fun _ _ z => Or.inl z) (bud.rf (show t ≤ t + 1 by omega)) (by omega) (fun x e => e))
  obtain ⟨e0, j2, t2, w2, e2, p2, rfl⟩ := z.ok
  have e0 := e0.symm
  subst e0
  rw [e2]
  obtain ⟨t9, w9, e9, k9, q9, n9', -, -⟩ := g_num_inv e2
  cases e9
  subst q9
  show sm_V G xX3_told (D + 9) 353 [.ref 73, .int (nI 8), x2] [.int (nI (kt P (t + 1)).2.2.1), .ref lo] J2 ρ _
  refine wp_puti 356 rfl dX3_told_353 pX3_182_5 (b3) (⟨rfl, rfl⟩) ?_
  refine wp_goto 365 rfl dX3_told_356 ?_
  refine wp_vret dX3_told_365 rfl ?_
  have j12 := j1.tr j2
  have fu : gF (fun x => x = lo) pNo J2 ρ (sm_u J2 lo 6 (nI (kt P (t + 1)).2.2.1)) ρ := gF.u
  have F : gF (fun y => pA y ∨ y = lo) pNo I ρ (sm_u J2 lo 6 (nI (kt P (t + 1)).2.2.1)) ρ := (j12.g (A := fun y => pA y ∨ y = lo) (B := pNo) (fun _ z => Or.inl z)).tr fu (fun _ _ z => Or.inr z) (fun _ _ z => z)
  have e73 : sm_u J2 lo 6 (nI (kt P (t + 1)).2.2.1) 73 = J2 73 := sm_u_ne _ _ _ (by omega)
  have elo : J2 lo = I lo := j12.1 lo (by omega)
  obtain ⟨v4, v5, v6⟩ := hT.2.2.2.2.2.1
  refine ⟨F.wk (fun x hx z => by rcases z with z | z; exact Or.inl z; exact Or.inr (by omega)) (fun _ _ z => z.elim), none, rfl, p2.I e73, by rw [e73, j2.2, j1.2]; exact ho, bud.rf (by omega), rfl, hl, q, nd, nc, hT.num F rfl rfl rfl rfl rfl ⟨?_, ?_, ?_⟩, hN⟩
  · rw [sm_u_eq, pk_un (by decide), elo]; exact v4
  · rw [sm_u_eq, pk_un (by decide), elo]; exact v5
  · rw [sm_u_eq, pk_us]; rfl
theorem g_law_l {tk : tkf} {x : Nat × Nat} : (g_law tk (.inl x)).1 = .inl x := by
  unfold g_law
  show (g_ifs tk 4 (.inl x)).1 = _
  rw [g_ifs_l]
theorem td_law (hS : tS I ρ P lo q nd nc T N t w) {k : Nat} (hk : (kt P t).1 = 23 + k) (hk3 : k < 3) (x2 : Value) : sm_V G xX3_told (D + 28) 35 [.ref 73, .int (nI (3 + k)), x2] [] I ρ (xO (oA lo) (oB lo) I ρ (kt P) t 0 (g_law (kt P) (g_pass (.inr (t, w)))).1 (tE lo (x_law T k (g_law (kt P) (g_pass (.inr (t, w)))).2) N)) := by
  obtain ⟨hR, hp, ho, hl, hT, hN, m6, m5, m10⟩ := hS
  have hK := hR.1
  have h8 := hR.2.1
  have p4 := hp.1.1
  have b1 := hT.1.1
  have b2 := hT.1.2.1
  have b3 := hT.1.2.2.1
  have b4 := hT.1.2.2.2.1.2.2.2
  have b8 := hT.1.2.2.2.2.2.2.2
  refine wp_aload0 36 rfl dX3_told_35 ?_
  refine wp_Vx0 39 rfl dX3_told_36 kX3_pass lX3_59 (o4 hK) (nl rfl) (nl rfl) (s_ppass hK hR.2.2.2 hp (by rw [hk]; unfold cGd; omega)) (fun v J1 ρ1 z => ?_) (fun b J1 ρ1 z => z.outO rfl hK gF.rf (fun _ _ z => Or.inl z) (bud.rf (Nat.le_refl t)) (by omega) (fun x e => by rw [e, g_law_l]))
  obtain ⟨e0, j1, t', w', e1, p1, rfl⟩ := z.ok
  have e0 := e0.symm
  subst e0
  rw [e1]
  obtain ⟨t9, e9, q9, n9⟩ := g_pass_inv e1
  cases e9
  subst q9
  have hR1 := hR.P j1
  have f1 : gF pA pNo I ρ J1 ρ := j1.g (fun _ z => z)
  have f1' : gF (oA lo) (oB lo) I ρ J1 ρ := f1.wk (fun _ _ z => Or.inl z) (fun _ _ z => z.elim)
  have o1 : J1 73 4 = nI 0 := j1.2.trans ho
  show sm_V G xX3_told (D + 28) 39 [.ref 73, .int (nI (3 + k)), x2] [] J1 ρ _
  refine wp_aload0 40 rfl dX3_told_39 ?_
  refine wp_getr 43 rfl dX3_told_40 fX3_83_4 (o4 hK) (hl) ?_
  refine wp_getr 46 rfl dX3_told_43 fX3_109_5 (b3) (b4) ?_
  refine wp_iload1 47 rfl dX3_told_46 ?_
  refine wp_iconst (nI 3) 48 rfl dX3_told_47 (by decide) ?_
  refine wp_isub 49 rfl dX3_told_48 ?_
  rw [pk_sub (by omega), Nat.add_sub_cancel_left]
  refine wp_aload0 50 rfl dX3_told_49 ?_
  refine wp_Vx0 53 rfl dX3_told_50 kX3_law lX3_113 (o4 hK) (nl rfl) (nl rfl) (s_plaw hR1 p1 o1) (fun v J2 ρ2 z => ?_) (fun b J2 ρ2 z => z.outO (t1 := t + 1) (s' := 1) (t2 := t) rfl hK h8 (fun _ _ z => z) f1' (fun _ _ z => Or.inl z) (fun _ _ z => z.elim) (bud.rf (Nat.le_refl t)) (Nat.le_refl _) (fun x e => e))
  obtain ⟨f2, t2, w2, e2, p2, o2', bd2, rfl, hL⟩ := z.ok
  rw [e2]
  have h2l := f2.1
  have hbL := hL.1
  have s11 : ρ2.2.2.1 (ρ.2.2.2.1 + 64) = (11, 0) := hL.2.1.1.1
  have s4 : ρ2.2.2.1 (lo + 4) = (109, 3) := (f2.eS (by omega)).trans b8
  show sm_V G xX3_told (D + 28) 53 [.ref 73, .int (nI (3 + k)), x2] [.ref (ρ.2.2.2.1 + 64), .int (nI k), .ref (lo + 4)] J2 ρ2 _
  refine wp_aast (t := 9) 54 rfl dX3_told_53 (by decide) rfl s4 k rfl ⟨hk3, by decide⟩ s11 as11 ?_
  refine wp_vret dX3_told_54 rfl ?_
  have fI2 : gF pA pNo I ρ J2 ρ2 := f1.tr f2 (fun _ _ z => z) (fun _ _ z => z)
  have hT2 : bT J2 ρ2 lo q nd nc T := hT.g fI2 (fun x hx z => by unfold pA at z; omega) (fun _ _ z => z)
  have fE : gF pNo (fun y => y = lo + 4) J2 ρ2 J2 (ρ2.1, sm_up ρ2.2.1 (lo + 4) k (some (ρ.2.2.2.1 + 64)), ρ2.2.2) := gF.p
  have hL2 := (hL.lo (show lo ≤ ρ.2.2.2.1 + 64 by omega)).k fE (fun _ _ _ z => z) (fun x hx hk z => by
    have z : x = lo + 4 := z
    rw [z, s4] at hk
    unfold lk at hk
    simp at hk)
  have hT3 := hT2.law (fE.wk (fun _ _ z => z.elim) (fun _ _ z => z)) (sm_up_eq _ _ _ _) hL2
  refine ⟨(fI2.wk (fun _ _ z => Or.inl z) (fun _ _ z => z.elim)).tr fE (fun _ _ z => z.elim) (fun x hx z => by show lo ≤ x; omega), none, rfl, p2, o2', ?_, rfl, ?_, q, nd, nc, hT3, hN⟩
  · obtain ⟨y1, y2⟩ := bd2
    exact ⟨by show ρ2.2.2.2.1 + _ ≤ _; omega, by show ρ2.2.2.2.2 + _ ≤ _; omega⟩
  · rw [fE.eP (by omega) (by omega), fI2.eP (by omega) (fun z => z)]
    exact hl
/-- what is told, as the component tells it: the outcome ahead of the semicolon, the text, the names -/
def h_one (tk : tkf) (t : Nat) (w : Nat × Nat) (T : tx) (N : List (Nat × Nat)) : pR × tx × List (Nat × Nat) :=
  if (tk t).1 = 20 then (g_face tk 4 (g_named tk N (g_room (tx_D T) 6 (.inr (t, w)))), x_door T (fun p => nI (tk (t + 2 + p)).2.2.1), N ++ [((tk (t + 1)).2.2.2, tx_D T)])
  else if (tk t).1 = 21 then (g_face tk 4 (g_named tk N (g_room (tx_C T) 5 (.inr (t, w)))), x_caller T (fun p => nI (tk (t + 2 + p)).2.2.1), N ++ [((tk (t + 1)).2.2.2, 10 + tx_C T)])
  else if (tk t).1 = 22 then (g_num tk 0 29 (g_num tk 1 30 (g_known tk N 0 (g_known tk N 10 (g_room (tx_R T) 10 (.inr (t, w)))))), x_round T (kF (tk (t + 1)).2.2.2 10 N, kF (tk (t + 2)).2.2.2 0 N, nI (tk (t + 3)).2.2.1, nI (tk (t + 4)).2.2.1), N)
  else if (tk t).1 = 26 then (g_num tk 0 100 (g_pass (.inr (t, w))), x_wind T (nI (tk (t + 1)).2.2.1), N)
  else if (tk t).1 = 27 then (g_num tk 0 396 (g_pass (.inr (t, w))), x_near T (nI (tk (t + 1)).2.2.1), N)
  else if (tk t).1 = 28 then (g_num tk 0 9999 (g_pass (.inr (t, w))), x_seed T (nI (tk (t + 1)).2.2.1), N)
  else if 23 ≤ (tk t).1 ∧ (tk t).1 ≤ 25 then ((g_law tk (g_pass (.inr (t, w)))).1, x_law T ((tk t).1 - 23) (g_law tk (g_pass (.inr (t, w)))).2, N)
  else (.inl (1, t), T, N)
/-- a method's end, told from an earlier point -/
theorem xO.fr {A B : Nat → Prop} {I0 I I1 : sm_I} {ρ ρ1 : sm_R} {tk : tkf} {t s : Nat} {r : pR} {post : Option Value → sm_I → sm_R → Prop} {o : sm_O} (h : xO A B I ρ tk t s r post o I1 ρ1) (f : gF A B I0 ρ I ρ) : xO A B I0 ρ tk t s r post o I1 ρ1 := ⟨f.tr h.1 (fun _ _ z => z) (fun _ _ z => z), h.2⟩
theorem s_ptold (hS : tS I ρ P lo q nd nc T N t w) : sm_M G xX3_told (D + 28) [.ref 73] I ρ (xO (oA lo) (oB lo) I ρ (kt P) t 0 (h_one (kt P) t w T N).1 (tE lo (h_one (kt P) t w T N).2.1 (h_one (kt P) t w T N).2.2)) := by
  have hS0 := hS
  obtain ⟨hR, hp, ho, hl, hT, hN, hm⟩ := hS
  have hK := hR.1
  have p4 := hp.1.1
  have h41 := kt_41 (P := P) t
  have hlt := ctS_lt (kt P t).1
  have b1 := hT.1.1
  show sm_V G xX3_told (D + 28) 0 [.ref 73, .retAddr 0, .retAddr 0] [] I ρ _
  by_cases h3 : (kt P t).1 = 3
  · have eg : h_one (kt P) t w T N = (.inl (1, t), T, N) := by
      unfold h_one
      rw [if_neg (by omega), if_neg (by omega), if_neg (by omega), if_neg (by omega), if_neg (by omega), if_neg (by omega), if_neg (by omega)]
    rw [eg]
    refine wp_aload0 1 rfl dX3_told_0 ?_
    refine wp_Vx0 4 rfl dX3_told_1 kX3_sort lX3_65 (o4 hK) (nl rfl) (nl rfl) (s_psort hK hR.2.2.2 hp) (fun v J1 ρ1 z => ?_) (fun b J1 ρ1 z => z.outO rfl hK gF.rf (fun _ _ z => Or.inl z) (bud.rf (Nat.le_refl t)) (by omega) (fun x e => by rw [if_pos h3] at e; cases e; rfl))
    obtain ⟨-, -, t', w', e1, -⟩ := z.ok
    rw [if_pos h3] at e1
    cases e1
  · have hso := s_psort (G := G) (d := D + 24) hK hR.2.2.2 hp
    rw [if_neg h3] at hso
    refine wp_aload0 1 rfl dX3_told_0 ?_
    refine wp_Vx0 4 rfl dX3_told_1 kX3_sort lX3_65 (o4 hK) (nl rfl) (nl rfl) (hso) (fun v J1 ρ1 z => ?_) (fun b J1 ρ1 z => by obtain ⟨-, -, -, m, j, e, -⟩ := z.ex; cases e)
    obtain ⟨e0, j1, t', w', e1, p1, rfl⟩ := z.ok
    have e0 := e0.symm
    subst e0
    cases e1
    have hR1 := hR.P j1
    have f1 : gF pA pNo I ρ J1 ρ := j1.g (fun _ z => z)
    have f1' : gF (oA lo) (oB lo) I ρ J1 ρ := f1.wk (fun _ _ z => Or.inl z) (fun _ _ z => z.elim)
    have hT1 : bT J1 ρ lo q nd nc T := hT.g f1 (fun x hx z => by unfold pA at z; omega) (fun _ _ z => z)
    have hS1 : tS J1 ρ P lo q nd nc T N t w := ⟨hR1, p1, j1.2.trans ho, hl, hT1, hN, hm⟩
    have p13 := p1.2.1
    obtain ⟨-, -, -, -, d5⟩ := p1.ct hR1.2.2.2
    show sm_V G xX3_told (D + 28) 4 [.ref 73, .retAddr 0, .retAddr 0] [.int (nI (ctS (kt P t).1))] J1 ρ _
    have none_ : ∀ x1 : Value, (h_one (kt P) t w T N) = (.inl (1, t), T, N) → sm_V G xX3_told (D + 28) 359 [.ref 73, x1, .retAddr 0] [] J1 ρ (xO (oA lo) (oB lo) I ρ (kt P) t 0 (h_one (kt P) t w T N).1 (tE lo (h_one (kt P) t w T N).2.1 (h_one (kt P) t w T N).2.2)) := fun x1 eg => by
      rw [eg]
      refine wp_aload0 360 rfl dX3_told_359 ?_
      refine wp_iconst (nI 1) 361 rfl dX3_told_360 (by decide) ?_
      refine wp_Ve1 364 rfl dX3_told_361 kX3_wrong lX3_48 (o4 hK) (nl rfl) (nl rfl) (s_pwrong hK hR1.2.2.2 p1) ?_
      refine wp_athrow dX3_told_364 ?_
      exact wp_out rfl (o2 hK) ⟨f1'.tr (M_f_J.g (A := pA) (B := pNo) (fun _ z => z)) (fun _ _ z => Or.inl z) (fun _ _ z => z.elim), rfl, M_f_t, bud.rf (by omega)⟩
    by_cases h20 : 20 ≤ (kt P t).1
    · have d5 := d5 h20
      obtain ⟨k, hk⟩ : ∃ k, (kt P t).1 = 20 + k := ⟨(kt P t).1 - 20, by omega⟩
      rw [hk, Nat.add_sub_cancel_left] at d5
      refine wp_iconst (nI 3) 5 rfl dX3_told_4 (by decide) ?_
      refine wp_icmp_ne 8 23 rfl rfl dX3_told_5 (fun c5 => absurd (by rw [ctS_3.mpr h20]) c5) (fun c5 => ?_)
      refine wp_aload0 9 rfl dX3_told_8 ?_
      refine wp_getr 12 rfl dX3_told_9 fX3_9_4 (o4 hK) (p4_0 hK) ?_
      refine wp_getr 15 rfl dX3_told_12 fX3_52_3 (o3 hK) (p3_6 hK) ?_
      refine wp_aload0 16 rfl dX3_told_15 ?_
      refine wp_geti 19 rfl dX3_told_16 fX3_31_4 (o4 hK) ?_
      refine wp_sald 20 rfl dX3_told_19 (s3_6 hK) (t) (p13) (⟨by omega, by decide⟩) ?_
      rw [d5]
      refine wp_goto 24 rfl dX3_told_20 ?_
      refine wp_istore1 25 rfl dX3_told_24 (by decide) rfl ?_
      by_cases hlaw : 3 ≤ k ∧ k ≤ 5
      · obtain ⟨k', rfl⟩ : ∃ k', k = 3 + k' := ⟨k - 3, by omega⟩
        have eg : h_one (kt P) t w T N = ((g_law (kt P) (g_pass (.inr (t, w)))).1, x_law T k' (g_law (kt P) (g_pass (.inr (t, w)))).2, N) := by
          unfold h_one
          rw [if_neg (by omega), if_neg (by omega), if_neg (by omega), if_neg (by omega), if_neg (by omega), if_neg (by omega), if_pos (by omega), show (kt P t).1 - 23 = k' by omega]
        rw [eg]
        refine wp_iload1 26 rfl dX3_told_25 ?_
        refine wp_iconst (nI 3) 27 rfl dX3_told_26 (by decide) ?_
        refine wp_icmp_lt 30 55 rfl rfl dX3_told_27 (fun c27 => absurd c27 (nI_nlt (by omega) (by omega))) (fun c27 => ?_)
        refine wp_iload1 31 rfl dX3_told_30 ?_
        refine wp_iconst (nI 5) 32 rfl dX3_told_31 (by decide) ?_
        refine wp_icmp_gt 35 55 rfl rfl dX3_told_32 (fun c32 => absurd c32 (nI_nlt (by omega) (by decide))) (fun c32 => ?_)
        exact (td_law hS1 (show (kt P t).1 = 23 + k' by omega) (by omega) _).mono (fun o I' ρ' z => z.fr f1')
      · have hsw : sm_V G xX3_told (D + 28) 55 [.ref 73, .int (nI k), .retAddr 0] [] J1 ρ (xO (oA lo) (oB lo) I ρ (kt P) t 0 (h_one (kt P) t w T N).1 (tE lo (h_one (kt P) t w T N).2.1 (h_one (kt P) t w T N).2.2)) := by
          by_cases h9 : k < 9
          · have hc : k = 0 ∨ k = 1 ∨ k = 2 ∨ k = 6 ∨ k = 7 ∨ k = 8 := by omega
            rcases hc with e | e | e | e | e | e
            · subst e
              have eg : h_one (kt P) t w T N = (g_face (kt P) 4 (g_named (kt P) N (g_room (tx_D T) 6 (.inr (t, w)))), x_door T (fun p => nI (kt P (t + 2 + p)).2.2.1), N ++ [((kt P (t + 1)).2.2.2, tx_D T)]) := by
                unfold h_one
                rw [if_pos (by omega)]
              rw [eg]
              refine wp_iload1 56 rfl dX3_told_55 ?_
              refine wp_tableIn (off := 52) 108 dX3_told_56 (by decide) (by decide) (by decide) rfl ?_
              exact (td_door (D := D + 19) hS1 (by omega) _).mono (fun o I' ρ' z => z.fr f1')
            · subst e
              have eg : h_one (kt P) t w T N = (g_face (kt P) 4 (g_named (kt P) N (g_room (tx_C T) 5 (.inr (t, w)))), x_caller T (fun p => nI (kt P (t + 2 + p)).2.2.1), N ++ [((kt P (t + 1)).2.2.2, 10 + tx_C T)]) := by
                unfold h_one
                rw [if_neg (by omega), if_pos (by omega)]
              rw [eg]
              refine wp_iload1 56 rfl dX3_told_55 ?_
              refine wp_tableIn (off := 100) 156 dX3_told_56 (by decide) (by decide) (by decide) rfl ?_
              exact (td_caller (D := D + 19) hS1 (by omega) _).mono (fun o I' ρ' z => z.fr f1')
            · subst e
              have eg : h_one (kt P) t w T N = (g_num (kt P) 0 29 (g_num (kt P) 1 30 (g_known (kt P) N 0 (g_known (kt P) N 10 (g_room (tx_R T) 10 (.inr (t, w)))))), x_round T (kF (kt P (t + 1)).2.2.2 10 N, kF (kt P (t + 2)).2.2.2 0 N, nI (kt P (t + 3)).2.2.1, nI (kt P (t + 4)).2.2.1), N) := by
                unfold h_one
                rw [if_neg (by omega), if_neg (by omega), if_pos (by omega)]
              rw [eg]
              refine wp_iload1 56 rfl dX3_told_55 ?_
              refine wp_tableIn (off := 147) 203 dX3_told_56 (by decide) (by decide) (by decide) rfl ?_
              exact (td_round (D := D + 19) hS1 (by omega) _).mono (fun o I' ρ' z => z.fr f1')
            · subst e
              have eg : h_one (kt P) t w T N = (g_num (kt P) 0 100 (g_pass (.inr (t, w))), x_wind T (nI (kt P (t + 1)).2.2.1), N) := by
                unfold h_one
                rw [if_neg (by omega), if_neg (by omega), if_neg (by omega), if_pos (by omega)]
              rw [eg]
              refine wp_iload1 56 rfl dX3_told_55 ?_
              refine wp_tableIn (off := 238) 294 dX3_told_56 (by decide) (by decide) (by decide) rfl ?_
              exact (td_wind (D := D + 19) hS1 (by omega) _).mono (fun o I' ρ' z => z.fr f1')
            · subst e
              have eg : h_one (kt P) t w T N = (g_num (kt P) 0 396 (g_pass (.inr (t, w))), x_near T (nI (kt P (t + 1)).2.2.1), N) := by
                unfold h_one
                rw [if_neg (by omega), if_neg (by omega), if_neg (by omega), if_neg (by omega), if_pos (by omega)]
              rw [eg]
              refine wp_iload1 56 rfl dX3_told_55 ?_
              refine wp_tableIn (off := 259) 315 dX3_told_56 (by decide) (by decide) (by decide) rfl ?_
              exact (td_near (D := D + 19) hS1 (by omega) _).mono (fun o I' ρ' z => z.fr f1')
            · subst e
              have eg : h_one (kt P) t w T N = (g_num (kt P) 0 9999 (g_pass (.inr (t, w))), x_seed T (nI (kt P (t + 1)).2.2.1), N) := by
                unfold h_one
                rw [if_neg (by omega), if_neg (by omega), if_neg (by omega), if_neg (by omega), if_neg (by omega), if_pos (by omega)]
              rw [eg]
              refine wp_iload1 56 rfl dX3_told_55 ?_
              refine wp_tableIn (off := 281) 337 dX3_told_56 (by decide) (by decide) (by decide) rfl ?_
              exact (td_seed (D := D + 19) hS1 (by omega) _).mono (fun o I' ρ' z => z.fr f1')
          · have eg : h_one (kt P) t w T N = (.inl (1, t), T, N) := by
              unfold h_one
              rw [if_neg (by omega), if_neg (by omega), if_neg (by omega), if_neg (by omega), if_neg (by omega), if_neg (by omega), if_neg (by omega)]
            have ti : (nI k).toInt = (k : Int) := nI_toInt (by omega)
            refine wp_iload1 56 rfl dX3_told_55 ?_
            refine wp_tableOut 359 dX3_told_56 (by omega) rfl ?_
            exact none_ _ eg
        by_cases hl3 : k < 3
        · refine wp_iload1 26 rfl dX3_told_25 ?_
          refine wp_iconst (nI 3) 27 rfl dX3_told_26 (by decide) ?_
          refine wp_icmp_lt 30 55 rfl rfl dX3_told_27 (fun c27 => ?_) (fun c27 => absurd (nI_lt hl3 (by decide)) c27)
          exact hsw
        · refine wp_iload1 26 rfl dX3_told_25 ?_
          refine wp_iconst (nI 3) 27 rfl dX3_told_26 (by decide) ?_
          refine wp_icmp_lt 30 55 rfl rfl dX3_told_27 (fun c27 => absurd c27 (nI_nlt (by omega) (by omega))) (fun c27 => ?_)
          refine wp_iload1 31 rfl dX3_told_30 ?_
          refine wp_iconst (nI 5) 32 rfl dX3_told_31 (by decide) ?_
          refine wp_icmp_gt 35 55 rfl rfl dX3_told_32 (fun c32 => ?_) (fun c32 => absurd (nI_lt (by omega) (by omega)) c32)
          exact hsw
    · have eg : h_one (kt P) t w T N = (.inl (1, t), T, N) := by
        unfold h_one
        rw [if_neg (by omega), if_neg (by omega), if_neg (by omega), if_neg (by omega), if_neg (by omega), if_neg (by omega), if_neg (by omega)]
      refine wp_iconst (nI 3) 5 rfl dX3_told_4 (by decide) ?_
      refine wp_icmp_ne 8 23 rfl rfl dX3_told_5 (fun c5 => ?_) (fun c5 => absurd c5 (fun z => h20 (ctS_3.mp ((nI_eq (by omega) (by decide)).mp z))))
      refine wp_iconst (-1) 24 rfl dX3_told_23 (by decide) ?_
      refine wp_istore1 25 rfl dX3_told_24 (by decide) rfl ?_
      refine wp_iload1 26 rfl dX3_told_25 ?_
      refine wp_iconst (nI 3) 27 rfl dX3_told_26 (by decide) ?_
      refine wp_icmp_lt 30 55 rfl rfl dX3_told_27 (fun c27 => ?_) (fun c27 => absurd (by decide) c27)
      refine wp_iload1 56 rfl dX3_told_55 ?_
      refine wp_tableOut 359 dX3_told_56 (by decide) rfl ?_
      exact none_ _ eg
end G5p
