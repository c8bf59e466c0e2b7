/-! ===== the component's parser: told ===== -/
set_option maxRecDepth 100000
theorem as11 : sm_AS 11 "KnockerFaces$Law" := ⟨_, _, _, rfl, by decide, by decide, Or.inl rfl⟩
section H1
variable {G : sm_G} {D : Nat} {I : sm_I} {ρ : sm_R} {P : Nat × (Nat → Int32)} {lo : Nat} {q : bQ} {nd nc : Nat → Nat} {T : tx} {N : List (Nat × Nat)} {t : Nat} {w : Nat × Nat}
theorem g_known_l {tk : tkf} {x : Nat × Nat} {k : Nat} : g_known tk N k (.inl x) = .inl x := rfl
theorem g_num_l {tk : tkf} {x : Nat × Nat} {a b : Nat} : g_num tk a b (.inl x) = .inl x := rfl
theorem bT.kn {q : bQ} (hT : bT I ρ lo q nd nc T) : ∀ {J σ}, gF pA pNo I ρ J σ → (cLs J σ (lo + 1) (tx_D T) q.2.1 ∧ ∀ i, i < tx_D T → σ.2.2.1 (q.2.1 i) = (15, 0) ∧ σ.2.1 (q.2.1 i) 0 = some (q.2.2.2.1 i) ∧ cNm J σ lo (σ.2.2.2.1 + 64) (q.2.2.2.1 i) (nd i)) ∧ (cLs J σ (lo + 2) (tx_C T) q.2.2.2.2.1 ∧ ∀ i, i < tx_C T → σ.2.2.1 (q.2.2.2.2.1 i) = (16, 0) ∧ σ.2.1 (q.2.2.2.2.1 i) 0 = some (q.2.2.2.2.2.2.1 i) ∧ cNm J σ lo (σ.2.2.2.1 + 64) (q.2.2.2.2.2.2.1 i) (nc i)) := by
  intro J σ f
  have hb := hT.1.1
  have h := hT.g f (fun x hx z => by unfold pA at z; omega) (fun _ _ z => z)
  obtain ⟨⟨b1, b2, b3, -, b6, b7, -, -⟩, ⟨h2, h3, h4, h5⟩, h6, h7, -⟩ := h
  exact ⟨⟨h2.cLs b6 (by omega), fun i hi => ⟨(h6 i hi).1.2.1, (h6 i hi).1.2.2.1, (h6 i hi).2.2⟩⟩, h3.cLs b7 (by omega), fun i hi => ⟨(h7 i hi).1.2.1, (h7 i hi).1.2.2.1, (h7 i hi).2.2⟩⟩
theorem td_round (hS : tS I ρ P lo q nd nc T N t w) (hk : (kt P t).1 = 22) (x2 : Value) : sm_V G xX3_told (D + 9) 203 [.ref 73, .int (nI 2), x2] [] I ρ (xO (oA lo) (oB lo) I ρ (kt P) t 0 (g_num (kt P) 0 29 (g_num (kt P) 1 30 (g_known (kt P) N 0 (g_known (kt P) N 10 (g_room (tx_R T) 10 (.inr (t, w))))))) (tE lo (x_round T (kF (kt P (t + 1)).2.2.2 10 N, kF (kt P (t + 2)).2.2.2 0 N, nI (kt P (t + 3)).2.2.1, nI (kt P (t + 4)).2.2.1)) N)) := by
  obtain ⟨hR, hp, ho, hl, hT, hN, m6, m5, m10⟩ := hS
  have hK := hR.1
  have h8 := hR.2.1
  have p4 := hp.1.1
  have hT' := hT
  obtain ⟨⟨b1, b2, b3, ⟨b4, b5, b4r, b4l⟩, b6, b7, b7r, b8⟩, ⟨h2, h3, h4, h5⟩, -⟩ := hT'
  have hL := h4.cLs b7r (by omega)
  refine wp_aload0 204 rfl dX3_told_203 ?_
  refine wp_aload0 205 rfl dX3_told_204 ?_
  refine wp_getr 208 rfl dX3_told_205 fX3_83_4 (o4 hK) (hl) ?_
  refine wp_getr 211 rfl dX3_told_208 fX3_152_5 (b3) (b4r) ?_
  refine wp_Ve0 214 rfl dX3_told_211 kJ5_size lX3_121 (b7r) (nl rfl) (nl rfl) (s_size hL) ?_
  refine wp_bipush (nI 10) 216 rfl dX3_told_214 (by decide) ?_
  refine wp_Vx2 219 rfl dX3_told_216 kX3_begins lX3_126 (o4 hK) (nl rfl) (nl rfl) (s_pbegins hK hR.2.2.2 hp (by rw [hk]; decide) (tx_R T) 10 (by omega) (by decide)) (fun v J1 ρ1 z => ?_) (fun b J1 ρ1 z => z.outO rfl hK gF.rf (fun _ _ z => Or.inl z) (bud.rf (Nat.le_refl t)) (by omega) (fun x e => by rw [e, g_known_l, g_known_l, g_num_l, g_num_l]))
  obtain ⟨e0, j1, t', w', e1, p1, rfl⟩ := z.ok
  have e0 := e0.symm
  subst e0
  rw [e1]
  obtain ⟨t9, e9, nD, q9, n9⟩ := g_room_inv e1
  cases e9
  subst q9
  have hR1 := hR.P j1
  have f1 : gF pA pNo I ρ J1 ρ := j1.g (fun _ z => z)
  have o1 : J1 73 4 = nI 0 := j1.2.trans ho
  show sm_V G xX3_told (D + 9) 219 [.ref 73, .int (nI 2), x2] [] J1 ρ _
  refine wp_new 222 rfl dX3_told_219 nX3_155 (ρ.2.2.2.1 + 64) (rfl) ?_
  have fN : gF pNo pNo J1 ρ (sm_zI J1 (ρ.2.2.2.1 + 64)) (sm_nR ρ 17 0 4) := gF.nw _ _ _
  have sN : (sm_nR ρ 17 0 4).2.2.1 (ρ.2.2.2.1 + 64) = (17, 0) := sm_nR_at
  have zN : (sm_nR ρ 17 0 4).2.2.2.1 = ρ.2.2.2.1 + 1 ∧ (sm_nR ρ 17 0 4).2.2.2.2 = ρ.2.2.2.2 + 4 := ⟨rfl, rfl⟩
  generalize sm_zI J1 (ρ.2.2.2.1 + 64) = Jn at *
  generalize sm_nR ρ 17 0 4 = ρn at *
  obtain ⟨zN1, zN2⟩ := zN
  have hRn : rC Jn ρn P := hR1.g fN (fun _ _ z => z.elim) (fun _ _ z => z)
  have hKn := hRn.1
  have fIn : gF pA pNo I ρ Jn ρn := f1.tr fN (fun _ _ z => z.elim) (fun _ _ z => z)
  have hTn : bT Jn ρn lo q nd nc T := hT.g fIn (fun x hx z => by unfold pA at z; omega) (fun _ _ z => z)
  have en : Jn 73 = J1 73 := fN.eI (by omega) (fun z => z)
  have hln : ρn.2.1 73 2 = some lo := by rw [fN.eP (by omega) (fun z => z)]; exact hl
  have fIn' : gF (oA lo) (oB lo) I ρ Jn ρn := fIn.wk (fun _ _ z => Or.inl z) (fun _ _ z => z.elim)
  have pn := p1.I en
  have on : Jn 73 4 = nI 0 := by rw [en]; exact o1
  have bdn : bud ρ t ρn (t + 1) := ⟨by omega, by omega⟩
  have hbn := hTn.1
  -- the caller
  refine wp_dup 223 rfl dX3_told_222 rfl ?_
  refine wp_INe0 226 rfl dX3_told_223 kX19_init lX3_157 rfl (nl rfl) (nl rfl) (s_rinit) ?_
  refine wp_astore2 227 rfl dX3_told_226 (by decide) rfl ?_
  refine wp_aload2 228 rfl dX3_told_227 ?_
  refine wp_aload0 229 rfl dX3_told_228 ?_
  refine wp_aload0 230 rfl dX3_told_229 ?_
  refine wp_getr 233 rfl dX3_told_230 fX3_83_4 (o4 hKn) (hln) ?_
  refine wp_getr 236 rfl dX3_told_233 fX3_146_5 (hbn.2.2.1) (hbn.2.2.2.1.2.1) ?_
  refine wp_Vx1 239 rfl dX3_told_236 kX3_known lX3_158 (o4 hKn) (nl rfl) (nl rfl) (s_pknown hRn pn on b1 (fun f => (hTn.kn f).2) caX4_42_16 fX4_44_16 hN.2.2) (fun v J2 ρ2 z => ?_) (fun b J2 ρ2 z => z.outO (t2 := t + 1) rfl hKn hRn.2.1 (fun _ _ z => z) fIn' (fun _ _ z => Or.inl z) (fun _ _ z => z.elim) bdn (Nat.le_refl _) (fun x e => by rw [e, g_known_l, g_num_l, g_num_l]))
  obtain ⟨f2, t2, w2, e2, p2, o2', bd2, rfl⟩ := z.ok
  rw [e2]
  obtain ⟨t9, w9, e9, k9, q9, n92, -⟩ := g_known_inv e2
  cases e9
  subst q9
  have h2l := f2.1
  have s2 : ρ2.2.2.1 (ρ.2.2.2.1 + 64) = (17, 0) := (f2.eS (by omega)).trans sN
  show sm_V G xX3_told (D + 9) 239 [.ref 73, .int (nI 2), .ref (ρ.2.2.2.1 + 64)] [.int (nI (kF (kt P (t + 1)).2.2.2 10 N)), .ref (ρ.2.2.2.1 + 64)] J2 ρ2 _
  refine wp_puti 242 rfl dX3_told_239 pX3_162_17 (s2) (⟨rfl, rfl⟩) ?_
  have fu2 : gF (fun x => x = ρ.2.2.2.1 + 64) pNo J2 ρ2 (sm_u J2 (ρ.2.2.2.1 + 64) 0 (nI (kF (kt P (t + 1)).2.2.2 10 N))) ρ2 := gF.u
  have v2 : sm_u J2 (ρ.2.2.2.1 + 64) 0 (nI (kF (kt P (t + 1)).2.2.2 10 N)) (ρ.2.2.2.1 + 64) 0 = nI (kF (kt P (t + 1)).2.2.2 10 N) := by rw [sm_u_eq, pk_us]
  generalize sm_u J2 (ρ.2.2.2.1 + 64) 0 (nI (kF (kt P (t + 1)).2.2.2 10 N)) = K2 at *
  have hR2 : rC K2 ρ2 P := (hRn.g f2 (fun _ _ z => z) (fun _ _ z => z)).g fu2 (fun x hx z => absurd z (by omega)) (fun _ _ z => z)
  have hK2 := hR2.1
  have fI2 : gF pA pNo I ρ K2 ρ2 := (fIn.tr f2 (fun _ _ z => z) (fun _ _ z => z)).tr fu2 (fun x hx z => absurd z (by omega)) (fun _ _ z => z)
  have hT2 : bT K2 ρ2 lo q nd nc T := hT.g fI2 (fun x hx z => by unfold pA at z; omega) (fun _ _ z => z)
  have e2' : K2 73 = J2 73 := fu2.eI (by omega) (fun z => by omega)
  have hl2 : ρ2.2.1 73 2 = some lo := by rw [fI2.eP (by omega) (fun z => z)]; exact hl
  have pk2 := p2.I e2'
  have ok2 : K2 73 4 = nI 0 := by rw [e2']; exact o2'
  have bdk2 : bud ρ t ρ2 (t + 1 + 1) := by
    obtain ⟨y1, y2⟩ := bd2
    exact ⟨by omega, by omega⟩
  have fI2' : gF (oA lo) (oB lo) I ρ K2 ρ2 := fI2.wk (fun _ _ z => Or.inl z) (fun _ _ z => z.elim)
  have hb2 := hT2.1
  -- the door
  refine wp_aload2 243 rfl dX3_told_242 ?_
  refine wp_aload0 244 rfl dX3_told_243 ?_
  refine wp_aload0 245 rfl dX3_told_244 ?_
  refine wp_getr 248 rfl dX3_told_245 fX3_83_4 (o4 hK2) (hl2) ?_
  refine wp_getr 251 rfl dX3_told_248 fX3_117_5 (hb2.2.2.1) (hb2.2.2.2.1.1) ?_
  refine wp_Vx1 254 rfl dX3_told_251 kX3_known lX3_158 (o4 hK2) (nl rfl) (nl rfl) (s_pknown hR2 pk2 ok2 b1 (fun f => (hT2.kn f).1) caX4_42_15 fX4_44_15 hN.2.1) (fun v J3 ρ3 z => ?_) (fun b J3 ρ3 z => z.outO (t2 := t + 1 + 1) rfl hK2 hR2.2.1 (fun _ _ z => z) fI2' (fun _ _ z => Or.inl z) (fun _ _ z => z.elim) bdk2 (Nat.le_refl _) (fun x e => by rw [e, g_num_l, g_num_l]))
  obtain ⟨f3, t3, w3, e3, p3, o3', bd3, rfl⟩ := z.ok
  rw [e3]
  obtain ⟨t9, w9, e9, k9, q9, n93, -⟩ := g_known_inv e3
  cases e9
  subst q9
  have h3l := f3.1
  have s3 : ρ3.2.2.1 (ρ.2.2.2.1 + 64) = (17, 0) := (f3.eS (by omega)).trans s2
  have v3 : J3 (ρ.2.2.2.1 + 64) = K2 (ρ.2.2.2.1 + 64) := f3.eI (by omega) (fun z => by unfold pA at z; omega)
  show sm_V G xX3_told (D + 9) 254 [.ref 73, .int (nI 2), .ref (ρ.2.2.2.1 + 64)] [.int (nI (kF (kt P (t + 1 + 1)).2.2.2 0 N)), .ref (ρ.2.2.2.1 + 64)] J3 ρ3 _
  refine wp_puti 257 rfl dX3_told_254 pX3_165_17 (s3) (⟨rfl, rfl⟩) ?_
  have fu3 : gF (fun x => x = ρ.2.2.2.1 + 64) pNo J3 ρ3 (sm_u J3 (ρ.2.2.2.1 + 64) 1 (nI (kF (kt P (t + 1 + 1)).2.2.2 0 N))) ρ3 := gF.u
  have v30 : sm_u J3 (ρ.2.2.2.1 + 64) 1 (nI (kF (kt P (t + 1 + 1)).2.2.2 0 N)) (ρ.2.2.2.1 + 64) 0 = nI (kF (kt P (t + 1)).2.2.2 10 N) := by rw [sm_u_eq, pk_un (by decide), v3]; exact v2
  have v31 : sm_u J3 (ρ.2.2.2.1 + 64) 1 (nI (kF (kt P (t + 1 + 1)).2.2.2 0 N)) (ρ.2.2.2.1 + 64) 1 = nI (kF (kt P (t + 1 + 1)).2.2.2 0 N) := by rw [sm_u_eq, pk_us]
  generalize sm_u J3 (ρ.2.2.2.1 + 64) 1 (nI (kF (kt P (t + 1 + 1)).2.2.2 0 N)) = K3 at *
  have hR3 : rC K3 ρ3 P := (hR2.g f3 (fun _ _ z => z) (fun _ _ z => z)).g fu3 (fun x hx z => absurd z (by omega)) (fun _ _ z => z)
  have hK3 := hR3.1
  have fI3 : gF pA pNo I ρ K3 ρ3 := (fI2.tr f3 (fun _ _ z => z) (fun _ _ z => z)).tr fu3 (fun x hx z => absurd z (by omega)) (fun _ _ z => z)
  have e3' : K3 73 = J3 73 := fu3.eI (by omega) (fun z => by omega)
  have pk3 := p3.I e3'
  have ok3 : K3 73 4 = nI 0 := by rw [e3']; exact o3'
  have bdk3 : bud ρ t ρ3 (t + 1 + 1 + 1) := by
    obtain ⟨y1, y2⟩ := bd3
    obtain ⟨y3, y4⟩ := bdk2
    exact ⟨by omega, by omega⟩
  have fI3' : gF (oA lo) (oB lo) I ρ K3 ρ3 := fI3.wk (fun _ _ z => Or.inl z) (fun _ _ z => z.elim)
  have t34 := pk3.1.1
  -- every
  refine wp_aload2 258 rfl dX3_told_257 ?_
  refine wp_aload0 259 rfl dX3_told_258 ?_
  refine wp_iconst (nI 1) 260 rfl dX3_told_259 (by decide) ?_
  refine wp_bipush (nI 30) 262 rfl dX3_told_260 (by decide) ?_
  refine wp_Vx2 265 rfl dX3_told_262 kX3_number lX3_168 (o4 hK3) (nl rfl) (nl rfl) (s_pnumber hK3 hR3.2.2.1 hR3.2.2.2 pk3 1 30 (by decide) (by decide)) (fun v J4 ρ4 z => ?_) (fun b J4 ρ4 z => z.outO rfl hK3 fI3' (fun _ _ z => Or.inl z) bdk3 (by omega) (fun x e => by rw [e, g_num_l]))
  obtain ⟨e0, j4, t4, w4, e4, p4', rfl⟩ := z.ok
  have e0 := e0.symm
  subst e0
  rw [e4]
  obtain ⟨t9, w9, e9, k9, q9, n94, -, -⟩ := g_num_inv e4
  cases e9
  subst q9
  show sm_V G xX3_told (D + 9) 265 [.ref 73, .int (nI 2), .ref (ρ.2.2.2.1 + 64)] [.int (nI (kt P (t + 1 + 1 + 1)).2.2.1), .ref (ρ.2.2.2.1 + 64)] J4 ρ3 _
  refine wp_puti 268 rfl dX3_told_265 pX3_171_17 (s3) (⟨rfl, rfl⟩) ?_
  have v4 : J4 (ρ.2.2.2.1 + 64) = K3 (ρ.2.2.2.1 + 64) := j4.1 _ (by omega)
  have fu4 : gF (fun x => x = ρ.2.2.2.1 + 64) pNo J4 ρ3 (sm_u J4 (ρ.2.2.2.1 + 64) 2 (nI (kt P (t + 1 + 1 + 1)).2.2.1)) ρ3 := gF.u
  have v40 : sm_u J4 (ρ.2.2.2.1 + 64) 2 (nI (kt P (t + 1 + 1 + 1)).2.2.1) (ρ.2.2.2.1 + 64) 0 = nI (kF (kt P (t + 1)).2.2.2 10 N) := by rw [sm_u_eq, pk_un (by decide), v4]; exact v30
  have v41 : sm_u J4 (ρ.2.2.2.1 + 64) 2 (nI (kt P (t + 1 + 1 + 1)).2.2.1) (ρ.2.2.2.1 + 64) 1 = nI (kF (kt P (t + 1 + 1)).2.2.2 0 N) := by rw [sm_u_eq, pk_un (by decide), v4]; exact v31
  have v42 : sm_u J4 (ρ.2.2.2.1 + 64) 2 (nI (kt P (t + 1 + 1 + 1)).2.2.1) (ρ.2.2.2.1 + 64) 2 = nI (kt P (t + 1 + 1 + 1)).2.2.1 := by rw [sm_u_eq, pk_us]
  generalize sm_u J4 (ρ.2.2.2.1 + 64) 2 (nI (kt P (t + 1 + 1 + 1)).2.2.1) = K4 at *
  have hR4 : rC K4 ρ3 P := (hR3.P j4).g fu4 (fun x hx z => absurd z (by omega)) (fun _ _ z => z)
  have fI4 : gF pA pNo I ρ K4 ρ3 := (fI3.tr (j4.g (A := pA) (B := pNo) (fun _ z => z)) (fun _ _ z => z) (fun _ _ z => z)).tr fu4 (fun x hx z => absurd z (by omega)) (fun _ _ z => z)
  have e4' : K4 73 = J4 73 := fu4.eI (by omega) (fun z => by omega)
  have pk4 := p4'.I e4'
  have ok4 : K4 73 4 = nI 0 := by rw [e4', j4.2]; exact ok3
  have fI4' : gF (oA lo) (oB lo) I ρ K4 ρ3 := fI4.wk (fun _ _ z => Or.inl z) (fun _ _ z => z.elim)
  have t44 := pk4.1.1
  -- from
  refine wp_aload2 269 rfl dX3_told_268 ?_
  refine wp_aload0 270 rfl dX3_told_269 ?_
  refine wp_iconst (nI 0) 271 rfl dX3_told_270 (by decide) ?_
  refine wp_bipush (nI 29) 273 rfl dX3_told_271 (by decide) ?_
  refine wp_Vx2 276 rfl dX3_told_273 kX3_number lX3_168 (o4 hK3) (nl rfl) (nl rfl) (s_pnumber hK3 hR4.2.2.1 hR4.2.2.2 pk4 0 29 (by decide) (by decide)) (fun v J5 ρ5 z => ?_) (fun b J5 ρ5 z => z.outO rfl hK3 fI4' (fun _ _ z => Or.inl z) bdk3 (by omega) (fun x e => e))
  obtain ⟨e0, j5, t5, w5, e5, p5, rfl⟩ := z.ok
  have e0 := e0.symm
  subst e0
  rw [e5]
  obtain ⟨t9, w9, e9, k9, q9, n95, -, -⟩ := g_num_inv e5
  cases e9
  subst q9
  show sm_V G xX3_told (D + 9) 276 [.ref 73, .int (nI 2), .ref (ρ.2.2.2.1 + 64)] [.int (nI (kt P (t + 1 + 1 + 1 + 1)).2.2.1), .ref (ρ.2.2.2.1 + 64)] J5 ρ3 _
  refine wp_puti 279 rfl dX3_told_276 pX3_174_17 (s3) (⟨rfl, rfl⟩) ?_
  have v5 : J5 (ρ.2.2.2.1 + 64) = K4 (ρ.2.2.2.1 + 64) := j5.1 _ (by omega)
  have fu5 : gF (fun x => x = ρ.2.2.2.1 + 64) pNo J5 ρ3 (sm_u J5 (ρ.2.2.2.1 + 64) 3 (nI (kt P (t + 1 + 1 + 1 + 1)).2.2.1)) ρ3 := gF.u
  have v50 : sm_u J5 (ρ.2.2.2.1 + 64) 3 (nI (kt P (t + 1 + 1 + 1 + 1)).2.2.1) (ρ.2.2.2.1 + 64) 0 = nI (kF (kt P (t + 1)).2.2.2 10 N) := by rw [sm_u_eq, pk_un (by decide), v5]; exact v40
  have v51 : sm_u J5 (ρ.2.2.2.1 + 64) 3 (nI (kt P (t + 1 + 1 + 1 + 1)).2.2.1) (ρ.2.2.2.1 + 64) 1 = nI (kF (kt P (t + 1 + 1)).2.2.2 0 N) := by rw [sm_u_eq, pk_un (by decide), v5]; exact v41
  have v52 : sm_u J5 (ρ.2.2.2.1 + 64) 3 (nI (kt P (t + 1 + 1 + 1 + 1)).2.2.1) (ρ.2.2.2.1 + 64) 2 = nI (kt P (t + 1 + 1 + 1)).2.2.1 := by rw [sm_u_eq, pk_un (by decide), v5]; exact v42
  have v53 : sm_u J5 (ρ.2.2.2.1 + 64) 3 (nI (kt P (t + 1 + 1 + 1 + 1)).2.2.1) (ρ.2.2.2.1 + 64) 3 = nI (kt P (t + 1 + 1 + 1 + 1)).2.2.1 := by rw [sm_u_eq, pk_us]
  generalize sm_u J5 (ρ.2.2.2.1 + 64) 3 (nI (kt P (t + 1 + 1 + 1 + 1)).2.2.1) = K5 at *
  have hR5 : rC K5 ρ3 P := (hR4.P j5).g fu5 (fun x hx z => absurd z (by omega)) (fun _ _ z => z)
  have fI5 : gF pA pNo I ρ K5 ρ3 := (fI4.tr (j5.g (A := pA) (B := pNo) (fun _ z => z)) (fun _ _ z => z) (fun _ _ z => z)).tr fu5 (fun x hx z => absurd z (by omega)) (fun _ _ z => z)
  have hT5 : bT K5 ρ3 lo q nd nc T := hT.g fI5 (fun x hx z => by unfold pA at z; omega) (fun _ _ z => z)
  have e5' : K5 73 = J5 73 := fu5.eI (by omega) (fun z => by omega)
  have hl5 : ρ3.2.1 73 2 = some lo := by rw [fI5.eP (by omega) (fun z => z)]; exact hl
  have hb5 := hT5.1
  have hbl := hT5.2.1.2.2.1
  have hou := hbl.out
  have hB5 : ρ3.2.2.1 (lo + 3) = (18, 0) := hb5.2.2.2.2.2.2.1
  refine wp_aload0 280 rfl dX3_told_279 ?_
  refine wp_getr 283 rfl dX3_told_280 fX3_83_4 (o4 hK3) (hl5) ?_
  refine wp_getr 286 rfl dX3_told_283 fX3_152_5 (hb5.2.2.1) (hb5.2.2.2.1.2.2.1) ?_
  refine wp_aload2 287 rfl dX3_told_286 ?_
  refine wp_Vi1 290 rfl dX3_told_287 kJ5_add lX3_142 (hB5) (nl rfl) (nl rfl) (s_add hbl b1 hB5 (by omega) hb5.2.1 (by omega) s3 (by omega) as17) (fun v J6 ρ6 h6 => ?_)
  refine wp_pop 291 rfl dX3_told_290 rfl ?_
  refine wp_goto 365 rfl dX3_told_291 ?_
  refine wp_vret dX3_told_365 rfl ?_
  obtain ⟨e', g1, g2, ⟨g3, g4⟩, g5⟩ := h6
  have e76 : J6 73 = K5 73 := g2.eI (by omega) (fun z => by omega)
  have v6 : J6 (ρ.2.2.2.1 + 64) = K5 (ρ.2.2.2.1 + 64) := g2.eI (by omega) (fun z => by omega)
  have s6 : ρ6.2.2.1 (ρ.2.2.2.1 + 64) = (17, 0) := (g2.eS (by omega)).trans s3
  have h6l := g2.1
  have hT6 := hT5.round (x := (kF (kt P (t + 1)).2.2.2 10 N, kF (kt P (t + 2)).2.2.2 0 N, nI (kt P (t + 3)).2.2.1, nI (kt P (t + 4)).2.2.1)) (g2.wk (fun x hx z => Or.inr z) (fun _ _ z => z)) (by omega) g5 (by rw [v6]; exact ⟨⟨⟨by omega, by omega⟩, s6⟩, v50, v51, v52, v53⟩)
  refine ⟨(fI5.wk (fun _ _ z => Or.inl z) (fun _ _ z => z.elim)).tr g2 (fun x hx z => Or.inr (by omega)) (fun x hx z => by show lo ≤ x; omega), none, rfl, (p5.I e5').I e76, by rw [e76, e5', j5.2]; exact ok4, ?_, rfl, ?_, _, _, _, hT6, hN⟩
  · obtain ⟨y1, y2⟩ := bdk3
    exact ⟨by omega, by omega⟩
  · rw [g2.eP (by omega) (by omega)]
    exact hl5
end H1
