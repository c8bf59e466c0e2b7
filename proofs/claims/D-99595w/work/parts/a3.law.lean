/-! ===== the law: every step (printed by gen_law.py) ===== -/
set_option maxRecDepth 100000
abbrev xL_law : sm_X := ("KnockerFacesLaw", cL_law, 4, ret, "law", [])
section LW
variable {G : sm_G} {D i : Nat} {I : sm_I} {ρ : sm_R} {S : yS} {Q : sm_O → sm_I → sm_R → Prop}
theorem lk_0 (hj : jI I ρ S) (hi : i + 6 ≤ G.2.2.2.2 49) (hL : G.2.2.2.2 49 ≤ 384) (kk : ∀ J ρ1 S1, jI J ρ1 S1 → jR ρ ρ1 → sm_V G xL_law (D + 414) 1471 [.ref 48, .ref 64, .ref 898, .int (nI i)] [] J ρ1 Q) : sm_V G xL_law (D + 414) 212 [.ref 48, .ref 64, .ref 898, .int (nI i)] [] I ρ Q := by
  have hj0 := hj
  obtain ⟨⟨tp, q, hc⟩, ⟨lv, hm⟩, ⟨h1, h2⟩, h3, h4⟩ := hj
  have hK := hc.1.1
  refine wp_aload1 213 rfl dL_law_212 ?_
  refine wp_aload0 214 rfl dL_law_213 ?_
  refine wp_iload3 215 rfl dL_law_214 ?_
  refine wp_iconst (nI 1) 216 rfl dL_law_215 rfl ?_
  refine wp_iadd 217 rfl dL_law_216 ?_
  refine wp_sld (j := i + 1) 218 rfl dL_law_217 (nI_add ..) (by omega) (by omega) ?_
  refine wp_aload0 219 rfl dL_law_218 ?_
  refine wp_iload3 220 rfl dL_law_219 ?_
  refine wp_iconst (nI 2) 221 rfl dL_law_220 rfl ?_
  refine wp_iadd 222 rfl dL_law_221 ?_
  refine wp_sld (j := i + 2) 223 rfl dL_law_222 (nI_add ..) (by omega) (by omega) ?_
  refine wp_aload0 224 rfl dL_law_223 ?_
  refine wp_iload3 225 rfl dL_law_224 ?_
  refine wp_iconst (nI 3) 226 rfl dL_law_225 rfl ?_
  refine wp_iadd 227 rfl dL_law_226 ?_
  refine wp_sld (j := i + 3) 228 rfl dL_law_227 (nI_add ..) (by omega) (by omega) ?_
  refine wp_aload0 229 rfl dL_law_228 ?_
  refine wp_iload3 230 rfl dL_law_229 ?_
  refine wp_iconst (nI 4) 231 rfl dL_law_230 rfl ?_
  refine wp_iadd 232 rfl dL_law_231 ?_
  refine wp_sld (j := i + 4) 233 rfl dL_law_232 (nI_add ..) (by omega) (by omega) ?_
  refine wp_aload0 234 rfl dL_law_233 ?_
  refine wp_iload3 235 rfl dL_law_234 ?_
  refine wp_iconst (nI 5) 236 rfl dL_law_235 rfl ?_
  refine wp_iadd 237 rfl dL_law_236 ?_
  refine wp_sld (j := i + 5) 238 rfl dL_law_237 (nI_add ..) (by omega) (by omega) ?_
  refine wp_Vi5 241 rfl dL_law_238 kX0_feed lL_13 (o1 hK) (nl rfl) (nl rfl) (c_feed hc (sm_xs G (i + 1)) (sm_xs G (i + 2)) (sm_xs G (i + 3)) (sm_xs G (i + 4)) (sm_xs G (i + 5))) (fun r J ρ1 h => ?_)
  obtain ⟨e1, hc1, er, f1⟩ := h
  have e1 := e1.symm
  subst e1
  have hm1 := hm.cg f1
  refine wp_aload2 242 rfl dL_law_241 ?_
  refine wp_aload0 243 rfl dL_law_242 ?_
  refine wp_iload3 244 rfl dL_law_243 ?_
  refine wp_iconst (nI 1) 245 rfl dL_law_244 rfl ?_
  refine wp_iadd 246 rfl dL_law_245 ?_
  refine wp_sld (j := i + 1) 247 rfl dL_law_246 (nI_add ..) (by omega) (by omega) ?_
  refine wp_aload0 248 rfl dL_law_247 ?_
  refine wp_iload3 249 rfl dL_law_248 ?_
  refine wp_iconst (nI 2) 250 rfl dL_law_249 rfl ?_
  refine wp_iadd 251 rfl dL_law_250 ?_
  refine wp_sld (j := i + 2) 252 rfl dL_law_251 (nI_add ..) (by omega) (by omega) ?_
  refine wp_aload0 253 rfl dL_law_252 ?_
  refine wp_iload3 254 rfl dL_law_253 ?_
  refine wp_iconst (nI 3) 255 rfl dL_law_254 rfl ?_
  refine wp_iadd 256 rfl dL_law_255 ?_
  refine wp_sld (j := i + 3) 257 rfl dL_law_256 (nI_add ..) (by omega) (by omega) ?_
  refine wp_aload0 258 rfl dL_law_257 ?_
  refine wp_iload3 259 rfl dL_law_258 ?_
  refine wp_iconst (nI 4) 260 rfl dL_law_259 rfl ?_
  refine wp_iadd 261 rfl dL_law_260 ?_
  refine wp_sld (j := i + 4) 262 rfl dL_law_261 (nI_add ..) (by omega) (by omega) ?_
  refine wp_aload0 263 rfl dL_law_262 ?_
  refine wp_iload3 264 rfl dL_law_263 ?_
  refine wp_iconst (nI 5) 265 rfl dL_law_264 rfl ?_
  refine wp_iadd 266 rfl dL_law_265 ?_
  refine wp_sld (j := i + 5) 267 rfl dL_law_266 (nI_add ..) (by omega) (by omega) ?_
  refine wp_Vi5 270 rfl dL_law_267 kX10_feed lL_17 (md_M h1) (nl rfl) (nl rfl) (q_feed h1 lv S hm1 (sm_xs G (i + 1)) (sm_xs G (i + 2)) (sm_xs G (i + 3)) (sm_xs G (i + 4)) (sm_xs G (i + 5))) (fun r2 J2 ρ2 h => ?_)
  obtain ⟨e2, hm2, er2, f2⟩ := h
  have e2 := e2.symm
  subst e2
  refine wp_icmp_eq 273 1471 rfl rfl dL_law_270 (fun _ => ?_) (fun c => absurd (er.trans er2.symm) c)
  exact kk J2 ρ (y_feed S (sm_xs G (i + 1)) (sm_xs G (i + 2)) (sm_xs G (i + 3)) (sm_xs G (i + 4)) (sm_xs G (i + 5))).2 ⟨⟨tp, q, hc1.cg f2⟩, ⟨lv, hm2⟩, ⟨h1, h2⟩, h3, h4⟩ jR.rf
theorem lk_1 (hj : jI I ρ S) (hi : i + 6 ≤ G.2.2.2.2 49) (hL : G.2.2.2.2 49 ≤ 384) (kk : ∀ J ρ1 S1, jI J ρ1 S1 → jR ρ ρ1 → sm_V G xL_law (D + 414) 1471 [.ref 48, .ref 64, .ref 898, .int (nI i)] [] J ρ1 Q) : sm_V G xL_law (D + 414) 275 [.ref 48, .ref 64, .ref 898, .int (nI i)] [] I ρ Q := by
  have hj0 := hj
  obtain ⟨⟨tp, q, hc⟩, ⟨lv, hm⟩, ⟨h1, h2⟩, h3, h4⟩ := hj
  have hK := hc.1.1
  refine wp_aload1 276 rfl dL_law_275 ?_
  refine wp_aload0 277 rfl dL_law_276 ?_
  refine wp_iload3 278 rfl dL_law_277 ?_
  refine wp_iconst (nI 1) 279 rfl dL_law_278 rfl ?_
  refine wp_iadd 280 rfl dL_law_279 ?_
  refine wp_sld (j := i + 1) 281 rfl dL_law_280 (nI_add ..) (by omega) (by omega) ?_
  refine wp_Vi1 284 rfl dL_law_281 kX0_back lL_18 (o1 hK) (nl rfl) (nl rfl) (c_back hc (sm_xs G (i + 1))) (fun r J ρ1 h => ?_)
  obtain ⟨e1, hc1, er, f1⟩ := h
  have e1 := e1.symm
  subst e1
  have hm1 := hm.cg f1
  refine wp_aload2 285 rfl dL_law_284 ?_
  refine wp_aload0 286 rfl dL_law_285 ?_
  refine wp_iload3 287 rfl dL_law_286 ?_
  refine wp_iconst (nI 1) 288 rfl dL_law_287 rfl ?_
  refine wp_iadd 289 rfl dL_law_288 ?_
  refine wp_sld (j := i + 1) 290 rfl dL_law_289 (nI_add ..) (by omega) (by omega) ?_
  refine wp_Vi1 293 rfl dL_law_290 kX10_back lL_22 (md_M h1) (nl rfl) (nl rfl) (q_back h1 lv S hm1 (sm_xs G (i + 1))) (fun r2 J2 ρ2 h => ?_)
  obtain ⟨e2, hm2, er2, f2⟩ := h
  have e2 := e2.symm
  subst e2
  refine wp_icmp_eq 296 1471 rfl rfl dL_law_293 (fun _ => ?_) (fun c => absurd (er.trans er2.symm) c)
  exact kk J2 ρ (y_back S (sm_xs G (i + 1))).2 ⟨⟨tp, q, hc1.cg f2⟩, ⟨lv, hm2⟩, ⟨h1, h2⟩, h3, h4⟩ jR.rf
theorem lk_2 (hj : jI I ρ S) (hi : i + 6 ≤ G.2.2.2.2 49) (hL : G.2.2.2.2 49 ≤ 384) (kk : ∀ J ρ1 S1, jI J ρ1 S1 → jR ρ ρ1 → sm_V G xL_law (D + 414) 1471 [.ref 48, .ref 64, .ref 898, .int (nI i)] [] J ρ1 Q) : sm_V G xL_law (D + 414) 298 [.ref 48, .ref 64, .ref 898, .int (nI i)] [] I ρ Q := by
  have hj0 := hj
  obtain ⟨⟨tp, q, hc⟩, ⟨lv, hm⟩, ⟨h1, h2⟩, h3, h4⟩ := hj
  have hK := hc.1.1
  refine wp_aload1 299 rfl dL_law_298 ?_
  refine wp_callVW (As := []) 302 rfl kX0_read dL_law_299 lL_23 (o1 hK) rfl (nl rfl) (nl rfl) (z_rd hc h3 h4) (fun v J ρ1 h => ?_) (fun b J ρ1 h => by obtain ⟨r, e, -⟩ := h; cases e)
  obtain ⟨r, e, ⟨tp1, q1, hc1⟩, er, g1, b1, b2⟩ := h
  cases e
  have hm1 := hm.cg (J := J) (fun a ha hb => g1.eI (by omega) (by show ¬ a < 898; omega))
  have h1a : md ρ1 := jmd g1 h4 h1
  have h2a : mKy ρ1 := jky g1 h4 h2
  show sm_V G xL_law (D + 414) 302 [.ref 48, .ref 64, .ref 898, .int (nI i)] [.int r] J ρ1 Q
  refine wp_aload2 303 rfl dL_law_302 ?_
  refine wp_Vi0 306 rfl dL_law_303 kX10_read lL_27 (md_M h1a) (nl rfl) (nl rfl) (q_read h1a h2a lv S hm1) (fun r2 J2 ρ2 h => ?_)
  obtain ⟨k2, ⟨lv2, hm2⟩, er2, f2⟩ := h
  have ek := k2.1
  refine wp_icmp_eq 309 1471 rfl rfl dL_law_306 (fun _ => ?_) (fun c => absurd (er.trans er2.symm) c)
  refine kk J2 ρ2 (y_read S).2 ⟨⟨tp1, q1, (hc1.ky k2).cg f2⟩, ⟨lv2, hm2⟩, ⟨k2.mdl h1a, fun k hk => (congrFun (k2.2 m_keys (by decide)) k).trans (h2a k hk)⟩, fun a ha => ?_, ?_⟩ ⟨?_, ?_⟩
  · rw [ek] at ha ⊢; exact g1.In h3 a ha
  · rw [ek]; exact Nat.le_trans h4 g1.1.1
  · rw [ek]; exact b1
  · rw [ek]; exact b2
theorem lk_3 (hj : jI I ρ S) (hi : i + 6 ≤ G.2.2.2.2 49) (hL : G.2.2.2.2 49 ≤ 384) (kk : ∀ J ρ1 S1, jI J ρ1 S1 → jR ρ ρ1 → sm_V G xL_law (D + 414) 1471 [.ref 48, .ref 64, .ref 898, .int (nI i)] [] J ρ1 Q) : sm_V G xL_law (D + 414) 311 [.ref 48, .ref 64, .ref 898, .int (nI i)] [] I ρ Q := by
  have hj0 := hj
  obtain ⟨⟨tp, q, hc⟩, ⟨lv, hm⟩, ⟨h1, h2⟩, h3, h4⟩ := hj
  have hK := hc.1.1
  refine wp_aload1 312 rfl dL_law_311 ?_
  refine wp_Vi0 315 rfl dL_law_312 kX0_place lL_28 (o1 hK) (nl rfl) (nl rfl) (c_place hc ) (fun r J ρ1 h => ?_)
  obtain ⟨e1, hc1, er, f1⟩ := h
  have e1 := e1.symm
  subst e1
  have hm1 := hm.cg f1
  refine wp_aload2 316 rfl dL_law_315 ?_
  refine wp_Vi0 319 rfl dL_law_316 kX10_place lL_31 (md_M h1) (nl rfl) (nl rfl) (q_place h1 lv S hm1 ) (fun r2 J2 ρ2 h => ?_)
  obtain ⟨e2, hm2, er2, f2⟩ := h
  have e2 := e2.symm
  subst e2
  refine wp_icmp_eq 322 1471 rfl rfl dL_law_319 (fun _ => ?_) (fun c => absurd (er.trans er2.symm) c)
  exact kk J2 ρ S ⟨⟨tp, q, hc1.cg f2⟩, ⟨lv, hm2⟩, ⟨h1, h2⟩, h3, h4⟩ jR.rf
theorem lk_4 (hj : jI I ρ S) (hi : i + 6 ≤ G.2.2.2.2 49) (hL : G.2.2.2.2 49 ≤ 384) (kk : ∀ J ρ1 S1, jI J ρ1 S1 → jR ρ ρ1 → sm_V G xL_law (D + 414) 1471 [.ref 48, .ref 64, .ref 898, .int (nI i)] [] J ρ1 Q) : sm_V G xL_law (D + 414) 324 [.ref 48, .ref 64, .ref 898, .int (nI i)] [] I ρ Q := by
  have hj0 := hj
  obtain ⟨⟨tp, q, hc⟩, ⟨lv, hm⟩, ⟨h1, h2⟩, h3, h4⟩ := hj
  have hK := hc.1.1
  refine wp_aload1 325 rfl dL_law_324 ?_
  refine wp_aload0 326 rfl dL_law_325 ?_
  refine wp_iload3 327 rfl dL_law_326 ?_
  refine wp_iconst (nI 1) 328 rfl dL_law_327 rfl ?_
  refine wp_iadd 329 rfl dL_law_328 ?_
  refine wp_sld (j := i + 1) 330 rfl dL_law_329 (nI_add ..) (by omega) (by omega) ?_
  refine wp_aload0 331 rfl dL_law_330 ?_
  refine wp_iload3 332 rfl dL_law_331 ?_
  refine wp_iconst (nI 2) 333 rfl dL_law_332 rfl ?_
  refine wp_iadd 334 rfl dL_law_333 ?_
  refine wp_sld (j := i + 2) 335 rfl dL_law_334 (nI_add ..) (by omega) (by omega) ?_
  refine wp_Vi2 338 rfl dL_law_335 kX0_door lL_32 (o1 hK) (nl rfl) (nl rfl) (c_door hc.1 (sm_xs G (i + 1)) (sm_xs G (i + 2))) (fun r J ρ1 h => ?_)
  obtain ⟨e1, f1, er⟩ := h
  have e1 := e1.symm
  subst e1
  have hm1 := hm.cg (cFr.asked f1)
  refine wp_aload2 339 rfl dL_law_338 ?_
  refine wp_aload0 340 rfl dL_law_339 ?_
  refine wp_iload3 341 rfl dL_law_340 ?_
  refine wp_iconst (nI 1) 342 rfl dL_law_341 rfl ?_
  refine wp_iadd 343 rfl dL_law_342 ?_
  refine wp_sld (j := i + 1) 344 rfl dL_law_343 (nI_add ..) (by omega) (by omega) ?_
  refine wp_aload0 345 rfl dL_law_344 ?_
  refine wp_iload3 346 rfl dL_law_345 ?_
  refine wp_iconst (nI 2) 347 rfl dL_law_346 rfl ?_
  refine wp_iadd 348 rfl dL_law_347 ?_
  refine wp_sld (j := i + 2) 349 rfl dL_law_348 (nI_add ..) (by omega) (by omega) ?_
  refine wp_Vi2 352 rfl dL_law_349 kX10_door lL_36 (md_M h1) (nl rfl) (nl rfl) (q_door h1 lv (y_T S) (y_w S) hm1.1 (sm_xs G (i + 1)) (sm_xs G (i + 2))) (fun r2 J2 ρ2 h => ?_)
  obtain ⟨e2, f2, er2⟩ := h
  have e2 := e2.symm
  subst e2
  refine wp_icmp_eq 355 1471 rfl rfl dL_law_352 (fun _ => ?_) (fun c => absurd (er.trans er2.symm) c)
  exact kk J2 ρ S (hj0.asked f1 f2) jR.rf
theorem lk_5 (hj : jI I ρ S) (hi : i + 6 ≤ G.2.2.2.2 49) (hL : G.2.2.2.2 49 ≤ 384) (kk : ∀ J ρ1 S1, jI J ρ1 S1 → jR ρ ρ1 → sm_V G xL_law (D + 414) 1471 [.ref 48, .ref 64, .ref 898, .int (nI i)] [] J ρ1 Q) : sm_V G xL_law (D + 414) 357 [.ref 48, .ref 64, .ref 898, .int (nI i)] [] I ρ Q := by
  have hj0 := hj
  obtain ⟨⟨tp, q, hc⟩, ⟨lv, hm⟩, ⟨h1, h2⟩, h3, h4⟩ := hj
  have hK := hc.1.1
  refine wp_aload1 358 rfl dL_law_357 ?_
  refine wp_aload0 359 rfl dL_law_358 ?_
  refine wp_iload3 360 rfl dL_law_359 ?_
  refine wp_iconst (nI 1) 361 rfl dL_law_360 rfl ?_
  refine wp_iadd 362 rfl dL_law_361 ?_
  refine wp_sld (j := i + 1) 363 rfl dL_law_362 (nI_add ..) (by omega) (by omega) ?_
  refine wp_aload0 364 rfl dL_law_363 ?_
  refine wp_iload3 365 rfl dL_law_364 ?_
  refine wp_iconst (nI 2) 366 rfl dL_law_365 rfl ?_
  refine wp_iadd 367 rfl dL_law_366 ?_
  refine wp_sld (j := i + 2) 368 rfl dL_law_367 (nI_add ..) (by omega) (by omega) ?_
  refine wp_Vi2 371 rfl dL_law_368 kX0_caller lL_37 (o1 hK) (nl rfl) (nl rfl) (c_caller hc.1 (sm_xs G (i + 1)) (sm_xs G (i + 2))) (fun r J ρ1 h => ?_)
  obtain ⟨e1, f1, er⟩ := h
  have e1 := e1.symm
  subst e1
  have hm1 := hm.cg (cFr.asked f1)
  refine wp_aload2 372 rfl dL_law_371 ?_
  refine wp_aload0 373 rfl dL_law_372 ?_
  refine wp_iload3 374 rfl dL_law_373 ?_
  refine wp_iconst (nI 1) 375 rfl dL_law_374 rfl ?_
  refine wp_iadd 376 rfl dL_law_375 ?_
  refine wp_sld (j := i + 1) 377 rfl dL_law_376 (nI_add ..) (by omega) (by omega) ?_
  refine wp_aload0 378 rfl dL_law_377 ?_
  refine wp_iload3 379 rfl dL_law_378 ?_
  refine wp_iconst (nI 2) 380 rfl dL_law_379 rfl ?_
  refine wp_iadd 381 rfl dL_law_380 ?_
  refine wp_sld (j := i + 2) 382 rfl dL_law_381 (nI_add ..) (by omega) (by omega) ?_
  refine wp_Vi2 385 rfl dL_law_382 kX10_caller lL_40 (md_M h1) (nl rfl) (nl rfl) (q_caller h1 lv (y_T S) (y_w S) hm1.1 (sm_xs G (i + 1)) (sm_xs G (i + 2))) (fun r2 J2 ρ2 h => ?_)
  obtain ⟨e2, f2, er2⟩ := h
  have e2 := e2.symm
  subst e2
  refine wp_icmp_eq 388 1471 rfl rfl dL_law_385 (fun _ => ?_) (fun c => absurd (er.trans er2.symm) c)
  exact kk J2 ρ S (hj0.asked f1 f2) jR.rf
theorem lk_6 (hj : jI I ρ S) (hi : i + 6 ≤ G.2.2.2.2 49) (hL : G.2.2.2.2 49 ≤ 384) (kk : ∀ J ρ1 S1, jI J ρ1 S1 → jR ρ ρ1 → sm_V G xL_law (D + 414) 1471 [.ref 48, .ref 64, .ref 898, .int (nI i)] [] J ρ1 Q) : sm_V G xL_law (D + 414) 390 [.ref 48, .ref 64, .ref 898, .int (nI i)] [] I ρ Q := by
  have hj0 := hj
  obtain ⟨⟨tp, q, hc⟩, ⟨lv, hm⟩, ⟨h1, h2⟩, h3, h4⟩ := hj
  have hK := hc.1.1
  refine wp_aload1 391 rfl dL_law_390 ?_
  refine wp_aload0 392 rfl dL_law_391 ?_
  refine wp_iload3 393 rfl dL_law_392 ?_
  refine wp_iconst (nI 1) 394 rfl dL_law_393 rfl ?_
  refine wp_iadd 395 rfl dL_law_394 ?_
  refine wp_sld (j := i + 1) 396 rfl dL_law_395 (nI_add ..) (by omega) (by omega) ?_
  refine wp_aload0 397 rfl dL_law_396 ?_
  refine wp_iload3 398 rfl dL_law_397 ?_
  refine wp_iconst (nI 2) 399 rfl dL_law_398 rfl ?_
  refine wp_iadd 400 rfl dL_law_399 ?_
  refine wp_sld (j := i + 2) 401 rfl dL_law_400 (nI_add ..) (by omega) (by omega) ?_
  refine wp_Vi2 404 rfl dL_law_401 kX0_round lL_41 (o1 hK) (nl rfl) (nl rfl) (c_round hc.1 (sm_xs G (i + 1)) (sm_xs G (i + 2))) (fun r J ρ1 h => ?_)
  obtain ⟨e1, f1, er⟩ := h
  have e1 := e1.symm
  subst e1
  have hm1 := hm.cg (cFr.asked f1)
  refine wp_aload2 405 rfl dL_law_404 ?_
  refine wp_aload0 406 rfl dL_law_405 ?_
  refine wp_iload3 407 rfl dL_law_406 ?_
  refine wp_iconst (nI 1) 408 rfl dL_law_407 rfl ?_
  refine wp_iadd 409 rfl dL_law_408 ?_
  refine wp_sld (j := i + 1) 410 rfl dL_law_409 (nI_add ..) (by omega) (by omega) ?_
  refine wp_aload0 411 rfl dL_law_410 ?_
  refine wp_iload3 412 rfl dL_law_411 ?_
  refine wp_iconst (nI 2) 413 rfl dL_law_412 rfl ?_
  refine wp_iadd 414 rfl dL_law_413 ?_
  refine wp_sld (j := i + 2) 415 rfl dL_law_414 (nI_add ..) (by omega) (by omega) ?_
  refine wp_Vi2 418 rfl dL_law_415 kX10_round lL_44 (md_M h1) (nl rfl) (nl rfl) (q_round h1 lv (y_T S) (y_w S) hm1.1 (sm_xs G (i + 1)) (sm_xs G (i + 2))) (fun r2 J2 ρ2 h => ?_)
  obtain ⟨e2, f2, er2⟩ := h
  have e2 := e2.symm
  subst e2
  refine wp_icmp_eq 421 1471 rfl rfl dL_law_418 (fun _ => ?_) (fun c => absurd (er.trans er2.symm) c)
  exact kk J2 ρ S (hj0.asked f1 f2) jR.rf
theorem lk_7 (hj : jI I ρ S) (hi : i + 6 ≤ G.2.2.2.2 49) (hL : G.2.2.2.2 49 ≤ 384) (kk : ∀ J ρ1 S1, jI J ρ1 S1 → jR ρ ρ1 → sm_V G xL_law (D + 414) 1471 [.ref 48, .ref 64, .ref 898, .int (nI i)] [] J ρ1 Q) : sm_V G xL_law (D + 414) 423 [.ref 48, .ref 64, .ref 898, .int (nI i)] [] I ρ Q := by
  have hj0 := hj
  obtain ⟨⟨tp, q, hc⟩, ⟨lv, hm⟩, ⟨h1, h2⟩, h3, h4⟩ := hj
  have hK := hc.1.1
  refine wp_aload1 424 rfl dL_law_423 ?_
  refine wp_aload0 425 rfl dL_law_424 ?_
  refine wp_iload3 426 rfl dL_law_425 ?_
  refine wp_iconst (nI 1) 427 rfl dL_law_426 rfl ?_
  refine wp_iadd 428 rfl dL_law_427 ?_
  refine wp_sld (j := i + 1) 429 rfl dL_law_428 (nI_add ..) (by omega) (by omega) ?_
  refine wp_aload0 430 rfl dL_law_429 ?_
  refine wp_iload3 431 rfl dL_law_430 ?_
  refine wp_iconst (nI 2) 432 rfl dL_law_431 rfl ?_
  refine wp_iadd 433 rfl dL_law_432 ?_
  refine wp_sld (j := i + 2) 434 rfl dL_law_433 (nI_add ..) (by omega) (by omega) ?_
  refine wp_Vi2 437 rfl dL_law_434 kX0_unlike lL_45 (o1 hK) (nl rfl) (nl rfl) (c_unlike hc.1 (sm_xs G (i + 1)) (sm_xs G (i + 2))) (fun r J ρ1 h => ?_)
  obtain ⟨e1, f1, er⟩ := h
  have e1 := e1.symm
  subst e1
  have hm1 := hm.cg (cFr.asked f1)
  refine wp_aload2 438 rfl dL_law_437 ?_
  refine wp_aload0 439 rfl dL_law_438 ?_
  refine wp_iload3 440 rfl dL_law_439 ?_
  refine wp_iconst (nI 1) 441 rfl dL_law_440 rfl ?_
  refine wp_iadd 442 rfl dL_law_441 ?_
  refine wp_sld (j := i + 1) 443 rfl dL_law_442 (nI_add ..) (by omega) (by omega) ?_
  refine wp_aload0 444 rfl dL_law_443 ?_
  refine wp_iload3 445 rfl dL_law_444 ?_
  refine wp_iconst (nI 2) 446 rfl dL_law_445 rfl ?_
  refine wp_iadd 447 rfl dL_law_446 ?_
  refine wp_sld (j := i + 2) 448 rfl dL_law_447 (nI_add ..) (by omega) (by omega) ?_
  refine wp_Vi2 451 rfl dL_law_448 kX10_unlike lL_48 (md_M h1) (nl rfl) (nl rfl) (q_unlike h1 lv (y_T S) (y_w S) hm1.1 (sm_xs G (i + 1)) (sm_xs G (i + 2))) (fun r2 J2 ρ2 h => ?_)
  obtain ⟨e2, f2, er2⟩ := h
  have e2 := e2.symm
  subst e2
  refine wp_icmp_eq 454 1471 rfl rfl dL_law_451 (fun _ => ?_) (fun c => absurd (er.trans er2.symm) c)
  exact kk J2 ρ S (hj0.asked f1 f2) jR.rf
theorem lk_8 (hj : jI I ρ S) (hi : i + 6 ≤ G.2.2.2.2 49) (hL : G.2.2.2.2 49 ≤ 384) (kk : ∀ J ρ1 S1, jI J ρ1 S1 → jR ρ ρ1 → sm_V G xL_law (D + 414) 1471 [.ref 48, .ref 64, .ref 898, .int (nI i)] [] J ρ1 Q) : sm_V G xL_law (D + 414) 456 [.ref 48, .ref 64, .ref 898, .int (nI i)] [] I ρ Q := by
  have hj0 := hj
  obtain ⟨⟨tp, q, hc⟩, ⟨lv, hm⟩, ⟨h1, h2⟩, h3, h4⟩ := hj
  have hK := hc.1.1
  refine wp_aload1 457 rfl dL_law_456 ?_
  refine wp_aload0 458 rfl dL_law_457 ?_
  refine wp_iload3 459 rfl dL_law_458 ?_
  refine wp_iconst (nI 1) 460 rfl dL_law_459 rfl ?_
  refine wp_iadd 461 rfl dL_law_460 ?_
  refine wp_sld (j := i + 1) 462 rfl dL_law_461 (nI_add ..) (by omega) (by omega) ?_
  refine wp_aload0 463 rfl dL_law_462 ?_
  refine wp_iload3 464 rfl dL_law_463 ?_
  refine wp_iconst (nI 2) 465 rfl dL_law_464 rfl ?_
  refine wp_iadd 466 rfl dL_law_465 ?_
  refine wp_sld (j := i + 2) 467 rfl dL_law_466 (nI_add ..) (by omega) (by omega) ?_
  refine wp_aload0 468 rfl dL_law_467 ?_
  refine wp_iload3 469 rfl dL_law_468 ?_
  refine wp_iconst (nI 3) 470 rfl dL_law_469 rfl ?_
  refine wp_iadd 471 rfl dL_law_470 ?_
  refine wp_sld (j := i + 3) 472 rfl dL_law_471 (nI_add ..) (by omega) (by omega) ?_
  refine wp_Vi3 475 rfl dL_law_472 kX0_tells lL_49 (o1 hK) (nl rfl) (nl rfl) (c_tells hc.1 (sm_xs G (i + 1)) (sm_xs G (i + 2)) (sm_xs G (i + 3))) (fun r J ρ1 h => ?_)
  obtain ⟨e1, f1, er⟩ := h
  have e1 := e1.symm
  subst e1
  have hm1 := hm.cg (cFr.asked f1)
  refine wp_aload2 476 rfl dL_law_475 ?_
  refine wp_aload0 477 rfl dL_law_476 ?_
  refine wp_iload3 478 rfl dL_law_477 ?_
  refine wp_iconst (nI 1) 479 rfl dL_law_478 rfl ?_
  refine wp_iadd 480 rfl dL_law_479 ?_
  refine wp_sld (j := i + 1) 481 rfl dL_law_480 (nI_add ..) (by omega) (by omega) ?_
  refine wp_aload0 482 rfl dL_law_481 ?_
  refine wp_iload3 483 rfl dL_law_482 ?_
  refine wp_iconst (nI 2) 484 rfl dL_law_483 rfl ?_
  refine wp_iadd 485 rfl dL_law_484 ?_
  refine wp_sld (j := i + 2) 486 rfl dL_law_485 (nI_add ..) (by omega) (by omega) ?_
  refine wp_aload0 487 rfl dL_law_486 ?_
  refine wp_iload3 488 rfl dL_law_487 ?_
  refine wp_iconst (nI 3) 489 rfl dL_law_488 rfl ?_
  refine wp_iadd 490 rfl dL_law_489 ?_
  refine wp_sld (j := i + 3) 491 rfl dL_law_490 (nI_add ..) (by omega) (by omega) ?_
  refine wp_Vi3 494 rfl dL_law_491 kX10_tells lL_53 (md_M h1) (nl rfl) (nl rfl) (q_tells h1 lv (y_T S) (y_w S) hm1.1 (sm_xs G (i + 1)) (sm_xs G (i + 2)) (sm_xs G (i + 3))) (fun r2 J2 ρ2 h => ?_)
  obtain ⟨e2, f2, er2⟩ := h
  have e2 := e2.symm
  subst e2
  refine wp_icmp_eq 497 1471 rfl rfl dL_law_494 (fun _ => ?_) (fun c => absurd (er.trans er2.symm) c)
  exact kk J2 ρ S (hj0.asked f1 f2) jR.rf
theorem lk_9 (hj : jI I ρ S) (hi : i + 6 ≤ G.2.2.2.2 49) (hL : G.2.2.2.2 49 ≤ 384) (kk : ∀ J ρ1 S1, jI J ρ1 S1 → jR ρ ρ1 → sm_V G xL_law (D + 414) 1471 [.ref 48, .ref 64, .ref 898, .int (nI i)] [] J ρ1 Q) : sm_V G xL_law (D + 414) 499 [.ref 48, .ref 64, .ref 898, .int (nI i)] [] I ρ Q := by
  have hj0 := hj
  obtain ⟨⟨tp, q, hc⟩, ⟨lv, hm⟩, ⟨h1, h2⟩, h3, h4⟩ := hj
  have hK := hc.1.1
  refine wp_aload1 500 rfl dL_law_499 ?_
  refine wp_aload0 501 rfl dL_law_500 ?_
  refine wp_iload3 502 rfl dL_law_501 ?_
  refine wp_iconst (nI 1) 503 rfl dL_law_502 rfl ?_
  refine wp_iadd 504 rfl dL_law_503 ?_
  refine wp_sld (j := i + 1) 505 rfl dL_law_504 (nI_add ..) (by omega) (by omega) ?_
  refine wp_aload0 506 rfl dL_law_505 ?_
  refine wp_iload3 507 rfl dL_law_506 ?_
  refine wp_iconst (nI 2) 508 rfl dL_law_507 rfl ?_
  refine wp_iadd 509 rfl dL_law_508 ?_
  refine wp_sld (j := i + 2) 510 rfl dL_law_509 (nI_add ..) (by omega) (by omega) ?_
  refine wp_Vi2 513 rfl dL_law_510 kX0_lift lL_54 (o1 hK) (nl rfl) (nl rfl) (c_lift hc (sm_xs G (i + 1)) (sm_xs G (i + 2))) (fun r J ρ1 h => ?_)
  obtain ⟨e1, hc1, er, f1⟩ := h
  have e1 := e1.symm
  subst e1
  have hm1 := hm.cg f1
  refine wp_aload2 514 rfl dL_law_513 ?_
  refine wp_aload0 515 rfl dL_law_514 ?_
  refine wp_iload3 516 rfl dL_law_515 ?_
  refine wp_iconst (nI 1) 517 rfl dL_law_516 rfl ?_
  refine wp_iadd 518 rfl dL_law_517 ?_
  refine wp_sld (j := i + 1) 519 rfl dL_law_518 (nI_add ..) (by omega) (by omega) ?_
  refine wp_aload0 520 rfl dL_law_519 ?_
  refine wp_iload3 521 rfl dL_law_520 ?_
  refine wp_iconst (nI 2) 522 rfl dL_law_521 rfl ?_
  refine wp_iadd 523 rfl dL_law_522 ?_
  refine wp_sld (j := i + 2) 524 rfl dL_law_523 (nI_add ..) (by omega) (by omega) ?_
  refine wp_Vi2 527 rfl dL_law_524 kX10_lift lL_58 (md_M h1) (nl rfl) (nl rfl) (q_lift h1 lv S hm1 (sm_xs G (i + 1)) (sm_xs G (i + 2))) (fun r2 J2 ρ2 h => ?_)
  obtain ⟨e2, hm2, er2, f2⟩ := h
  have e2 := e2.symm
  subst e2
  refine wp_icmp_eq 530 1471 rfl rfl dL_law_527 (fun _ => ?_) (fun c => absurd (er.trans er2.symm) c)
  exact kk J2 ρ (y_lift S (sm_xs G (i + 1)) (sm_xs G (i + 2))).2 ⟨⟨tp, q, hc1.cg f2⟩, ⟨lv, hm2⟩, ⟨h1, h2⟩, h3, h4⟩ jR.rf
theorem lk_10 (hj : jI I ρ S) (hi : i + 6 ≤ G.2.2.2.2 49) (hL : G.2.2.2.2 49 ≤ 384) (kk : ∀ J ρ1 S1, jI J ρ1 S1 → jR ρ ρ1 → sm_V G xL_law (D + 414) 1471 [.ref 48, .ref 64, .ref 898, .int (nI i)] [] J ρ1 Q) : sm_V G xL_law (D + 414) 532 [.ref 48, .ref 64, .ref 898, .int (nI i)] [] I ρ Q := by
  have hj0 := hj
  obtain ⟨⟨tp, q, hc⟩, ⟨lv, hm⟩, ⟨h1, h2⟩, h3, h4⟩ := hj
  have hK := hc.1.1
  refine wp_aload1 533 rfl dL_law_532 ?_
  refine wp_aload0 534 rfl dL_law_533 ?_
  refine wp_iload3 535 rfl dL_law_534 ?_
  refine wp_iconst (nI 1) 536 rfl dL_law_535 rfl ?_
  refine wp_iadd 537 rfl dL_law_536 ?_
  refine wp_sld (j := i + 1) 538 rfl dL_law_537 (nI_add ..) (by omega) (by omega) ?_
  refine wp_Vi1 541 rfl dL_law_538 kX0_polish lL_59 (o1 hK) (nl rfl) (nl rfl) (c_polish hc (sm_xs G (i + 1))) (fun r J ρ1 h => ?_)
  obtain ⟨e1, hc1, er, f1⟩ := h
  have e1 := e1.symm
  subst e1
  have hm1 := hm.cg f1
  refine wp_aload2 542 rfl dL_law_541 ?_
  refine wp_aload0 543 rfl dL_law_542 ?_
  refine wp_iload3 544 rfl dL_law_543 ?_
  refine wp_iconst (nI 1) 545 rfl dL_law_544 rfl ?_
  refine wp_iadd 546 rfl dL_law_545 ?_
  refine wp_sld (j := i + 1) 547 rfl dL_law_546 (nI_add ..) (by omega) (by omega) ?_
  refine wp_Vi1 550 rfl dL_law_547 kX10_polish lL_63 (md_M h1) (nl rfl) (nl rfl) (q_polish h1 lv S hm1 (sm_xs G (i + 1))) (fun r2 J2 ρ2 h => ?_)
  obtain ⟨e2, hm2, er2, f2⟩ := h
  have e2 := e2.symm
  subst e2
  refine wp_icmp_eq 553 1471 rfl rfl dL_law_550 (fun _ => ?_) (fun c => absurd (er.trans er2.symm) c)
  exact kk J2 ρ (y_polish S (sm_xs G (i + 1))).2 ⟨⟨tp, q, hc1.cg f2⟩, ⟨lv, hm2⟩, ⟨h1, h2⟩, h3, h4⟩ jR.rf
theorem lk_11 (hj : jI I ρ S) (hi : i + 6 ≤ G.2.2.2.2 49) (hL : G.2.2.2.2 49 ≤ 384) (kk : ∀ J ρ1 S1, jI J ρ1 S1 → jR ρ ρ1 → sm_V G xL_law (D + 414) 1471 [.ref 48, .ref 64, .ref 898, .int (nI i)] [] J ρ1 Q) : sm_V G xL_law (D + 414) 555 [.ref 48, .ref 64, .ref 898, .int (nI i)] [] I ρ Q := by
  have hj0 := hj
  obtain ⟨⟨tp, q, hc⟩, ⟨lv, hm⟩, ⟨h1, h2⟩, h3, h4⟩ := hj
  have hK := hc.1.1
  refine wp_aload1 556 rfl dL_law_555 ?_
  refine wp_aload0 557 rfl dL_law_556 ?_
  refine wp_iload3 558 rfl dL_law_557 ?_
  refine wp_iconst (nI 1) 559 rfl dL_law_558 rfl ?_
  refine wp_iadd 560 rfl dL_law_559 ?_
  refine wp_sld (j := i + 1) 561 rfl dL_law_560 (nI_add ..) (by omega) (by omega) ?_
  refine wp_aload0 562 rfl dL_law_561 ?_
  refine wp_iload3 563 rfl dL_law_562 ?_
  refine wp_iconst (nI 2) 564 rfl dL_law_563 rfl ?_
  refine wp_iadd 565 rfl dL_law_564 ?_
  refine wp_sld (j := i + 2) 566 rfl dL_law_565 (nI_add ..) (by omega) (by omega) ?_
  refine wp_Vi2 569 rfl dL_law_566 kX0_file lL_64 (o1 hK) (nl rfl) (nl rfl) (c_file hc (sm_xs G (i + 1)) (sm_xs G (i + 2))) (fun r J ρ1 h => ?_)
  obtain ⟨e1, hc1, er, f1⟩ := h
  have e1 := e1.symm
  subst e1
  have hm1 := hm.cg f1
  refine wp_aload2 570 rfl dL_law_569 ?_
  refine wp_aload0 571 rfl dL_law_570 ?_
  refine wp_iload3 572 rfl dL_law_571 ?_
  refine wp_iconst (nI 1) 573 rfl dL_law_572 rfl ?_
  refine wp_iadd 574 rfl dL_law_573 ?_
  refine wp_sld (j := i + 1) 575 rfl dL_law_574 (nI_add ..) (by omega) (by omega) ?_
  refine wp_aload0 576 rfl dL_law_575 ?_
  refine wp_iload3 577 rfl dL_law_576 ?_
  refine wp_iconst (nI 2) 578 rfl dL_law_577 rfl ?_
  refine wp_iadd 579 rfl dL_law_578 ?_
  refine wp_sld (j := i + 2) 580 rfl dL_law_579 (nI_add ..) (by omega) (by omega) ?_
  refine wp_Vi2 583 rfl dL_law_580 kX10_file lL_67 (md_M h1) (nl rfl) (nl rfl) (q_file h1 lv S hm1 (sm_xs G (i + 1)) (sm_xs G (i + 2))) (fun r2 J2 ρ2 h => ?_)
  obtain ⟨e2, hm2, er2, f2⟩ := h
  have e2 := e2.symm
  subst e2
  refine wp_icmp_eq 586 1471 rfl rfl dL_law_583 (fun _ => ?_) (fun c => absurd (er.trans er2.symm) c)
  exact kk J2 ρ (y_file S (sm_xs G (i + 1)) (sm_xs G (i + 2))).2 ⟨⟨tp, q, hc1.cg f2⟩, ⟨lv, hm2⟩, ⟨h1, h2⟩, h3, h4⟩ jR.rf
theorem lk_12 (hj : jI I ρ S) (hi : i + 6 ≤ G.2.2.2.2 49) (hL : G.2.2.2.2 49 ≤ 384) (kk : ∀ J ρ1 S1, jI J ρ1 S1 → jR ρ ρ1 → sm_V G xL_law (D + 414) 1471 [.ref 48, .ref 64, .ref 898, .int (nI i)] [] J ρ1 Q) : sm_V G xL_law (D + 414) 588 [.ref 48, .ref 64, .ref 898, .int (nI i)] [] I ρ Q := by
  have hj0 := hj
  obtain ⟨⟨tp, q, hc⟩, ⟨lv, hm⟩, ⟨h1, h2⟩, h3, h4⟩ := hj
  have hK := hc.1.1
  by_cases h0 : sm_xs G (i + 2) = 0
  · refine wp_aload1 589 rfl dL_law_588 ?_
    refine wp_aload0 590 rfl dL_law_589 ?_
    refine wp_iload3 591 rfl dL_law_590 ?_
    refine wp_iconst (nI 1) 592 rfl dL_law_591 rfl ?_
    refine wp_iadd 593 rfl dL_law_592 ?_
    refine wp_sld (j := i + 1) 594 rfl dL_law_593 (nI_add ..) (by omega) (by omega) ?_
    refine wp_aload0 595 rfl dL_law_594 ?_
    refine wp_iload3 596 rfl dL_law_595 ?_
    refine wp_iconst (nI 2) 597 rfl dL_law_596 rfl ?_
    refine wp_iadd 598 rfl dL_law_597 ?_
    refine wp_sld (j := i + 2) 599 rfl dL_law_598 (nI_add ..) (by omega) (by omega) ?_
    refine wp_if_eq 602 606 rfl rfl dL_law_599 (fun _ => ?_) (fun c => absurd h0 c)
    refine wp_iconst (nI 0) 607 rfl dL_law_606 rfl ?_
    refine wp_Vi2 610 rfl dL_law_607 kX0_keep lL_68 (o1 hK) (nl rfl) (nl rfl) (c_keep hc (sm_xs G (i + 1)) (nI 0) (Or.inl rfl)) (fun r J ρ1 h => ?_)
    obtain ⟨e1, hc1, er, f1⟩ := h
    have e1 := e1.symm
    subst e1
    have hm1 := hm.cg f1
    refine wp_aload2 611 rfl dL_law_610 ?_
    refine wp_aload0 612 rfl dL_law_611 ?_
    refine wp_iload3 613 rfl dL_law_612 ?_
    refine wp_iconst (nI 1) 614 rfl dL_law_613 rfl ?_
    refine wp_iadd 615 rfl dL_law_614 ?_
    refine wp_sld (j := i + 1) 616 rfl dL_law_615 (nI_add ..) (by omega) (by omega) ?_
    refine wp_aload0 617 rfl dL_law_616 ?_
    refine wp_iload3 618 rfl dL_law_617 ?_
    refine wp_iconst (nI 2) 619 rfl dL_law_618 rfl ?_
    refine wp_iadd 620 rfl dL_law_619 ?_
    refine wp_sld (j := i + 2) 621 rfl dL_law_620 (nI_add ..) (by omega) (by omega) ?_
    refine wp_if_eq 624 628 rfl rfl dL_law_621 (fun _ => ?_) (fun c => absurd h0 c)
    refine wp_iconst (nI 0) 629 rfl dL_law_628 rfl ?_
    refine wp_Vi2 632 rfl dL_law_629 kX10_keep lL_72 (md_M h1) (nl rfl) (nl rfl) (q_keep h1 lv S hm1 (sm_xs G (i + 1)) (nI 0) (Or.inl rfl)) (fun r2 J2 ρ2 h => ?_)
    obtain ⟨e2, hm2, er2, f2⟩ := h
    have e2 := e2.symm
    subst e2
    refine wp_icmp_eq 635 1471 rfl rfl dL_law_632 (fun _ => ?_) (fun c => absurd (er.trans er2.symm) c)
    exact kk J2 ρ (y_keep S (sm_xs G (i + 1)) (nI 0)).2 ⟨⟨tp, q, hc1.cg f2⟩, ⟨lv, hm2⟩, ⟨h1, h2⟩, h3, h4⟩ jR.rf
  · refine wp_aload1 589 rfl dL_law_588 ?_
    refine wp_aload0 590 rfl dL_law_589 ?_
    refine wp_iload3 591 rfl dL_law_590 ?_
    refine wp_iconst (nI 1) 592 rfl dL_law_591 rfl ?_
    refine wp_iadd 593 rfl dL_law_592 ?_
    refine wp_sld (j := i + 1) 594 rfl dL_law_593 (nI_add ..) (by omega) (by omega) ?_
    refine wp_aload0 595 rfl dL_law_594 ?_
    refine wp_iload3 596 rfl dL_law_595 ?_
    refine wp_iconst (nI 2) 597 rfl dL_law_596 rfl ?_
    refine wp_iadd 598 rfl dL_law_597 ?_
    refine wp_sld (j := i + 2) 599 rfl dL_law_598 (nI_add ..) (by omega) (by omega) ?_
    refine wp_if_eq 602 606 rfl rfl dL_law_599 (fun c => absurd c h0) (fun _ => ?_)
    refine wp_iconst (nI 1) 603 rfl dL_law_602 rfl ?_
    refine wp_goto 607 rfl dL_law_603 ?_
    refine wp_Vi2 610 rfl dL_law_607 kX0_keep lL_68 (o1 hK) (nl rfl) (nl rfl) (c_keep hc (sm_xs G (i + 1)) (nI 1) (Or.inr rfl)) (fun r J ρ1 h => ?_)
    obtain ⟨e1, hc1, er, f1⟩ := h
    have e1 := e1.symm
    subst e1
    have hm1 := hm.cg f1
    refine wp_aload2 611 rfl dL_law_610 ?_
    refine wp_aload0 612 rfl dL_law_611 ?_
    refine wp_iload3 613 rfl dL_law_612 ?_
    refine wp_iconst (nI 1) 614 rfl dL_law_613 rfl ?_
    refine wp_iadd 615 rfl dL_law_614 ?_
    refine wp_sld (j := i + 1) 616 rfl dL_law_615 (nI_add ..) (by omega) (by omega) ?_
    refine wp_aload0 617 rfl dL_law_616 ?_
    refine wp_iload3 618 rfl dL_law_617 ?_
    refine wp_iconst (nI 2) 619 rfl dL_law_618 rfl ?_
    refine wp_iadd 620 rfl dL_law_619 ?_
    refine wp_sld (j := i + 2) 621 rfl dL_law_620 (nI_add ..) (by omega) (by omega) ?_
    refine wp_if_eq 624 628 rfl rfl dL_law_621 (fun c => absurd c h0) (fun _ => ?_)
    refine wp_iconst (nI 1) 625 rfl dL_law_624 rfl ?_
    refine wp_goto 629 rfl dL_law_625 ?_
    refine wp_Vi2 632 rfl dL_law_629 kX10_keep lL_72 (md_M h1) (nl rfl) (nl rfl) (q_keep h1 lv S hm1 (sm_xs G (i + 1)) (nI 1) (Or.inr rfl)) (fun r2 J2 ρ2 h => ?_)
    obtain ⟨e2, hm2, er2, f2⟩ := h
    have e2 := e2.symm
    subst e2
    refine wp_icmp_eq 635 1471 rfl rfl dL_law_632 (fun _ => ?_) (fun c => absurd (er.trans er2.symm) c)
    exact kk J2 ρ (y_keep S (sm_xs G (i + 1)) (nI 1)).2 ⟨⟨tp, q, hc1.cg f2⟩, ⟨lv, hm2⟩, ⟨h1, h2⟩, h3, h4⟩ jR.rf
theorem lk_13 (hj : jI I ρ S) (hi : i + 6 ≤ G.2.2.2.2 49) (hL : G.2.2.2.2 49 ≤ 384) (kk : ∀ J ρ1 S1, jI J ρ1 S1 → jR ρ ρ1 → sm_V G xL_law (D + 414) 1471 [.ref 48, .ref 64, .ref 898, .int (nI i)] [] J ρ1 Q) : sm_V G xL_law (D + 414) 637 [.ref 48, .ref 64, .ref 898, .int (nI i)] [] I ρ Q := by
  have hj0 := hj
  obtain ⟨⟨tp, q, hc⟩, ⟨lv, hm⟩, ⟨h1, h2⟩, h3, h4⟩ := hj
  have hK := hc.1.1
  refine wp_aload1 638 rfl dL_law_637 ?_
  refine wp_aload0 639 rfl dL_law_638 ?_
  refine wp_iload3 640 rfl dL_law_639 ?_
  refine wp_iconst (nI 1) 641 rfl dL_law_640 rfl ?_
  refine wp_iadd 642 rfl dL_law_641 ?_
  refine wp_sld (j := i + 1) 643 rfl dL_law_642 (nI_add ..) (by omega) (by omega) ?_
  refine wp_Vi1 646 rfl dL_law_643 kX0_days lL_73 (o1 hK) (nl rfl) (nl rfl) (c_days hc (sm_xs G (i + 1))) (fun r J ρ1 h => ?_)
  obtain ⟨e1, hc1, er, f1⟩ := h
  have e1 := e1.symm
  subst e1
  have hm1 := hm.cg f1
  refine wp_aload2 647 rfl dL_law_646 ?_
  refine wp_aload0 648 rfl dL_law_647 ?_
  refine wp_iload3 649 rfl dL_law_648 ?_
  refine wp_iconst (nI 1) 650 rfl dL_law_649 rfl ?_
  refine wp_iadd 651 rfl dL_law_650 ?_
  refine wp_sld (j := i + 1) 652 rfl dL_law_651 (nI_add ..) (by omega) (by omega) ?_
  refine wp_Vi1 655 rfl dL_law_652 kX10_days lL_76 (md_M h1) (nl rfl) (nl rfl) (q_days h1 lv S hm1 (sm_xs G (i + 1))) (fun r2 J2 ρ2 h => ?_)
  obtain ⟨e2, hm2, er2, f2⟩ := h
  have e2 := e2.symm
  subst e2
  refine wp_icmp_eq 658 1471 rfl rfl dL_law_655 (fun _ => ?_) (fun c => absurd (er.trans er2.symm) c)
  exact kk J2 ρ (y_days S (sm_xs G (i + 1))).2 ⟨⟨tp, q, hc1.cg f2⟩, ⟨lv, hm2⟩, ⟨h1, h2⟩, h3, h4⟩ jR.rf
theorem lk_14 (hj : jI I ρ S) (hi : i + 6 ≤ G.2.2.2.2 49) (hL : G.2.2.2.2 49 ≤ 384) (kk : ∀ J ρ1 S1, jI J ρ1 S1 → jR ρ ρ1 → sm_V G xL_law (D + 414) 1471 [.ref 48, .ref 64, .ref 898, .int (nI i)] [] J ρ1 Q) : sm_V G xL_law (D + 414) 660 [.ref 48, .ref 64, .ref 898, .int (nI i)] [] I ρ Q := by
  have hj0 := hj
  obtain ⟨⟨tp, q, hc⟩, ⟨lv, hm⟩, ⟨h1, h2⟩, h3, h4⟩ := hj
  have hK := hc.1.1
  refine wp_aload1 661 rfl dL_law_660 ?_
  refine wp_Vi0 664 rfl dL_law_661 kX0_undo lL_77 (o1 hK) (nl rfl) (nl rfl) (c_undo hc ) (fun r J ρ1 h => ?_)
  obtain ⟨e1, hc1, er, f1⟩ := h
  have e1 := e1.symm
  subst e1
  have hm1 := hm.cg f1
  refine wp_aload2 665 rfl dL_law_664 ?_
  refine wp_Vi0 668 rfl dL_law_665 kX10_undo lL_81 (md_M h1) (nl rfl) (nl rfl) (q_undo h1 lv S hm1 ) (fun r2 J2 ρ2 h => ?_)
  obtain ⟨e2, hm2, er2, f2⟩ := h
  have e2 := e2.symm
  subst e2
  refine wp_icmp_eq 671 1471 rfl rfl dL_law_668 (fun _ => ?_) (fun c => absurd (er.trans er2.symm) c)
  exact kk J2 ρ (y_undo S).2 ⟨⟨tp, q, hc1.cg f2⟩, ⟨lv, hm2⟩, ⟨h1, h2⟩, h3, h4⟩ jR.rf
theorem lk_15 (hj : jI I ρ S) (hi : i + 6 ≤ G.2.2.2.2 49) (hL : G.2.2.2.2 49 ≤ 384) (kk : ∀ J ρ1 S1, jI J ρ1 S1 → jR ρ ρ1 → sm_V G xL_law (D + 414) 1471 [.ref 48, .ref 64, .ref 898, .int (nI i)] [] J ρ1 Q) : sm_V G xL_law (D + 414) 673 [.ref 48, .ref 64, .ref 898, .int (nI i)] [] I ρ Q := by
  have hj0 := hj
  obtain ⟨⟨tp, q, hc⟩, ⟨lv, hm⟩, ⟨h1, h2⟩, h3, h4⟩ := hj
  have hK := hc.1.1
  refine wp_aload1 674 rfl dL_law_673 ?_
  refine wp_aload0 675 rfl dL_law_674 ?_
  refine wp_iload3 676 rfl dL_law_675 ?_
  refine wp_iconst (nI 1) 677 rfl dL_law_676 rfl ?_
  refine wp_iadd 678 rfl dL_law_677 ?_
  refine wp_sld (j := i + 1) 679 rfl dL_law_678 (nI_add ..) (by omega) (by omega) ?_
  refine wp_aload0 680 rfl dL_law_679 ?_
  refine wp_iload3 681 rfl dL_law_680 ?_
  refine wp_iconst (nI 2) 682 rfl dL_law_681 rfl ?_
  refine wp_iadd 683 rfl dL_law_682 ?_
  refine wp_sld (j := i + 2) 684 rfl dL_law_683 (nI_add ..) (by omega) (by omega) ?_
  refine wp_aload0 685 rfl dL_law_684 ?_
  refine wp_iload3 686 rfl dL_law_685 ?_
  refine wp_iconst (nI 3) 687 rfl dL_law_686 rfl ?_
  refine wp_iadd 688 rfl dL_law_687 ?_
  refine wp_sld (j := i + 3) 689 rfl dL_law_688 (nI_add ..) (by omega) (by omega) ?_
  refine wp_Vi3 692 rfl dL_law_689 kX0_lifts lL_82 (o1 hK) (nl rfl) (nl rfl) (c_lifts hc.1 (sm_xs G (i + 1)) (sm_xs G (i + 2)) (sm_xs G (i + 3))) (fun r J ρ1 h => ?_)
  obtain ⟨e1, f1, er⟩ := h
  have e1 := e1.symm
  subst e1
  have hm1 := hm.cg (cFr.asked f1)
  refine wp_aload2 693 rfl dL_law_692 ?_
  refine wp_aload0 694 rfl dL_law_693 ?_
  refine wp_iload3 695 rfl dL_law_694 ?_
  refine wp_iconst (nI 1) 696 rfl dL_law_695 rfl ?_
  refine wp_iadd 697 rfl dL_law_696 ?_
  refine wp_sld (j := i + 1) 698 rfl dL_law_697 (nI_add ..) (by omega) (by omega) ?_
  refine wp_aload0 699 rfl dL_law_698 ?_
  refine wp_iload3 700 rfl dL_law_699 ?_
  refine wp_iconst (nI 2) 701 rfl dL_law_700 rfl ?_
  refine wp_iadd 702 rfl dL_law_701 ?_
  refine wp_sld (j := i + 2) 703 rfl dL_law_702 (nI_add ..) (by omega) (by omega) ?_
  refine wp_aload0 704 rfl dL_law_703 ?_
  refine wp_iload3 705 rfl dL_law_704 ?_
  refine wp_iconst (nI 3) 706 rfl dL_law_705 rfl ?_
  refine wp_iadd 707 rfl dL_law_706 ?_
  refine wp_sld (j := i + 3) 708 rfl dL_law_707 (nI_add ..) (by omega) (by omega) ?_
  refine wp_Vi3 711 rfl dL_law_708 kX10_lifts lL_85 (md_M h1) (nl rfl) (nl rfl) (q_lifts h1 lv (y_T S) (y_w S) hm1.1 (sm_xs G (i + 1)) (sm_xs G (i + 2)) (sm_xs G (i + 3))) (fun r2 J2 ρ2 h => ?_)
  obtain ⟨e2, f2, er2⟩ := h
  have e2 := e2.symm
  subst e2
  refine wp_icmp_eq 714 1471 rfl rfl dL_law_711 (fun _ => ?_) (fun c => absurd (er.trans er2.symm) c)
  exact kk J2 ρ S (hj0.asked f1 f2) jR.rf
theorem lk_16 (hj : jI I ρ S) (hi : i + 6 ≤ G.2.2.2.2 49) (hL : G.2.2.2.2 49 ≤ 384) (kk : ∀ J ρ1 S1, jI J ρ1 S1 → jR ρ ρ1 → sm_V G xL_law (D + 414) 1471 [.ref 48, .ref 64, .ref 898, .int (nI i)] [] J ρ1 Q) : sm_V G xL_law (D + 414) 716 [.ref 48, .ref 64, .ref 898, .int (nI i)] [] I ρ Q := by
  have hj0 := hj
  obtain ⟨⟨tp, q, hc⟩, ⟨lv, hm⟩, ⟨h1, h2⟩, h3, h4⟩ := hj
  have hK := hc.1.1
  refine wp_aload1 717 rfl dL_law_716 ?_
  refine wp_aload0 718 rfl dL_law_717 ?_
  refine wp_iload3 719 rfl dL_law_718 ?_
  refine wp_iconst (nI 1) 720 rfl dL_law_719 rfl ?_
  refine wp_iadd 721 rfl dL_law_720 ?_
  refine wp_sld (j := i + 1) 722 rfl dL_law_721 (nI_add ..) (by omega) (by omega) ?_
  refine wp_aload0 723 rfl dL_law_722 ?_
  refine wp_iload3 724 rfl dL_law_723 ?_
  refine wp_iconst (nI 2) 725 rfl dL_law_724 rfl ?_
  refine wp_iadd 726 rfl dL_law_725 ?_
  refine wp_sld (j := i + 2) 727 rfl dL_law_726 (nI_add ..) (by omega) (by omega) ?_
  refine wp_aload0 728 rfl dL_law_727 ?_
  refine wp_iload3 729 rfl dL_law_728 ?_
  refine wp_iconst (nI 3) 730 rfl dL_law_729 rfl ?_
  refine wp_iadd 731 rfl dL_law_730 ?_
  refine wp_sld (j := i + 3) 732 rfl dL_law_731 (nI_add ..) (by omega) (by omega) ?_
  refine wp_Vi3 735 rfl dL_law_732 kX0_towards lL_86 (o1 hK) (nl rfl) (nl rfl) (c_towards hc.1 (sm_xs G (i + 1)) (sm_xs G (i + 2)) (sm_xs G (i + 3))) (fun r J ρ1 h => ?_)
  obtain ⟨e1, f1, er⟩ := h
  have e1 := e1.symm
  subst e1
  have hm1 := hm.cg (cFr.asked f1)
  refine wp_aload2 736 rfl dL_law_735 ?_
  refine wp_aload0 737 rfl dL_law_736 ?_
  refine wp_iload3 738 rfl dL_law_737 ?_
  refine wp_iconst (nI 1) 739 rfl dL_law_738 rfl ?_
  refine wp_iadd 740 rfl dL_law_739 ?_
  refine wp_sld (j := i + 1) 741 rfl dL_law_740 (nI_add ..) (by omega) (by omega) ?_
  refine wp_aload0 742 rfl dL_law_741 ?_
  refine wp_iload3 743 rfl dL_law_742 ?_
  refine wp_iconst (nI 2) 744 rfl dL_law_743 rfl ?_
  refine wp_iadd 745 rfl dL_law_744 ?_
  refine wp_sld (j := i + 2) 746 rfl dL_law_745 (nI_add ..) (by omega) (by omega) ?_
  refine wp_aload0 747 rfl dL_law_746 ?_
  refine wp_iload3 748 rfl dL_law_747 ?_
  refine wp_iconst (nI 3) 749 rfl dL_law_748 rfl ?_
  refine wp_iadd 750 rfl dL_law_749 ?_
  refine wp_sld (j := i + 3) 751 rfl dL_law_750 (nI_add ..) (by omega) (by omega) ?_
  refine wp_Vi3 754 rfl dL_law_751 kX10_towards lL_89 (md_M h1) (nl rfl) (nl rfl) (q_towards h1 lv (y_T S) (y_w S) hm1.1 (sm_xs G (i + 1)) (sm_xs G (i + 2)) (sm_xs G (i + 3))) (fun r2 J2 ρ2 h => ?_)
  obtain ⟨e2, f2, er2⟩ := h
  have e2 := e2.symm
  subst e2
  refine wp_icmp_eq 757 1471 rfl rfl dL_law_754 (fun _ => ?_) (fun c => absurd (er.trans er2.symm) c)
  exact kk J2 ρ S (hj0.asked f1 f2) jR.rf
theorem lk_17 (hj : jI I ρ S) (hi : i + 6 ≤ G.2.2.2.2 49) (hL : G.2.2.2.2 49 ≤ 384) (kk : ∀ J ρ1 S1, jI J ρ1 S1 → jR ρ ρ1 → sm_V G xL_law (D + 414) 1471 [.ref 48, .ref 64, .ref 898, .int (nI i)] [] J ρ1 Q) : sm_V G xL_law (D + 414) 759 [.ref 48, .ref 64, .ref 898, .int (nI i)] [] I ρ Q := by
  have hj0 := hj
  obtain ⟨⟨tp, q, hc⟩, ⟨lv, hm⟩, ⟨h1, h2⟩, h3, h4⟩ := hj
  have hK := hc.1.1
  refine wp_aload1 760 rfl dL_law_759 ?_
  refine wp_aload0 761 rfl dL_law_760 ?_
  refine wp_iload3 762 rfl dL_law_761 ?_
  refine wp_iconst (nI 1) 763 rfl dL_law_762 rfl ?_
  refine wp_iadd 764 rfl dL_law_763 ?_
  refine wp_sld (j := i + 1) 765 rfl dL_law_764 (nI_add ..) (by omega) (by omega) ?_
  refine wp_aload0 766 rfl dL_law_765 ?_
  refine wp_iload3 767 rfl dL_law_766 ?_
  refine wp_iconst (nI 2) 768 rfl dL_law_767 rfl ?_
  refine wp_iadd 769 rfl dL_law_768 ?_
  refine wp_sld (j := i + 2) 770 rfl dL_law_769 (nI_add ..) (by omega) (by omega) ?_
  refine wp_Vi2 773 rfl dL_law_770 kX0_without lL_90 (o1 hK) (nl rfl) (nl rfl) (c_without hc.1 (sm_xs G (i + 1)) (sm_xs G (i + 2))) (fun r J ρ1 h => ?_)
  obtain ⟨e1, f1, er⟩ := h
  have e1 := e1.symm
  subst e1
  have hm1 := hm.cg (cFr.asked f1)
  refine wp_aload2 774 rfl dL_law_773 ?_
  refine wp_aload0 775 rfl dL_law_774 ?_
  refine wp_iload3 776 rfl dL_law_775 ?_
  refine wp_iconst (nI 1) 777 rfl dL_law_776 rfl ?_
  refine wp_iadd 778 rfl dL_law_777 ?_
  refine wp_sld (j := i + 1) 779 rfl dL_law_778 (nI_add ..) (by omega) (by omega) ?_
  refine wp_aload0 780 rfl dL_law_779 ?_
  refine wp_iload3 781 rfl dL_law_780 ?_
  refine wp_iconst (nI 2) 782 rfl dL_law_781 rfl ?_
  refine wp_iadd 783 rfl dL_law_782 ?_
  refine wp_sld (j := i + 2) 784 rfl dL_law_783 (nI_add ..) (by omega) (by omega) ?_
  refine wp_Vi2 787 rfl dL_law_784 kX10_without lL_93 (md_M h1) (nl rfl) (nl rfl) (q_without h1 lv (y_T S) (y_w S) hm1.1 (sm_xs G (i + 1)) (sm_xs G (i + 2))) (fun r2 J2 ρ2 h => ?_)
  obtain ⟨e2, f2, er2⟩ := h
  have e2 := e2.symm
  subst e2
  refine wp_icmp_eq 790 1471 rfl rfl dL_law_787 (fun _ => ?_) (fun c => absurd (er.trans er2.symm) c)
  exact kk J2 ρ S (hj0.asked f1 f2) jR.rf
theorem lk_18 (hj : jI I ρ S) (hi : i + 6 ≤ G.2.2.2.2 49) (hL : G.2.2.2.2 49 ≤ 384) (kk : ∀ J ρ1 S1, jI J ρ1 S1 → jR ρ ρ1 → sm_V G xL_law (D + 414) 1471 [.ref 48, .ref 64, .ref 898, .int (nI i)] [] J ρ1 Q) : sm_V G xL_law (D + 414) 792 [.ref 48, .ref 64, .ref 898, .int (nI i)] [] I ρ Q := by
  have hj0 := hj
  obtain ⟨⟨tp, q, hc⟩, ⟨lv, hm⟩, ⟨h1, h2⟩, h3, h4⟩ := hj
  have hK := hc.1.1
  refine wp_aload1 793 rfl dL_law_792 ?_
  refine wp_aload0 794 rfl dL_law_793 ?_
  refine wp_iload3 795 rfl dL_law_794 ?_
  refine wp_iconst (nI 1) 796 rfl dL_law_795 rfl ?_
  refine wp_iadd 797 rfl dL_law_796 ?_
  refine wp_sld (j := i + 1) 798 rfl dL_law_797 (nI_add ..) (by omega) (by omega) ?_
  refine wp_Vi1 801 rfl dL_law_798 kX0_twins lL_94 (o1 hK) (nl rfl) (nl rfl) (c_twins hc.1 (sm_xs G (i + 1))) (fun r J ρ1 h => ?_)
  obtain ⟨e1, f1, er⟩ := h
  have e1 := e1.symm
  subst e1
  have hm1 := hm.cg (cFr.asked f1)
  refine wp_aload2 802 rfl dL_law_801 ?_
  refine wp_aload0 803 rfl dL_law_802 ?_
  refine wp_iload3 804 rfl dL_law_803 ?_
  refine wp_iconst (nI 1) 805 rfl dL_law_804 rfl ?_
  refine wp_iadd 806 rfl dL_law_805 ?_
  refine wp_sld (j := i + 1) 807 rfl dL_law_806 (nI_add ..) (by omega) (by omega) ?_
  refine wp_Vi1 810 rfl dL_law_807 kX10_twins lL_97 (md_M h1) (nl rfl) (nl rfl) (q_twins h1 lv (y_T S) (y_w S) hm1.1 (sm_xs G (i + 1))) (fun r2 J2 ρ2 h => ?_)
  obtain ⟨e2, f2, er2⟩ := h
  have e2 := e2.symm
  subst e2
  refine wp_icmp_eq 813 1471 rfl rfl dL_law_810 (fun _ => ?_) (fun c => absurd (er.trans er2.symm) c)
  exact kk J2 ρ S (hj0.asked f1 f2) jR.rf
theorem lk_19 (hj : jI I ρ S) (hi : i + 6 ≤ G.2.2.2.2 49) (hL : G.2.2.2.2 49 ≤ 384) (kk : ∀ J ρ1 S1, jI J ρ1 S1 → jR ρ ρ1 → sm_V G xL_law (D + 414) 1471 [.ref 48, .ref 64, .ref 898, .int (nI i)] [] J ρ1 Q) : sm_V G xL_law (D + 414) 815 [.ref 48, .ref 64, .ref 898, .int (nI i)] [] I ρ Q := by
  have hj0 := hj
  obtain ⟨⟨tp, q, hc⟩, ⟨lv, hm⟩, ⟨h1, h2⟩, h3, h4⟩ := hj
  have hK := hc.1.1
  refine wp_aload1 816 rfl dL_law_815 ?_
  refine wp_aload0 817 rfl dL_law_816 ?_
  refine wp_iload3 818 rfl dL_law_817 ?_
  refine wp_iconst (nI 1) 819 rfl dL_law_818 rfl ?_
  refine wp_iadd 820 rfl dL_law_819 ?_
  refine wp_sld (j := i + 1) 821 rfl dL_law_820 (nI_add ..) (by omega) (by omega) ?_
  refine wp_Vi1 824 rfl dL_law_821 kX0_paired lL_98 (o1 hK) (nl rfl) (nl rfl) (c_paired hc.1 (sm_xs G (i + 1))) (fun r J ρ1 h => ?_)
  obtain ⟨e1, f1, er⟩ := h
  have e1 := e1.symm
  subst e1
  have hm1 := hm.cg (cFr.asked f1)
  refine wp_aload2 825 rfl dL_law_824 ?_
  refine wp_aload0 826 rfl dL_law_825 ?_
  refine wp_iload3 827 rfl dL_law_826 ?_
  refine wp_iconst (nI 1) 828 rfl dL_law_827 rfl ?_
  refine wp_iadd 829 rfl dL_law_828 ?_
  refine wp_sld (j := i + 1) 830 rfl dL_law_829 (nI_add ..) (by omega) (by omega) ?_
  refine wp_Vi1 833 rfl dL_law_830 kX10_paired lL_101 (md_M h1) (nl rfl) (nl rfl) (q_paired h1 lv (y_T S) (y_w S) hm1.1 (sm_xs G (i + 1))) (fun r2 J2 ρ2 h => ?_)
  obtain ⟨e2, f2, er2⟩ := h
  have e2 := e2.symm
  subst e2
  refine wp_icmp_eq 836 1471 rfl rfl dL_law_833 (fun _ => ?_) (fun c => absurd (er.trans er2.symm) c)
  exact kk J2 ρ S (hj0.asked f1 f2) jR.rf
theorem lk_20 (hj : jI I ρ S) (hi : i + 6 ≤ G.2.2.2.2 49) (hL : G.2.2.2.2 49 ≤ 384) (kk : ∀ J ρ1 S1, jI J ρ1 S1 → jR ρ ρ1 → sm_V G xL_law (D + 414) 1471 [.ref 48, .ref 64, .ref 898, .int (nI i)] [] J ρ1 Q) : sm_V G xL_law (D + 414) 838 [.ref 48, .ref 64, .ref 898, .int (nI i)] [] I ρ Q := by
  have hj0 := hj
  obtain ⟨⟨tp, q, hc⟩, ⟨lv, hm⟩, ⟨h1, h2⟩, h3, h4⟩ := hj
  have hK := hc.1.1
  refine wp_aload1 839 rfl dL_law_838 ?_
  refine wp_aload0 840 rfl dL_law_839 ?_
  refine wp_iload3 841 rfl dL_law_840 ?_
  refine wp_iconst (nI 1) 842 rfl dL_law_841 rfl ?_
  refine wp_iadd 843 rfl dL_law_842 ?_
  refine wp_sld (j := i + 1) 844 rfl dL_law_843 (nI_add ..) (by omega) (by omega) ?_
  refine wp_Vi1 847 rfl dL_law_844 kX0_changes lL_102 (o1 hK) (nl rfl) (nl rfl) (c_changes hc.1 (sm_xs G (i + 1))) (fun r J ρ1 h => ?_)
  obtain ⟨e1, f1, er⟩ := h
  have e1 := e1.symm
  subst e1
  have hm1 := hm.cg (cFr.asked f1)
  refine wp_aload2 848 rfl dL_law_847 ?_
  refine wp_aload0 849 rfl dL_law_848 ?_
  refine wp_iload3 850 rfl dL_law_849 ?_
  refine wp_iconst (nI 1) 851 rfl dL_law_850 rfl ?_
  refine wp_iadd 852 rfl dL_law_851 ?_
  refine wp_sld (j := i + 1) 853 rfl dL_law_852 (nI_add ..) (by omega) (by omega) ?_
  refine wp_Vi1 856 rfl dL_law_853 kX10_changes lL_105 (md_M h1) (nl rfl) (nl rfl) (q_changes h1 lv (y_T S) (y_w S) hm1.1 (sm_xs G (i + 1))) (fun r2 J2 ρ2 h => ?_)
  obtain ⟨e2, f2, er2⟩ := h
  have e2 := e2.symm
  subst e2
  refine wp_icmp_eq 859 1471 rfl rfl dL_law_856 (fun _ => ?_) (fun c => absurd (er.trans er2.symm) c)
  exact kk J2 ρ S (hj0.asked f1 f2) jR.rf
theorem lk_21 (hj : jI I ρ S) (hi : i + 6 ≤ G.2.2.2.2 49) (hL : G.2.2.2.2 49 ≤ 384) (kk : ∀ J ρ1 S1, jI J ρ1 S1 → jR ρ ρ1 → sm_V G xL_law (D + 414) 1471 [.ref 48, .ref 64, .ref 898, .int (nI i)] [] J ρ1 Q) : sm_V G xL_law (D + 414) 861 [.ref 48, .ref 64, .ref 898, .int (nI i)] [] I ρ Q := by
  have hj0 := hj
  obtain ⟨⟨tp, q, hc⟩, ⟨lv, hm⟩, ⟨h1, h2⟩, h3, h4⟩ := hj
  have hK := hc.1.1
  refine wp_aload1 862 rfl dL_law_861 ?_
  refine wp_aload0 863 rfl dL_law_862 ?_
  refine wp_iload3 864 rfl dL_law_863 ?_
  refine wp_iconst (nI 1) 865 rfl dL_law_864 rfl ?_
  refine wp_iadd 866 rfl dL_law_865 ?_
  refine wp_sld (j := i + 1) 867 rfl dL_law_866 (nI_add ..) (by omega) (by omega) ?_
  refine wp_Vi1 870 rfl dL_law_867 kX0_rubs lL_106 (o1 hK) (nl rfl) (nl rfl) (c_rubs hc.1 (sm_xs G (i + 1))) (fun r J ρ1 h => ?_)
  obtain ⟨e1, f1, er⟩ := h
  have e1 := e1.symm
  subst e1
  have hm1 := hm.cg (cFr.asked f1)
  refine wp_aload2 871 rfl dL_law_870 ?_
  refine wp_aload0 872 rfl dL_law_871 ?_
  refine wp_iload3 873 rfl dL_law_872 ?_
  refine wp_iconst (nI 1) 874 rfl dL_law_873 rfl ?_
  refine wp_iadd 875 rfl dL_law_874 ?_
  refine wp_sld (j := i + 1) 876 rfl dL_law_875 (nI_add ..) (by omega) (by omega) ?_
  refine wp_Vi1 879 rfl dL_law_876 kX10_rubs lL_109 (md_M h1) (nl rfl) (nl rfl) (q_rubs h1 lv (y_T S) (y_w S) hm1.1 (sm_xs G (i + 1))) (fun r2 J2 ρ2 h => ?_)
  obtain ⟨e2, f2, er2⟩ := h
  have e2 := e2.symm
  subst e2
  refine wp_icmp_eq 882 1471 rfl rfl dL_law_879 (fun _ => ?_) (fun c => absurd (er.trans er2.symm) c)
  exact kk J2 ρ S (hj0.asked f1 f2) jR.rf
theorem lk_22 (hj : jI I ρ S) (hi : i + 6 ≤ G.2.2.2.2 49) (hL : G.2.2.2.2 49 ≤ 384) (kk : ∀ J ρ1 S1, jI J ρ1 S1 → jR ρ ρ1 → sm_V G xL_law (D + 414) 1471 [.ref 48, .ref 64, .ref 898, .int (nI i)] [] J ρ1 Q) : sm_V G xL_law (D + 414) 884 [.ref 48, .ref 64, .ref 898, .int (nI i)] [] I ρ Q := by
  have hj0 := hj
  obtain ⟨⟨tp, q, hc⟩, ⟨lv, hm⟩, ⟨h1, h2⟩, h3, h4⟩ := hj
  have hK := hc.1.1
  refine wp_aload1 885 rfl dL_law_884 ?_
  refine wp_aload0 886 rfl dL_law_885 ?_
  refine wp_iload3 887 rfl dL_law_886 ?_
  refine wp_iconst (nI 1) 888 rfl dL_law_887 rfl ?_
  refine wp_iadd 889 rfl dL_law_888 ?_
  refine wp_sld (j := i + 1) 890 rfl dL_law_889 (nI_add ..) (by omega) (by omega) ?_
  refine wp_aload0 891 rfl dL_law_890 ?_
  refine wp_iload3 892 rfl dL_law_891 ?_
  refine wp_iconst (nI 2) 893 rfl dL_law_892 rfl ?_
  refine wp_iadd 894 rfl dL_law_893 ?_
  refine wp_sld (j := i + 2) 895 rfl dL_law_894 (nI_add ..) (by omega) (by omega) ?_
  refine wp_Vi2 898 rfl dL_law_895 kX0_when lL_110 (o1 hK) (nl rfl) (nl rfl) (c_when hc.1 (sm_xs G (i + 1)) (sm_xs G (i + 2))) (fun r J ρ1 h => ?_)
  obtain ⟨e1, f1, er⟩ := h
  have e1 := e1.symm
  subst e1
  have hm1 := hm.cg (cFr.asked f1)
  refine wp_aload2 899 rfl dL_law_898 ?_
  refine wp_aload0 900 rfl dL_law_899 ?_
  refine wp_iload3 901 rfl dL_law_900 ?_
  refine wp_iconst (nI 1) 902 rfl dL_law_901 rfl ?_
  refine wp_iadd 903 rfl dL_law_902 ?_
  refine wp_sld (j := i + 1) 904 rfl dL_law_903 (nI_add ..) (by omega) (by omega) ?_
  refine wp_aload0 905 rfl dL_law_904 ?_
  refine wp_iload3 906 rfl dL_law_905 ?_
  refine wp_iconst (nI 2) 907 rfl dL_law_906 rfl ?_
  refine wp_iadd 908 rfl dL_law_907 ?_
  refine wp_sld (j := i + 2) 909 rfl dL_law_908 (nI_add ..) (by omega) (by omega) ?_
  refine wp_Vi2 912 rfl dL_law_909 kX10_when lL_113 (md_M h1) (nl rfl) (nl rfl) (q_when h1 lv (y_T S) (y_w S) hm1.1 (sm_xs G (i + 1)) (sm_xs G (i + 2))) (fun r2 J2 ρ2 h => ?_)
  obtain ⟨e2, f2, er2⟩ := h
  have e2 := e2.symm
  subst e2
  refine wp_icmp_eq 915 1471 rfl rfl dL_law_912 (fun _ => ?_) (fun c => absurd (er.trans er2.symm) c)
  exact kk J2 ρ S (hj0.asked f1 f2) jR.rf
theorem lk_23 (hj : jI I ρ S) (hi : i + 6 ≤ G.2.2.2.2 49) (hL : G.2.2.2.2 49 ≤ 384) (kk : ∀ J ρ1 S1, jI J ρ1 S1 → jR ρ ρ1 → sm_V G xL_law (D + 414) 1471 [.ref 48, .ref 64, .ref 898, .int (nI i)] [] J ρ1 Q) : sm_V G xL_law (D + 414) 917 [.ref 48, .ref 64, .ref 898, .int (nI i)] [] I ρ Q := by
  have hj0 := hj
  obtain ⟨⟨tp, q, hc⟩, ⟨lv, hm⟩, ⟨h1, h2⟩, h3, h4⟩ := hj
  have hK := hc.1.1
  refine wp_aload1 918 rfl dL_law_917 ?_
  refine wp_aload0 919 rfl dL_law_918 ?_
  refine wp_iload3 920 rfl dL_law_919 ?_
  refine wp_iconst (nI 1) 921 rfl dL_law_920 rfl ?_
  refine wp_iadd 922 rfl dL_law_921 ?_
  refine wp_sld (j := i + 1) 923 rfl dL_law_922 (nI_add ..) (by omega) (by omega) ?_
  refine wp_aload0 924 rfl dL_law_923 ?_
  refine wp_iload3 925 rfl dL_law_924 ?_
  refine wp_iconst (nI 2) 926 rfl dL_law_925 rfl ?_
  refine wp_iadd 927 rfl dL_law_926 ?_
  refine wp_sld (j := i + 2) 928 rfl dL_law_927 (nI_add ..) (by omega) (by omega) ?_
  refine wp_Vi2 931 rfl dL_law_928 kX0_alone lL_114 (o1 hK) (nl rfl) (nl rfl) (c_alone hc.1 (sm_xs G (i + 1)) (sm_xs G (i + 2))) (fun r J ρ1 h => ?_)
  obtain ⟨e1, f1, er⟩ := h
  have e1 := e1.symm
  subst e1
  have hm1 := hm.cg (cFr.asked f1)
  refine wp_aload2 932 rfl dL_law_931 ?_
  refine wp_aload0 933 rfl dL_law_932 ?_
  refine wp_iload3 934 rfl dL_law_933 ?_
  refine wp_iconst (nI 1) 935 rfl dL_law_934 rfl ?_
  refine wp_iadd 936 rfl dL_law_935 ?_
  refine wp_sld (j := i + 1) 937 rfl dL_law_936 (nI_add ..) (by omega) (by omega) ?_
  refine wp_aload0 938 rfl dL_law_937 ?_
  refine wp_iload3 939 rfl dL_law_938 ?_
  refine wp_iconst (nI 2) 940 rfl dL_law_939 rfl ?_
  refine wp_iadd 941 rfl dL_law_940 ?_
  refine wp_sld (j := i + 2) 942 rfl dL_law_941 (nI_add ..) (by omega) (by omega) ?_
  refine wp_Vi2 945 rfl dL_law_942 kX10_alone lL_117 (md_M h1) (nl rfl) (nl rfl) (q_alone h1 lv (y_T S) (y_w S) hm1.1 (sm_xs G (i + 1)) (sm_xs G (i + 2))) (fun r2 J2 ρ2 h => ?_)
  obtain ⟨e2, f2, er2⟩ := h
  have e2 := e2.symm
  subst e2
  refine wp_icmp_eq 948 1471 rfl rfl dL_law_945 (fun _ => ?_) (fun c => absurd (er.trans er2.symm) c)
  exact kk J2 ρ S (hj0.asked f1 f2) jR.rf
theorem lk_24 (hj : jI I ρ S) (hi : i + 6 ≤ G.2.2.2.2 49) (hL : G.2.2.2.2 49 ≤ 384) (kk : ∀ J ρ1 S1, jI J ρ1 S1 → jR ρ ρ1 → sm_V G xL_law (D + 414) 1471 [.ref 48, .ref 64, .ref 898, .int (nI i)] [] J ρ1 Q) : sm_V G xL_law (D + 414) 950 [.ref 48, .ref 64, .ref 898, .int (nI i)] [] I ρ Q := by
  have hj0 := hj
  obtain ⟨⟨tp, q, hc⟩, ⟨lv, hm⟩, ⟨h1, h2⟩, h3, h4⟩ := hj
  have hK := hc.1.1
  refine wp_aload1 951 rfl dL_law_950 ?_
  refine wp_aload0 952 rfl dL_law_951 ?_
  refine wp_iload3 953 rfl dL_law_952 ?_
  refine wp_iconst (nI 1) 954 rfl dL_law_953 rfl ?_
  refine wp_iadd 955 rfl dL_law_954 ?_
  refine wp_sld (j := i + 1) 956 rfl dL_law_955 (nI_add ..) (by omega) (by omega) ?_
  refine wp_Vi1 959 rfl dL_law_956 kX0_confused lL_118 (o1 hK) (nl rfl) (nl rfl) (c_confused hc.1 (sm_xs G (i + 1))) (fun r J ρ1 h => ?_)
  obtain ⟨e1, f1, er⟩ := h
  have e1 := e1.symm
  subst e1
  have hm1 := hm.cg (cFr.asked f1)
  refine wp_aload2 960 rfl dL_law_959 ?_
  refine wp_aload0 961 rfl dL_law_960 ?_
  refine wp_iload3 962 rfl dL_law_961 ?_
  refine wp_iconst (nI 1) 963 rfl dL_law_962 rfl ?_
  refine wp_iadd 964 rfl dL_law_963 ?_
  refine wp_sld (j := i + 1) 965 rfl dL_law_964 (nI_add ..) (by omega) (by omega) ?_
  refine wp_Vi1 968 rfl dL_law_965 kX10_confused lL_121 (md_M h1) (nl rfl) (nl rfl) (q_confused h1 lv (y_T S) (y_w S) hm1.1 (sm_xs G (i + 1))) (fun r2 J2 ρ2 h => ?_)
  obtain ⟨e2, f2, er2⟩ := h
  have e2 := e2.symm
  subst e2
  refine wp_icmp_eq 971 1471 rfl rfl dL_law_968 (fun _ => ?_) (fun c => absurd (er.trans er2.symm) c)
  exact kk J2 ρ S (hj0.asked f1 f2) jR.rf
theorem lk_25 (hj : jI I ρ S) (hi : i + 6 ≤ G.2.2.2.2 49) (hL : G.2.2.2.2 49 ≤ 384) (kk : ∀ J ρ1 S1, jI J ρ1 S1 → jR ρ ρ1 → sm_V G xL_law (D + 414) 1471 [.ref 48, .ref 64, .ref 898, .int (nI i)] [] J ρ1 Q) : sm_V G xL_law (D + 414) 973 [.ref 48, .ref 64, .ref 898, .int (nI i)] [] I ρ Q := by
  have hj0 := hj
  obtain ⟨⟨tp, q, hc⟩, ⟨lv, hm⟩, ⟨h1, h2⟩, h3, h4⟩ := hj
  have hK := hc.1.1
  refine wp_aload1 974 rfl dL_law_973 ?_
  refine wp_aload0 975 rfl dL_law_974 ?_
  refine wp_iload3 976 rfl dL_law_975 ?_
  refine wp_iconst (nI 1) 977 rfl dL_law_976 rfl ?_
  refine wp_iadd 978 rfl dL_law_977 ?_
  refine wp_sld (j := i + 1) 979 rfl dL_law_978 (nI_add ..) (by omega) (by omega) ?_
  refine wp_aload0 980 rfl dL_law_979 ?_
  refine wp_iload3 981 rfl dL_law_980 ?_
  refine wp_iconst (nI 2) 982 rfl dL_law_981 rfl ?_
  refine wp_iadd 983 rfl dL_law_982 ?_
  refine wp_sld (j := i + 2) 984 rfl dL_law_983 (nI_add ..) (by omega) (by omega) ?_
  refine wp_Vi2 987 rfl dL_law_984 kX0_nearest lL_122 (o1 hK) (nl rfl) (nl rfl) (c_nearest hc.1 (sm_xs G (i + 1)) (sm_xs G (i + 2))) (fun r J ρ1 h => ?_)
  obtain ⟨e1, f1, er⟩ := h
  have e1 := e1.symm
  subst e1
  have hm1 := hm.cg (cFr.asked f1)
  refine wp_aload2 988 rfl dL_law_987 ?_
  refine wp_aload0 989 rfl dL_law_988 ?_
  refine wp_iload3 990 rfl dL_law_989 ?_
  refine wp_iconst (nI 1) 991 rfl dL_law_990 rfl ?_
  refine wp_iadd 992 rfl dL_law_991 ?_
  refine wp_sld (j := i + 1) 993 rfl dL_law_992 (nI_add ..) (by omega) (by omega) ?_
  refine wp_aload0 994 rfl dL_law_993 ?_
  refine wp_iload3 995 rfl dL_law_994 ?_
  refine wp_iconst (nI 2) 996 rfl dL_law_995 rfl ?_
  refine wp_iadd 997 rfl dL_law_996 ?_
  refine wp_sld (j := i + 2) 998 rfl dL_law_997 (nI_add ..) (by omega) (by omega) ?_
  refine wp_Vi2 1001 rfl dL_law_998 kX10_nearest lL_125 (md_M h1) (nl rfl) (nl rfl) (q_nearest h1 lv (y_T S) (y_w S) hm1.1 (sm_xs G (i + 1)) (sm_xs G (i + 2))) (fun r2 J2 ρ2 h => ?_)
  obtain ⟨e2, f2, er2⟩ := h
  have e2 := e2.symm
  subst e2
  refine wp_icmp_eq 1004 1471 rfl rfl dL_law_1001 (fun _ => ?_) (fun c => absurd (er.trans er2.symm) c)
  exact kk J2 ρ S (hj0.asked f1 f2) jR.rf
theorem lk_26 (hj : jI I ρ S) (hi : i + 6 ≤ G.2.2.2.2 49) (hL : G.2.2.2.2 49 ≤ 384) (kk : ∀ J ρ1 S1, jI J ρ1 S1 → jR ρ ρ1 → sm_V G xL_law (D + 414) 1471 [.ref 48, .ref 64, .ref 898, .int (nI i)] [] J ρ1 Q) : sm_V G xL_law (D + 414) 1006 [.ref 48, .ref 64, .ref 898, .int (nI i)] [] I ρ Q := by
  have hj0 := hj
  obtain ⟨⟨tp, q, hc⟩, ⟨lv, hm⟩, ⟨h1, h2⟩, h3, h4⟩ := hj
  have hK := hc.1.1
  refine wp_aload1 1007 rfl dL_law_1006 ?_
  refine wp_aload0 1008 rfl dL_law_1007 ?_
  refine wp_iload3 1009 rfl dL_law_1008 ?_
  refine wp_iconst (nI 1) 1010 rfl dL_law_1009 rfl ?_
  refine wp_iadd 1011 rfl dL_law_1010 ?_
  refine wp_sld (j := i + 1) 1012 rfl dL_law_1011 (nI_add ..) (by omega) (by omega) ?_
  refine wp_aload0 1013 rfl dL_law_1012 ?_
  refine wp_iload3 1014 rfl dL_law_1013 ?_
  refine wp_iconst (nI 2) 1015 rfl dL_law_1014 rfl ?_
  refine wp_iadd 1016 rfl dL_law_1015 ?_
  refine wp_sld (j := i + 2) 1017 rfl dL_law_1016 (nI_add ..) (by omega) (by omega) ?_
  refine wp_Vi2 1020 rfl dL_law_1017 kX0_same lL_126 (o1 hK) (nl rfl) (nl rfl) (c_same hc.1 (sm_xs G (i + 1)) (sm_xs G (i + 2))) (fun r J ρ1 h => ?_)
  obtain ⟨e1, f1, er⟩ := h
  have e1 := e1.symm
  subst e1
  have hm1 := hm.cg (cFr.asked f1)
  refine wp_aload2 1021 rfl dL_law_1020 ?_
  refine wp_aload0 1022 rfl dL_law_1021 ?_
  refine wp_iload3 1023 rfl dL_law_1022 ?_
  refine wp_iconst (nI 1) 1024 rfl dL_law_1023 rfl ?_
  refine wp_iadd 1025 rfl dL_law_1024 ?_
  refine wp_sld (j := i + 1) 1026 rfl dL_law_1025 (nI_add ..) (by omega) (by omega) ?_
  refine wp_aload0 1027 rfl dL_law_1026 ?_
  refine wp_iload3 1028 rfl dL_law_1027 ?_
  refine wp_iconst (nI 2) 1029 rfl dL_law_1028 rfl ?_
  refine wp_iadd 1030 rfl dL_law_1029 ?_
  refine wp_sld (j := i + 2) 1031 rfl dL_law_1030 (nI_add ..) (by omega) (by omega) ?_
  refine wp_Vi2 1034 rfl dL_law_1031 kX10_same lL_129 (md_M h1) (nl rfl) (nl rfl) (q_same h1 lv (y_T S) (y_w S) hm1.1 (sm_xs G (i + 1)) (sm_xs G (i + 2))) (fun r2 J2 ρ2 h => ?_)
  obtain ⟨e2, f2, er2⟩ := h
  have e2 := e2.symm
  subst e2
  refine wp_icmp_eq 1037 1471 rfl rfl dL_law_1034 (fun _ => ?_) (fun c => absurd (er.trans er2.symm) c)
  exact kk J2 ρ S (hj0.asked f1 f2) jR.rf
theorem lk_27 (hj : jI I ρ S) (hi : i + 6 ≤ G.2.2.2.2 49) (hL : G.2.2.2.2 49 ≤ 384) (kk : ∀ J ρ1 S1, jI J ρ1 S1 → jR ρ ρ1 → sm_V G xL_law (D + 414) 1471 [.ref 48, .ref 64, .ref 898, .int (nI i)] [] J ρ1 Q) : sm_V G xL_law (D + 414) 1039 [.ref 48, .ref 64, .ref 898, .int (nI i)] [] I ρ Q := by
  have hj0 := hj
  obtain ⟨⟨tp, q, hc⟩, ⟨lv, hm⟩, ⟨h1, h2⟩, h3, h4⟩ := hj
  have hK := hc.1.1
  refine wp_aload1 1040 rfl dL_law_1039 ?_
  refine wp_aload0 1041 rfl dL_law_1040 ?_
  refine wp_iload3 1042 rfl dL_law_1041 ?_
  refine wp_iconst (nI 1) 1043 rfl dL_law_1042 rfl ?_
  refine wp_iadd 1044 rfl dL_law_1043 ?_
  refine wp_sld (j := i + 1) 1045 rfl dL_law_1044 (nI_add ..) (by omega) (by omega) ?_
  refine wp_aload0 1046 rfl dL_law_1045 ?_
  refine wp_iload3 1047 rfl dL_law_1046 ?_
  refine wp_iconst (nI 2) 1048 rfl dL_law_1047 rfl ?_
  refine wp_iadd 1049 rfl dL_law_1048 ?_
  refine wp_sld (j := i + 2) 1050 rfl dL_law_1049 (nI_add ..) (by omega) (by omega) ?_
  refine wp_Vi2 1053 rfl dL_law_1050 kX0_shift lL_130 (o1 hK) (nl rfl) (nl rfl) (c_shift hc.1 (sm_xs G (i + 1)) (sm_xs G (i + 2))) (fun r J ρ1 h => ?_)
  obtain ⟨e1, f1, er⟩ := h
  have e1 := e1.symm
  subst e1
  have hm1 := hm.cg (cFr.asked f1)
  refine wp_aload2 1054 rfl dL_law_1053 ?_
  refine wp_aload0 1055 rfl dL_law_1054 ?_
  refine wp_iload3 1056 rfl dL_law_1055 ?_
  refine wp_iconst (nI 1) 1057 rfl dL_law_1056 rfl ?_
  refine wp_iadd 1058 rfl dL_law_1057 ?_
  refine wp_sld (j := i + 1) 1059 rfl dL_law_1058 (nI_add ..) (by omega) (by omega) ?_
  refine wp_aload0 1060 rfl dL_law_1059 ?_
  refine wp_iload3 1061 rfl dL_law_1060 ?_
  refine wp_iconst (nI 2) 1062 rfl dL_law_1061 rfl ?_
  refine wp_iadd 1063 rfl dL_law_1062 ?_
  refine wp_sld (j := i + 2) 1064 rfl dL_law_1063 (nI_add ..) (by omega) (by omega) ?_
  refine wp_Vi2 1067 rfl dL_law_1064 kX10_shift lL_133 (md_M h1) (nl rfl) (nl rfl) (q_shift h1 lv (y_T S) (y_w S) hm1.1 (sm_xs G (i + 1)) (sm_xs G (i + 2))) (fun r2 J2 ρ2 h => ?_)
  obtain ⟨e2, f2, er2⟩ := h
  have e2 := e2.symm
  subst e2
  refine wp_icmp_eq 1070 1471 rfl rfl dL_law_1067 (fun _ => ?_) (fun c => absurd (er.trans er2.symm) c)
  exact kk J2 ρ S (hj0.asked f1 f2) jR.rf
theorem lk_28 (hj : jI I ρ S) (hi : i + 6 ≤ G.2.2.2.2 49) (hL : G.2.2.2.2 49 ≤ 384) (kk : ∀ J ρ1 S1, jI J ρ1 S1 → jR ρ ρ1 → sm_V G xL_law (D + 414) 1471 [.ref 48, .ref 64, .ref 898, .int (nI i)] [] J ρ1 Q) : sm_V G xL_law (D + 414) 1072 [.ref 48, .ref 64, .ref 898, .int (nI i)] [] I ρ Q := by
  have hj0 := hj
  obtain ⟨⟨tp, q, hc⟩, ⟨lv, hm⟩, ⟨h1, h2⟩, h3, h4⟩ := hj
  have hK := hc.1.1
  refine wp_aload1 1073 rfl dL_law_1072 ?_
  refine wp_aload0 1074 rfl dL_law_1073 ?_
  refine wp_iload3 1075 rfl dL_law_1074 ?_
  refine wp_iconst (nI 1) 1076 rfl dL_law_1075 rfl ?_
  refine wp_iadd 1077 rfl dL_law_1076 ?_
  refine wp_sld (j := i + 1) 1078 rfl dL_law_1077 (nI_add ..) (by omega) (by omega) ?_
  refine wp_aload0 1079 rfl dL_law_1078 ?_
  refine wp_iload3 1080 rfl dL_law_1079 ?_
  refine wp_iconst (nI 2) 1081 rfl dL_law_1080 rfl ?_
  refine wp_iadd 1082 rfl dL_law_1081 ?_
  refine wp_sld (j := i + 2) 1083 rfl dL_law_1082 (nI_add ..) (by omega) (by omega) ?_
  refine wp_Vi2 1086 rfl dL_law_1083 kX0_calls lL_134 (o1 hK) (nl rfl) (nl rfl) (c_calls hc.1 (sm_xs G (i + 1)) (sm_xs G (i + 2))) (fun r J ρ1 h => ?_)
  obtain ⟨e1, f1, er⟩ := h
  have e1 := e1.symm
  subst e1
  have hm1 := hm.cg (cFr.asked f1)
  refine wp_aload2 1087 rfl dL_law_1086 ?_
  refine wp_aload0 1088 rfl dL_law_1087 ?_
  refine wp_iload3 1089 rfl dL_law_1088 ?_
  refine wp_iconst (nI 1) 1090 rfl dL_law_1089 rfl ?_
  refine wp_iadd 1091 rfl dL_law_1090 ?_
  refine wp_sld (j := i + 1) 1092 rfl dL_law_1091 (nI_add ..) (by omega) (by omega) ?_
  refine wp_aload0 1093 rfl dL_law_1092 ?_
  refine wp_iload3 1094 rfl dL_law_1093 ?_
  refine wp_iconst (nI 2) 1095 rfl dL_law_1094 rfl ?_
  refine wp_iadd 1096 rfl dL_law_1095 ?_
  refine wp_sld (j := i + 2) 1097 rfl dL_law_1096 (nI_add ..) (by omega) (by omega) ?_
  refine wp_Vi2 1100 rfl dL_law_1097 kX10_calls lL_137 (md_M h1) (nl rfl) (nl rfl) (q_calls h1 lv (y_T S) (y_w S) hm1.1 (sm_xs G (i + 1)) (sm_xs G (i + 2))) (fun r2 J2 ρ2 h => ?_)
  obtain ⟨e2, f2, er2⟩ := h
  have e2 := e2.symm
  subst e2
  refine wp_icmp_eq 1103 1471 rfl rfl dL_law_1100 (fun _ => ?_) (fun c => absurd (er.trans er2.symm) c)
  exact kk J2 ρ S (hj0.asked f1 f2) jR.rf
theorem lk_29 (hj : jI I ρ S) (hi : i + 6 ≤ G.2.2.2.2 49) (hL : G.2.2.2.2 49 ≤ 384) (kk : ∀ J ρ1 S1, jI J ρ1 S1 → jR ρ ρ1 → sm_V G xL_law (D + 414) 1471 [.ref 48, .ref 64, .ref 898, .int (nI i)] [] J ρ1 Q) : sm_V G xL_law (D + 414) 1105 [.ref 48, .ref 64, .ref 898, .int (nI i)] [] I ρ Q := by
  have hj0 := hj
  obtain ⟨⟨tp, q, hc⟩, ⟨lv, hm⟩, ⟨h1, h2⟩, h3, h4⟩ := hj
  have hK := hc.1.1
  refine wp_aload1 1106 rfl dL_law_1105 ?_
  refine wp_aload0 1107 rfl dL_law_1106 ?_
  refine wp_iload3 1108 rfl dL_law_1107 ?_
  refine wp_iconst (nI 1) 1109 rfl dL_law_1108 rfl ?_
  refine wp_iadd 1110 rfl dL_law_1109 ?_
  refine wp_sld (j := i + 1) 1111 rfl dL_law_1110 (nI_add ..) (by omega) (by omega) ?_
  refine wp_aload0 1112 rfl dL_law_1111 ?_
  refine wp_iload3 1113 rfl dL_law_1112 ?_
  refine wp_iconst (nI 2) 1114 rfl dL_law_1113 rfl ?_
  refine wp_iadd 1115 rfl dL_law_1114 ?_
  refine wp_sld (j := i + 2) 1116 rfl dL_law_1115 (nI_add ..) (by omega) (by omega) ?_
  refine wp_Vi2 1119 rfl dL_law_1116 kX0_richest lL_138 (o1 hK) (nl rfl) (nl rfl) (c_richest hc.1 (sm_xs G (i + 1)) (sm_xs G (i + 2))) (fun r J ρ1 h => ?_)
  obtain ⟨e1, f1, er⟩ := h
  have e1 := e1.symm
  subst e1
  have hm1 := hm.cg (cFr.asked f1)
  refine wp_aload2 1120 rfl dL_law_1119 ?_
  refine wp_aload0 1121 rfl dL_law_1120 ?_
  refine wp_iload3 1122 rfl dL_law_1121 ?_
  refine wp_iconst (nI 1) 1123 rfl dL_law_1122 rfl ?_
  refine wp_iadd 1124 rfl dL_law_1123 ?_
  refine wp_sld (j := i + 1) 1125 rfl dL_law_1124 (nI_add ..) (by omega) (by omega) ?_
  refine wp_aload0 1126 rfl dL_law_1125 ?_
  refine wp_iload3 1127 rfl dL_law_1126 ?_
  refine wp_iconst (nI 2) 1128 rfl dL_law_1127 rfl ?_
  refine wp_iadd 1129 rfl dL_law_1128 ?_
  refine wp_sld (j := i + 2) 1130 rfl dL_law_1129 (nI_add ..) (by omega) (by omega) ?_
  refine wp_Vi2 1133 rfl dL_law_1130 kX10_richest lL_141 (md_M h1) (nl rfl) (nl rfl) (q_richest h1 lv (y_T S) (y_w S) hm1.1 (sm_xs G (i + 1)) (sm_xs G (i + 2))) (fun r2 J2 ρ2 h => ?_)
  obtain ⟨e2, f2, er2⟩ := h
  have e2 := e2.symm
  subst e2
  refine wp_icmp_eq 1136 1471 rfl rfl dL_law_1133 (fun _ => ?_) (fun c => absurd (er.trans er2.symm) c)
  exact kk J2 ρ S (hj0.asked f1 f2) jR.rf
theorem lk_30 (hj : jI I ρ S) (hi : i + 6 ≤ G.2.2.2.2 49) (hL : G.2.2.2.2 49 ≤ 384) (kk : ∀ J ρ1 S1, jI J ρ1 S1 → jR ρ ρ1 → sm_V G xL_law (D + 414) 1471 [.ref 48, .ref 64, .ref 898, .int (nI i)] [] J ρ1 Q) : sm_V G xL_law (D + 414) 1138 [.ref 48, .ref 64, .ref 898, .int (nI i)] [] I ρ Q := by
  have hj0 := hj
  obtain ⟨⟨tp, q, hc⟩, ⟨lv, hm⟩, ⟨h1, h2⟩, h3, h4⟩ := hj
  have hK := hc.1.1
  refine wp_aload1 1139 rfl dL_law_1138 ?_
  refine wp_aload0 1140 rfl dL_law_1139 ?_
  refine wp_iload3 1141 rfl dL_law_1140 ?_
  refine wp_iconst (nI 1) 1142 rfl dL_law_1141 rfl ?_
  refine wp_iadd 1143 rfl dL_law_1142 ?_
  refine wp_sld (j := i + 1) 1144 rfl dL_law_1143 (nI_add ..) (by omega) (by omega) ?_
  refine wp_Vi1 1147 rfl dL_law_1144 kX0_flat lL_142 (o1 hK) (nl rfl) (nl rfl) (c_flat hc.1 (sm_xs G (i + 1))) (fun r J ρ1 h => ?_)
  obtain ⟨e1, f1, er⟩ := h
  have e1 := e1.symm
  subst e1
  have hm1 := hm.cg (cFr.asked f1)
  refine wp_aload2 1148 rfl dL_law_1147 ?_
  refine wp_aload0 1149 rfl dL_law_1148 ?_
  refine wp_iload3 1150 rfl dL_law_1149 ?_
  refine wp_iconst (nI 1) 1151 rfl dL_law_1150 rfl ?_
  refine wp_iadd 1152 rfl dL_law_1151 ?_
  refine wp_sld (j := i + 1) 1153 rfl dL_law_1152 (nI_add ..) (by omega) (by omega) ?_
  refine wp_Vi1 1156 rfl dL_law_1153 kX10_flat lL_145 (md_M h1) (nl rfl) (nl rfl) (q_flat h1 lv (y_T S) (y_w S) hm1.1 (sm_xs G (i + 1))) (fun r2 J2 ρ2 h => ?_)
  obtain ⟨e2, f2, er2⟩ := h
  have e2 := e2.symm
  subst e2
  refine wp_icmp_eq 1159 1471 rfl rfl dL_law_1156 (fun _ => ?_) (fun c => absurd (er.trans er2.symm) c)
  exact kk J2 ρ S (hj0.asked f1 f2) jR.rf
theorem lk_31 (hj : jI I ρ S) (hi : i + 6 ≤ G.2.2.2.2 49) (hL : G.2.2.2.2 49 ≤ 384) (kk : ∀ J ρ1 S1, jI J ρ1 S1 → jR ρ ρ1 → sm_V G xL_law (D + 414) 1471 [.ref 48, .ref 64, .ref 898, .int (nI i)] [] J ρ1 Q) : sm_V G xL_law (D + 414) 1161 [.ref 48, .ref 64, .ref 898, .int (nI i)] [] I ρ Q := by
  have hj0 := hj
  obtain ⟨⟨tp, q, hc⟩, ⟨lv, hm⟩, ⟨h1, h2⟩, h3, h4⟩ := hj
  have hK := hc.1.1
  refine wp_aload1 1162 rfl dL_law_1161 ?_
  refine wp_aload0 1163 rfl dL_law_1162 ?_
  refine wp_iload3 1164 rfl dL_law_1163 ?_
  refine wp_iconst (nI 1) 1165 rfl dL_law_1164 rfl ?_
  refine wp_iadd 1166 rfl dL_law_1165 ?_
  refine wp_sld (j := i + 1) 1167 rfl dL_law_1166 (nI_add ..) (by omega) (by omega) ?_
  refine wp_aload0 1168 rfl dL_law_1167 ?_
  refine wp_iload3 1169 rfl dL_law_1168 ?_
  refine wp_iconst (nI 2) 1170 rfl dL_law_1169 rfl ?_
  refine wp_iadd 1171 rfl dL_law_1170 ?_
  refine wp_sld (j := i + 2) 1172 rfl dL_law_1171 (nI_add ..) (by omega) (by omega) ?_
  refine wp_aload0 1173 rfl dL_law_1172 ?_
  refine wp_iload3 1174 rfl dL_law_1173 ?_
  refine wp_iconst (nI 3) 1175 rfl dL_law_1174 rfl ?_
  refine wp_iadd 1176 rfl dL_law_1175 ?_
  refine wp_sld (j := i + 3) 1177 rfl dL_law_1176 (nI_add ..) (by omega) (by omega) ?_
  refine wp_Vi3 1180 rfl dL_law_1177 kX0_then lL_146 (o1 hK) (nl rfl) (nl rfl) (c_then hc.1 (sm_xs G (i + 1)) (sm_xs G (i + 2)) (sm_xs G (i + 3))) (fun r J ρ1 h => ?_)
  obtain ⟨e1, f1, er⟩ := h
  have e1 := e1.symm
  subst e1
  have hm1 := hm.cg (cFr.asked f1)
  refine wp_aload2 1181 rfl dL_law_1180 ?_
  refine wp_aload0 1182 rfl dL_law_1181 ?_
  refine wp_iload3 1183 rfl dL_law_1182 ?_
  refine wp_iconst (nI 1) 1184 rfl dL_law_1183 rfl ?_
  refine wp_iadd 1185 rfl dL_law_1184 ?_
  refine wp_sld (j := i + 1) 1186 rfl dL_law_1185 (nI_add ..) (by omega) (by omega) ?_
  refine wp_aload0 1187 rfl dL_law_1186 ?_
  refine wp_iload3 1188 rfl dL_law_1187 ?_
  refine wp_iconst (nI 2) 1189 rfl dL_law_1188 rfl ?_
  refine wp_iadd 1190 rfl dL_law_1189 ?_
  refine wp_sld (j := i + 2) 1191 rfl dL_law_1190 (nI_add ..) (by omega) (by omega) ?_
  refine wp_aload0 1192 rfl dL_law_1191 ?_
  refine wp_iload3 1193 rfl dL_law_1192 ?_
  refine wp_iconst (nI 3) 1194 rfl dL_law_1193 rfl ?_
  refine wp_iadd 1195 rfl dL_law_1194 ?_
  refine wp_sld (j := i + 3) 1196 rfl dL_law_1195 (nI_add ..) (by omega) (by omega) ?_
  refine wp_Vi3 1199 rfl dL_law_1196 kX10_then lL_149 (md_M h1) (nl rfl) (nl rfl) (q_then h1 lv (y_T S) (y_w S) hm1.1 (sm_xs G (i + 1)) (sm_xs G (i + 2)) (sm_xs G (i + 3))) (fun r2 J2 ρ2 h => ?_)
  obtain ⟨e2, f2, er2⟩ := h
  have e2 := e2.symm
  subst e2
  refine wp_icmp_eq 1202 1471 rfl rfl dL_law_1199 (fun _ => ?_) (fun c => absurd (er.trans er2.symm) c)
  exact kk J2 ρ S (hj0.asked f1 f2) jR.rf
theorem lk_32 (hj : jI I ρ S) (hi : i + 6 ≤ G.2.2.2.2 49) (hL : G.2.2.2.2 49 ≤ 384) (kk : ∀ J ρ1 S1, jI J ρ1 S1 → jR ρ ρ1 → sm_V G xL_law (D + 414) 1471 [.ref 48, .ref 64, .ref 898, .int (nI i)] [] J ρ1 Q) : sm_V G xL_law (D + 414) 1204 [.ref 48, .ref 64, .ref 898, .int (nI i)] [] I ρ Q := by
  have hj0 := hj
  obtain ⟨⟨tp, q, hc⟩, ⟨lv, hm⟩, ⟨h1, h2⟩, h3, h4⟩ := hj
  have hK := hc.1.1
  refine wp_aload1 1205 rfl dL_law_1204 ?_
  refine wp_aload0 1206 rfl dL_law_1205 ?_
  refine wp_iload3 1207 rfl dL_law_1206 ?_
  refine wp_iconst (nI 1) 1208 rfl dL_law_1207 rfl ?_
  refine wp_iadd 1209 rfl dL_law_1208 ?_
  refine wp_sld (j := i + 1) 1210 rfl dL_law_1209 (nI_add ..) (by omega) (by omega) ?_
  refine wp_aload0 1211 rfl dL_law_1210 ?_
  refine wp_iload3 1212 rfl dL_law_1211 ?_
  refine wp_iconst (nI 2) 1213 rfl dL_law_1212 rfl ?_
  refine wp_iadd 1214 rfl dL_law_1213 ?_
  refine wp_sld (j := i + 2) 1215 rfl dL_law_1214 (nI_add ..) (by omega) (by omega) ?_
  refine wp_Vi2 1218 rfl dL_law_1215 kX0_busy lL_150 (o1 hK) (nl rfl) (nl rfl) (c_busy hc.1 (sm_xs G (i + 1)) (sm_xs G (i + 2))) (fun r J ρ1 h => ?_)
  obtain ⟨e1, f1, er⟩ := h
  have e1 := e1.symm
  subst e1
  have hm1 := hm.cg (cFr.asked f1)
  refine wp_aload2 1219 rfl dL_law_1218 ?_
  refine wp_aload0 1220 rfl dL_law_1219 ?_
  refine wp_iload3 1221 rfl dL_law_1220 ?_
  refine wp_iconst (nI 1) 1222 rfl dL_law_1221 rfl ?_
  refine wp_iadd 1223 rfl dL_law_1222 ?_
  refine wp_sld (j := i + 1) 1224 rfl dL_law_1223 (nI_add ..) (by omega) (by omega) ?_
  refine wp_aload0 1225 rfl dL_law_1224 ?_
  refine wp_iload3 1226 rfl dL_law_1225 ?_
  refine wp_iconst (nI 2) 1227 rfl dL_law_1226 rfl ?_
  refine wp_iadd 1228 rfl dL_law_1227 ?_
  refine wp_sld (j := i + 2) 1229 rfl dL_law_1228 (nI_add ..) (by omega) (by omega) ?_
  refine wp_Vi2 1232 rfl dL_law_1229 kX10_busy lL_153 (md_M h1) (nl rfl) (nl rfl) (q_busy h1 lv (y_T S) (y_w S) hm1.1 (sm_xs G (i + 1)) (sm_xs G (i + 2))) (fun r2 J2 ρ2 h => ?_)
  obtain ⟨e2, f2, er2⟩ := h
  have e2 := e2.symm
  subst e2
  refine wp_icmp_eq 1235 1471 rfl rfl dL_law_1232 (fun _ => ?_) (fun c => absurd (er.trans er2.symm) c)
  exact kk J2 ρ S (hj0.asked f1 f2) jR.rf
theorem lk_33 (hj : jI I ρ S) (hi : i + 6 ≤ G.2.2.2.2 49) (hL : G.2.2.2.2 49 ≤ 384) (kk : ∀ J ρ1 S1, jI J ρ1 S1 → jR ρ ρ1 → sm_V G xL_law (D + 414) 1471 [.ref 48, .ref 64, .ref 898, .int (nI i)] [] J ρ1 Q) : sm_V G xL_law (D + 414) 1237 [.ref 48, .ref 64, .ref 898, .int (nI i)] [] I ρ Q := by
  have hj0 := hj
  obtain ⟨⟨tp, q, hc⟩, ⟨lv, hm⟩, ⟨h1, h2⟩, h3, h4⟩ := hj
  have hK := hc.1.1
  refine wp_aload1 1238 rfl dL_law_1237 ?_
  refine wp_aload0 1239 rfl dL_law_1238 ?_
  refine wp_iload3 1240 rfl dL_law_1239 ?_
  refine wp_iconst (nI 1) 1241 rfl dL_law_1240 rfl ?_
  refine wp_iadd 1242 rfl dL_law_1241 ?_
  refine wp_sld (j := i + 1) 1243 rfl dL_law_1242 (nI_add ..) (by omega) (by omega) ?_
  refine wp_aload0 1244 rfl dL_law_1243 ?_
  refine wp_iload3 1245 rfl dL_law_1244 ?_
  refine wp_iconst (nI 2) 1246 rfl dL_law_1245 rfl ?_
  refine wp_iadd 1247 rfl dL_law_1246 ?_
  refine wp_sld (j := i + 2) 1248 rfl dL_law_1247 (nI_add ..) (by omega) (by omega) ?_
  refine wp_aload0 1249 rfl dL_law_1248 ?_
  refine wp_iload3 1250 rfl dL_law_1249 ?_
  refine wp_iconst (nI 3) 1251 rfl dL_law_1250 rfl ?_
  refine wp_iadd 1252 rfl dL_law_1251 ?_
  refine wp_sld (j := i + 3) 1253 rfl dL_law_1252 (nI_add ..) (by omega) (by omega) ?_
  refine wp_aload0 1254 rfl dL_law_1253 ?_
  refine wp_iload3 1255 rfl dL_law_1254 ?_
  refine wp_iconst (nI 4) 1256 rfl dL_law_1255 rfl ?_
  refine wp_iadd 1257 rfl dL_law_1256 ?_
  refine wp_sld (j := i + 4) 1258 rfl dL_law_1257 (nI_add ..) (by omega) (by omega) ?_
  refine wp_Vi4 1261 rfl dL_law_1258 kX0_year lL_154 (o1 hK) (nl rfl) (nl rfl) (c_year hc.1 (sm_xs G (i + 1)) (sm_xs G (i + 2)) (sm_xs G (i + 3)) (sm_xs G (i + 4))) (fun r J ρ1 h => ?_)
  obtain ⟨e1, f1, er⟩ := h
  have e1 := e1.symm
  subst e1
  have hm1 := hm.cg (cFr.asked f1)
  refine wp_aload2 1262 rfl dL_law_1261 ?_
  refine wp_aload0 1263 rfl dL_law_1262 ?_
  refine wp_iload3 1264 rfl dL_law_1263 ?_
  refine wp_iconst (nI 1) 1265 rfl dL_law_1264 rfl ?_
  refine wp_iadd 1266 rfl dL_law_1265 ?_
  refine wp_sld (j := i + 1) 1267 rfl dL_law_1266 (nI_add ..) (by omega) (by omega) ?_
  refine wp_aload0 1268 rfl dL_law_1267 ?_
  refine wp_iload3 1269 rfl dL_law_1268 ?_
  refine wp_iconst (nI 2) 1270 rfl dL_law_1269 rfl ?_
  refine wp_iadd 1271 rfl dL_law_1270 ?_
  refine wp_sld (j := i + 2) 1272 rfl dL_law_1271 (nI_add ..) (by omega) (by omega) ?_
  refine wp_aload0 1273 rfl dL_law_1272 ?_
  refine wp_iload3 1274 rfl dL_law_1273 ?_
  refine wp_iconst (nI 3) 1275 rfl dL_law_1274 rfl ?_
  refine wp_iadd 1276 rfl dL_law_1275 ?_
  refine wp_sld (j := i + 3) 1277 rfl dL_law_1276 (nI_add ..) (by omega) (by omega) ?_
  refine wp_aload0 1278 rfl dL_law_1277 ?_
  refine wp_iload3 1279 rfl dL_law_1278 ?_
  refine wp_iconst (nI 4) 1280 rfl dL_law_1279 rfl ?_
  refine wp_iadd 1281 rfl dL_law_1280 ?_
  refine wp_sld (j := i + 4) 1282 rfl dL_law_1281 (nI_add ..) (by omega) (by omega) ?_
  refine wp_Vi4 1285 rfl dL_law_1282 kX10_year lL_158 (md_M h1) (nl rfl) (nl rfl) (q_year h1 lv (y_T S) (y_w S) hm1.1 (sm_xs G (i + 1)) (sm_xs G (i + 2)) (sm_xs G (i + 3)) (sm_xs G (i + 4))) (fun r2 J2 ρ2 h => ?_)
  obtain ⟨e2, f2, er2⟩ := h
  have e2 := e2.symm
  subst e2
  refine wp_icmp_eq 1288 1471 rfl rfl dL_law_1285 (fun _ => ?_) (fun c => absurd (er.trans er2.symm) c)
  exact kk J2 ρ S (hj0.asked f1 f2) jR.rf
theorem lk_34 (hj : jI I ρ S) (hi : i + 6 ≤ G.2.2.2.2 49) (hL : G.2.2.2.2 49 ≤ 384) (kk : ∀ J ρ1 S1, jI J ρ1 S1 → jR ρ ρ1 → sm_V G xL_law (D + 414) 1471 [.ref 48, .ref 64, .ref 898, .int (nI i)] [] J ρ1 Q) : sm_V G xL_law (D + 414) 1290 [.ref 48, .ref 64, .ref 898, .int (nI i)] [] I ρ Q := by
  have hj0 := hj
  obtain ⟨⟨tp, q, hc⟩, ⟨lv, hm⟩, ⟨h1, h2⟩, h3, h4⟩ := hj
  have hK := hc.1.1
  refine wp_aload1 1291 rfl dL_law_1290 ?_
  refine wp_aload0 1292 rfl dL_law_1291 ?_
  refine wp_iload3 1293 rfl dL_law_1292 ?_
  refine wp_iconst (nI 1) 1294 rfl dL_law_1293 rfl ?_
  refine wp_iadd 1295 rfl dL_law_1294 ?_
  refine wp_sld (j := i + 1) 1296 rfl dL_law_1295 (nI_add ..) (by omega) (by omega) ?_
  refine wp_aload0 1297 rfl dL_law_1296 ?_
  refine wp_iload3 1298 rfl dL_law_1297 ?_
  refine wp_iconst (nI 2) 1299 rfl dL_law_1298 rfl ?_
  refine wp_iadd 1300 rfl dL_law_1299 ?_
  refine wp_sld (j := i + 2) 1301 rfl dL_law_1300 (nI_add ..) (by omega) (by omega) ?_
  refine wp_aload0 1302 rfl dL_law_1301 ?_
  refine wp_iload3 1303 rfl dL_law_1302 ?_
  refine wp_iconst (nI 3) 1304 rfl dL_law_1303 rfl ?_
  refine wp_iadd 1305 rfl dL_law_1304 ?_
  refine wp_sld (j := i + 3) 1306 rfl dL_law_1305 (nI_add ..) (by omega) (by omega) ?_
  refine wp_Vi3 1309 rfl dL_law_1306 kX0_tell lL_159 (o1 hK) (nl rfl) (nl rfl) (c_tell hc (sm_xs G (i + 1)) (sm_xs G (i + 2)) (sm_xs G (i + 3))) (fun r J ρ1 h => ?_)
  obtain ⟨e1, hc1, er, f1⟩ := h
  have e1 := e1.symm
  subst e1
  have hm1 := hm.cg f1
  refine wp_aload2 1310 rfl dL_law_1309 ?_
  refine wp_aload0 1311 rfl dL_law_1310 ?_
  refine wp_iload3 1312 rfl dL_law_1311 ?_
  refine wp_iconst (nI 1) 1313 rfl dL_law_1312 rfl ?_
  refine wp_iadd 1314 rfl dL_law_1313 ?_
  refine wp_sld (j := i + 1) 1315 rfl dL_law_1314 (nI_add ..) (by omega) (by omega) ?_
  refine wp_aload0 1316 rfl dL_law_1315 ?_
  refine wp_iload3 1317 rfl dL_law_1316 ?_
  refine wp_iconst (nI 2) 1318 rfl dL_law_1317 rfl ?_
  refine wp_iadd 1319 rfl dL_law_1318 ?_
  refine wp_sld (j := i + 2) 1320 rfl dL_law_1319 (nI_add ..) (by omega) (by omega) ?_
  refine wp_aload0 1321 rfl dL_law_1320 ?_
  refine wp_iload3 1322 rfl dL_law_1321 ?_
  refine wp_iconst (nI 3) 1323 rfl dL_law_1322 rfl ?_
  refine wp_iadd 1324 rfl dL_law_1323 ?_
  refine wp_sld (j := i + 3) 1325 rfl dL_law_1324 (nI_add ..) (by omega) (by omega) ?_
  refine wp_Vi3 1328 rfl dL_law_1325 kX10_tell lL_162 (md_M h1) (nl rfl) (nl rfl) (q_tell h1 lv S hm1 (sm_xs G (i + 1)) (sm_xs G (i + 2)) (sm_xs G (i + 3))) (fun r2 J2 ρ2 h => ?_)
  obtain ⟨e2, hm2, er2, f2⟩ := h
  have e2 := e2.symm
  subst e2
  refine wp_icmp_eq 1331 1471 rfl rfl dL_law_1328 (fun _ => ?_) (fun c => absurd (er.trans er2.symm) c)
  exact kk J2 ρ (y_tell S (sm_xs G (i + 1)) (sm_xs G (i + 2)) (sm_xs G (i + 3))).2 ⟨⟨tp, q, hc1.cg f2⟩, ⟨lv, hm2⟩, ⟨h1, h2⟩, h3, h4⟩ jR.rf
theorem lk_35 (hj : jI I ρ S) (hi : i + 6 ≤ G.2.2.2.2 49) (hL : G.2.2.2.2 49 ≤ 384) (kk : ∀ J ρ1 S1, jI J ρ1 S1 → jR ρ ρ1 → sm_V G xL_law (D + 414) 1471 [.ref 48, .ref 64, .ref 898, .int (nI i)] [] J ρ1 Q) : sm_V G xL_law (D + 414) 1333 [.ref 48, .ref 64, .ref 898, .int (nI i)] [] I ρ Q := by
  have hj0 := hj
  obtain ⟨⟨tp, q, hc⟩, ⟨lv, hm⟩, ⟨h1, h2⟩, h3, h4⟩ := hj
  have hK := hc.1.1
  refine wp_aload1 1334 rfl dL_law_1333 ?_
  refine wp_Vi0 1337 rfl dL_law_1334 kX0_forget lL_163 (o1 hK) (nl rfl) (nl rfl) (c_forget hc ) (fun r J ρ1 h => ?_)
  obtain ⟨e1, hc1, er, f1⟩ := h
  have e1 := e1.symm
  subst e1
  have hm1 := hm.cg f1
  refine wp_aload2 1338 rfl dL_law_1337 ?_
  refine wp_Vi0 1341 rfl dL_law_1338 kX10_forget lL_166 (md_M h1) (nl rfl) (nl rfl) (q_forget h1 lv S hm1 ) (fun r2 J2 ρ2 h => ?_)
  obtain ⟨e2, hm2, er2, f2⟩ := h
  have e2 := e2.symm
  subst e2
  refine wp_icmp_eq 1344 1471 rfl rfl dL_law_1341 (fun _ => ?_) (fun c => absurd (er.trans er2.symm) c)
  exact kk J2 ρ (y_forget S).2 ⟨⟨tp, q, hc1.cg f2⟩, ⟨lv, hm2⟩, ⟨h1, h2⟩, h3, h4⟩ jR.rf
theorem lk_36 (hj : jI I ρ S) (hi : i + 6 ≤ G.2.2.2.2 49) (hL : G.2.2.2.2 49 ≤ 384) (kk : ∀ J ρ1 S1, jI J ρ1 S1 → jR ρ ρ1 → sm_V G xL_law (D + 414) 1471 [.ref 48, .ref 64, .ref 898, .int (nI i)] [] J ρ1 Q) : sm_V G xL_law (D + 414) 1346 [.ref 48, .ref 64, .ref 898, .int (nI i)] [] I ρ Q := by
  have hj0 := hj
  obtain ⟨⟨tp, q, hc⟩, ⟨lv, hm⟩, ⟨h1, h2⟩, h3, h4⟩ := hj
  have hK := hc.1.1
  refine wp_aload1 1347 rfl dL_law_1346 ?_
  refine wp_aload0 1348 rfl dL_law_1347 ?_
  refine wp_iload3 1349 rfl dL_law_1348 ?_
  refine wp_iconst (nI 1) 1350 rfl dL_law_1349 rfl ?_
  refine wp_iadd 1351 rfl dL_law_1350 ?_
  refine wp_sld (j := i + 1) 1352 rfl dL_law_1351 (nI_add ..) (by omega) (by omega) ?_
  refine wp_aload0 1353 rfl dL_law_1352 ?_
  refine wp_iload3 1354 rfl dL_law_1353 ?_
  refine wp_iconst (nI 2) 1355 rfl dL_law_1354 rfl ?_
  refine wp_iadd 1356 rfl dL_law_1355 ?_
  refine wp_sld (j := i + 2) 1357 rfl dL_law_1356 (nI_add ..) (by omega) (by omega) ?_
  refine wp_Vi2 1360 rfl dL_law_1357 kX0_who lL_167 (o1 hK) (nl rfl) (nl rfl) (c_who hc.1 hc.2.2.1 (sm_xs G (i + 1)) (sm_xs G (i + 2))) (fun r J ρ1 h => ?_)
  obtain ⟨e1, f1, er⟩ := h
  have e1 := e1.symm
  subst e1
  have hm1 := hm.cg (cFr.asked f1)
  refine wp_aload2 1361 rfl dL_law_1360 ?_
  refine wp_aload0 1362 rfl dL_law_1361 ?_
  refine wp_iload3 1363 rfl dL_law_1362 ?_
  refine wp_iconst (nI 1) 1364 rfl dL_law_1363 rfl ?_
  refine wp_iadd 1365 rfl dL_law_1364 ?_
  refine wp_sld (j := i + 1) 1366 rfl dL_law_1365 (nI_add ..) (by omega) (by omega) ?_
  refine wp_aload0 1367 rfl dL_law_1366 ?_
  refine wp_iload3 1368 rfl dL_law_1367 ?_
  refine wp_iconst (nI 2) 1369 rfl dL_law_1368 rfl ?_
  refine wp_iadd 1370 rfl dL_law_1369 ?_
  refine wp_sld (j := i + 2) 1371 rfl dL_law_1370 (nI_add ..) (by omega) (by omega) ?_
  refine wp_Vi2 1374 rfl dL_law_1371 kX10_who lL_170 (md_M h1) (nl rfl) (nl rfl) (q_who h1 lv (y_T S) (y_w S) hm1.1 (y_D S) hm1.2.2.1 (sm_xs G (i + 1)) (sm_xs G (i + 2))) (fun r2 J2 ρ2 h => ?_)
  obtain ⟨e2, f2, er2⟩ := h
  have e2 := e2.symm
  subst e2
  refine wp_icmp_eq 1377 1471 rfl rfl dL_law_1374 (fun _ => ?_) (fun c => absurd (er.trans er2.symm) c)
  exact kk J2 ρ S (hj0.asked f1 f2) jR.rf
theorem lk_37 (hj : jI I ρ S) (hi : i + 6 ≤ G.2.2.2.2 49) (hL : G.2.2.2.2 49 ≤ 384) (kk : ∀ J ρ1 S1, jI J ρ1 S1 → jR ρ ρ1 → sm_V G xL_law (D + 414) 1471 [.ref 48, .ref 64, .ref 898, .int (nI i)] [] J ρ1 Q) : sm_V G xL_law (D + 414) 1379 [.ref 48, .ref 64, .ref 898, .int (nI i)] [] I ρ Q := by
  have hj0 := hj
  obtain ⟨⟨tp, q, hc⟩, ⟨lv, hm⟩, ⟨h1, h2⟩, h3, h4⟩ := hj
  have hK := hc.1.1
  refine wp_aload1 1380 rfl dL_law_1379 ?_
  refine wp_aload0 1381 rfl dL_law_1380 ?_
  refine wp_iload3 1382 rfl dL_law_1381 ?_
  refine wp_iconst (nI 1) 1383 rfl dL_law_1382 rfl ?_
  refine wp_iadd 1384 rfl dL_law_1383 ?_
  refine wp_sld (j := i + 1) 1385 rfl dL_law_1384 (nI_add ..) (by omega) (by omega) ?_
  refine wp_Vi1 1388 rfl dL_law_1385 kX0_ask lL_171 (o1 hK) (nl rfl) (nl rfl) (c_ask hc.1 hc.2.2.1 (sm_xs G (i + 1))) (fun r J ρ1 h => ?_)
  obtain ⟨e1, f1, er⟩ := h
  have e1 := e1.symm
  subst e1
  have hm1 := hm.cg (cFr.asked f1)
  refine wp_aload2 1389 rfl dL_law_1388 ?_
  refine wp_aload0 1390 rfl dL_law_1389 ?_
  refine wp_iload3 1391 rfl dL_law_1390 ?_
  refine wp_iconst (nI 1) 1392 rfl dL_law_1391 rfl ?_
  refine wp_iadd 1393 rfl dL_law_1392 ?_
  refine wp_sld (j := i + 1) 1394 rfl dL_law_1393 (nI_add ..) (by omega) (by omega) ?_
  refine wp_Vi1 1397 rfl dL_law_1394 kX10_ask lL_174 (md_M h1) (nl rfl) (nl rfl) (q_ask h1 lv (y_T S) (y_w S) hm1.1 (y_D S) hm1.2.2.1 (sm_xs G (i + 1))) (fun r2 J2 ρ2 h => ?_)
  obtain ⟨e2, f2, er2⟩ := h
  have e2 := e2.symm
  subst e2
  refine wp_icmp_eq 1400 1471 rfl rfl dL_law_1397 (fun _ => ?_) (fun c => absurd (er.trans er2.symm) c)
  exact kk J2 ρ S (hj0.asked f1 f2) jR.rf
theorem lk_38 (hj : jI I ρ S) (hi : i + 6 ≤ G.2.2.2.2 49) (hL : G.2.2.2.2 49 ≤ 384) (kk : ∀ J ρ1 S1, jI J ρ1 S1 → jR ρ ρ1 → sm_V G xL_law (D + 414) 1471 [.ref 48, .ref 64, .ref 898, .int (nI i)] [] J ρ1 Q) : sm_V G xL_law (D + 414) 1402 [.ref 48, .ref 64, .ref 898, .int (nI i)] [] I ρ Q := by
  have hj0 := hj
  obtain ⟨⟨tp, q, hc⟩, ⟨lv, hm⟩, ⟨h1, h2⟩, h3, h4⟩ := hj
  have hK := hc.1.1
  refine wp_aload1 1403 rfl dL_law_1402 ?_
  refine wp_aload0 1404 rfl dL_law_1403 ?_
  refine wp_iload3 1405 rfl dL_law_1404 ?_
  refine wp_iconst (nI 1) 1406 rfl dL_law_1405 rfl ?_
  refine wp_iadd 1407 rfl dL_law_1406 ?_
  refine wp_sld (j := i + 1) 1408 rfl dL_law_1407 (nI_add ..) (by omega) (by omega) ?_
  refine wp_Vi1 1411 rfl dL_law_1408 kX0_hold lL_175 (o1 hK) (nl rfl) (nl rfl) (c_hold hc (sm_xs G (i + 1))) (fun r J ρ1 h => ?_)
  obtain ⟨e1, hc1, er, f1⟩ := h
  have e1 := e1.symm
  subst e1
  have hm1 := hm.cg f1
  refine wp_aload2 1412 rfl dL_law_1411 ?_
  refine wp_aload0 1413 rfl dL_law_1412 ?_
  refine wp_iload3 1414 rfl dL_law_1413 ?_
  refine wp_iconst (nI 1) 1415 rfl dL_law_1414 rfl ?_
  refine wp_iadd 1416 rfl dL_law_1415 ?_
  refine wp_sld (j := i + 1) 1417 rfl dL_law_1416 (nI_add ..) (by omega) (by omega) ?_
  refine wp_Vi1 1420 rfl dL_law_1417 kX10_hold lL_178 (md_M h1) (nl rfl) (nl rfl) (q_hold h1 lv S hm1 (sm_xs G (i + 1))) (fun r2 J2 ρ2 h => ?_)
  obtain ⟨e2, hm2, er2, f2⟩ := h
  have e2 := e2.symm
  subst e2
  refine wp_icmp_eq 1423 1471 rfl rfl dL_law_1420 (fun _ => ?_) (fun c => absurd (er.trans er2.symm) c)
  exact kk J2 ρ (y_hold S (sm_xs G (i + 1))).2 ⟨⟨tp, q, hc1.cg f2⟩, ⟨lv, hm2⟩, ⟨h1, h2⟩, h3, h4⟩ jR.rf
theorem lk_39 (hj : jI I ρ S) (hi : i + 6 ≤ G.2.2.2.2 49) (hL : G.2.2.2.2 49 ≤ 384) (kk : ∀ J ρ1 S1, jI J ρ1 S1 → jR ρ ρ1 → sm_V G xL_law (D + 414) 1471 [.ref 48, .ref 64, .ref 898, .int (nI i)] [] J ρ1 Q) : sm_V G xL_law (D + 414) 1425 [.ref 48, .ref 64, .ref 898, .int (nI i)] [] I ρ Q := by
  have hj0 := hj
  obtain ⟨⟨tp, q, hc⟩, ⟨lv, hm⟩, ⟨h1, h2⟩, h3, h4⟩ := hj
  have hK := hc.1.1
  refine wp_aload1 1426 rfl dL_law_1425 ?_
  refine wp_aload0 1427 rfl dL_law_1426 ?_
  refine wp_iload3 1428 rfl dL_law_1427 ?_
  refine wp_iconst (nI 1) 1429 rfl dL_law_1428 rfl ?_
  refine wp_iadd 1430 rfl dL_law_1429 ?_
  refine wp_sld (j := i + 1) 1431 rfl dL_law_1430 (nI_add ..) (by omega) (by omega) ?_
  refine wp_Vi1 1434 rfl dL_law_1431 kX0_restore lL_179 (o1 hK) (nl rfl) (nl rfl) (c_restore hc (sm_xs G (i + 1))) (fun r J ρ1 h => ?_)
  obtain ⟨e1, hc1, er, f1⟩ := h
  have e1 := e1.symm
  subst e1
  have hm1 := hm.cg f1
  refine wp_aload2 1435 rfl dL_law_1434 ?_
  refine wp_aload0 1436 rfl dL_law_1435 ?_
  refine wp_iload3 1437 rfl dL_law_1436 ?_
  refine wp_iconst (nI 1) 1438 rfl dL_law_1437 rfl ?_
  refine wp_iadd 1439 rfl dL_law_1438 ?_
  refine wp_sld (j := i + 1) 1440 rfl dL_law_1439 (nI_add ..) (by omega) (by omega) ?_
  refine wp_Vi1 1443 rfl dL_law_1440 kX10_restore lL_182 (md_M h1) (nl rfl) (nl rfl) (q_restore h1 lv S hm1 (sm_xs G (i + 1))) (fun r2 J2 ρ2 h => ?_)
  obtain ⟨e2, hm2, er2, f2⟩ := h
  have e2 := e2.symm
  subst e2
  refine wp_icmp_eq 1446 1471 rfl rfl dL_law_1443 (fun _ => ?_) (fun c => absurd (er.trans er2.symm) c)
  exact kk J2 ρ (y_restore S (sm_xs G (i + 1))).2 ⟨⟨tp, q, hc1.cg f2⟩, ⟨lv, hm2⟩, ⟨h1, h2⟩, h3, h4⟩ jR.rf
theorem lk_40 (hj : jI I ρ S) (hi : i + 6 ≤ G.2.2.2.2 49) (hL : G.2.2.2.2 49 ≤ 384) (kk : ∀ J ρ1 S1, jI J ρ1 S1 → jR ρ ρ1 → sm_V G xL_law (D + 414) 1471 [.ref 48, .ref 64, .ref 898, .int (nI i)] [] J ρ1 Q) : sm_V G xL_law (D + 414) 1448 [.ref 48, .ref 64, .ref 898, .int (nI i)] [] I ρ Q := by
  have hj0 := hj
  obtain ⟨⟨tp, q, hc⟩, ⟨lv, hm⟩, ⟨h1, h2⟩, h3, h4⟩ := hj
  have hK := hc.1.1
  refine wp_aload1 1449 rfl dL_law_1448 ?_
  refine wp_aload0 1450 rfl dL_law_1449 ?_
  refine wp_iload3 1451 rfl dL_law_1450 ?_
  refine wp_iconst (nI 1) 1452 rfl dL_law_1451 rfl ?_
  refine wp_iadd 1453 rfl dL_law_1452 ?_
  refine wp_sld (j := i + 1) 1454 rfl dL_law_1453 (nI_add ..) (by omega) (by omega) ?_
  refine wp_Vi1 1457 rfl dL_law_1454 kX0_count lL_183 (o1 hK) (nl rfl) (nl rfl) (c_count hc (sm_xs G (i + 1))) (fun r J ρ1 h => ?_)
  obtain ⟨e1, f1, er⟩ := h
  have e1 := e1.symm
  subst e1
  have hm1 := hm.cg (cFr.asked f1)
  refine wp_aload2 1458 rfl dL_law_1457 ?_
  refine wp_aload0 1459 rfl dL_law_1458 ?_
  refine wp_iload3 1460 rfl dL_law_1459 ?_
  refine wp_iconst (nI 1) 1461 rfl dL_law_1460 rfl ?_
  refine wp_iadd 1462 rfl dL_law_1461 ?_
  refine wp_sld (j := i + 1) 1463 rfl dL_law_1462 (nI_add ..) (by omega) (by omega) ?_
  refine wp_Vi1 1466 rfl dL_law_1463 kX10_count lL_186 (md_M h1) (nl rfl) (nl rfl) (q_count h1 lv S hm1 (sm_xs G (i + 1))) (fun r2 J2 ρ2 h => ?_)
  obtain ⟨e2, f2, er2⟩ := h
  have e2 := e2.symm
  subst e2
  refine wp_icmp_eq 1469 1471 rfl rfl dL_law_1466 (fun _ => ?_) (fun c => absurd (er.trans er2.symm) c)
  exact kk J2 ρ S (hj0.asked f1 f2) jR.rf
end LW
