/-! ===== a day ===== -/
set_option maxRecDepth 100000
/-- a lot is below what it is drawn of -/
theorem z_lot_lt (s w : Int32) {n : Nat} (h0 : 0 < n) (h1 : n < 2147483648) : ∃ q, q < n ∧ z_lot s w (nI n) = nI q := by
  unfold z_lot
  have hs : (((nI 1).toUInt32 &&& Int32.toUInt32 31).toBitVec % 32).toNat = 1 := by decide
  have hu := pk_ushr (z_mix (z_mix s (nI 151)) w) (nI 1) 1 hs
  generalize ((z_mix (z_mix s (nI 151)) w).toUInt32 >>> ((nI 1).toUInt32 &&& Int32.toUInt32 31)).toInt32 = y at hu ⊢
  have hb : y.toBitVec.toNat < 2 ^ 31 := by
    rw [hu]
    have := (z_mix (z_mix s (nI 151)) w).toBitVec.isLt
    omega
  have hy : y = nI y.toBitVec.toNat := by
    apply Int32.toBitVec_inj.mp
    apply BitVec.eq_of_toNat_eq
    rw [pk_tn (by omega)]
  rw [hy, pk_rem hb h0 (by omega)]
  exact ⟨_, Nat.mod_lt _ h0, rfl⟩
/-- the rounds of a day, so many -/
def r_rnd (T : tx) (w : Nat → Int32) : Nat → Nat → Int32
  | 0 => w
  | r + 1 => if r_rnd T w r (54 + r) = nI 1 then (if z_due (tx_fr T r) (tx_ev T r) (r_rnd T w r 69) then r_lift T (r_rnd T w r) (tx_door T r) (tx_who T r) else r_rnd T w r) else r_rnd T w r
/-- wind at a door -/
def r_blow1 (lots : Int32) (w : Nat → Int32) (d : Nat) : Nat → Int32 := if w (4 * d + (z_lot lots (nI 16 * w 69 + nI 1 + nI d) (nI 4)).toNatClampNeg) ≤ 0 then w else upd w (4 * d + (z_lot lots (nI 16 * w 69 + nI 1 + nI d) (nI 4)).toNatClampNeg) (w (4 * d + (z_lot lots (nI 16 * w 69 + nI 1 + nI d) (nI 4)).toNatClampNeg) - nI 1)
def r_blow (lots : Int32) (w : Nat → Int32) : Nat → Nat → Int32
  | 0 => w
  | d + 1 => r_blow1 lots (r_blow lots w d) d
def r_wear (T : tx) (w : Nat → Int32) : Nat → Nat → Int32
  | 0 => w
  | d + 1 => r_fcs (r_wearF T (r_wear T w d) d) (r_wear T w d) d 4
def r_idle1 (w : Nat → Int32) (d : Nat) : Nat → Int32 := upd (upd w (30 + d) (if w (48 + d) = nI 1 then nI 0 else z_within (w (30 + d) + nI 1) (nI 0) (nI 999))) (48 + d) (nI 0)
def r_idle (w : Nat → Int32) : Nat → Nat → Int32
  | 0 => w
  | d + 1 => r_idle1 (r_idle w d) d
/-- there is wind -/
abbrev r_isW (T : tx) (lots : Int32) (w : Nat → Int32) : Prop := z_lot lots (nI 16 * w 69) (nI 100) < tx_wind T
/-- a day: rounds, wind if any, wear, idle doors, the day's number; still: no wind -/
def r_day (T : tx) (still lots : Int32) (w : Nat → Int32) : Nat → Int32 :=
  let a := r_rnd T w (tx_R T)
  let b := if still = nI 0 ∧ r_isW T lots a then r_blow lots a (tx_D T) else a
  let c := r_wear T b (tx_D T)
  let e := r_idle c (tx_D T)
  upd e 69 (e 69 + nI 1)
def r_days (T : tx) (still lots : Int32) (w : Nat → Int32) : Nat → Nat → Int32
  | 0 => w
  | n + 1 => r_day T still lots (r_days T still lots w n)
section M7
variable {G : sm_G} {d : Nat} {I : sm_I} {ρ : sm_R}
theorem s_polished (hm : md ρ) (lv : Nat) (T : tx) (hT : mT I lv T) (ht : tok T) (dd : Nat) (hd : dd < tx_D T) : sm_M G xX10_polished (d + 1) [.ref mM, .int (nI dd)] I ρ (sm_Qe none (sm_a I m_row (r_polish T (I m_row) dd)) ρ) := by
  show sm_V G xX10_polished (d + 1) 0 [.ref mM, .int (nI dd), .retAddr 0] [] I ρ _
  have hD6 := ht.1.1
  refine wp_iconst (nI 0) 1 rfl dX10_polished_0 (by decide) ?_
  refine wp_istore2 2 rfl dX10_polished_1 (by decide) rfl ?_
  have h0 : I = sm_a I m_row (r_fcs (r_polF T (I m_row) dd) (I m_row) dd 0) := by rw [r_fcs_0, sm_a_self]
  suffices h : sm_V G xX10_polished (d + 1) 2 [.ref mM, .int (nI dd), .int (nI 0)] [] (sm_a I m_row (r_fcs (r_polF T (I m_row) dd) (I m_row) dd 0)) ρ (sm_Qe none (sm_a I m_row (r_polish T (I m_row) dd)) ρ) by rw [← h0] at h; exact h
  refine sm_for (P := fun p => sm_V G xX10_polished (d + 1) 2 [.ref mM, .int (nI dd), .int (nI p)] [] (sm_a I m_row (r_fcs (r_polF T (I m_row) dd) (I m_row) dd p)) ρ _) 0 4 (nl rfl) ?_ (fun p _ hp ih => ?_)
  · refine wp_iload2 3 rfl dX10_polished_2 ?_
    refine wp_iconst (nI 4) 4 rfl dX10_polished_3 (by decide) ?_
    refine wp_icmp_ge 7 63 rfl rfl dX10_polished_4 (fun c4 => ?_) (fun c4 => absurd (nI_le (Nat.le_refl 4) (by decide)) c4)
    refine wp_aload0 64 rfl dX10_polished_63 ?_
    refine wp_getr 67 rfl dX10_polished_64 fX10_122_10 (md_M hm) (mp_row hm) ?_
    refine wp_bipush (nI 36) 69 rfl dX10_polished_67 (by decide) ?_
    refine wp_iload1 70 rfl dX10_polished_69 ?_
    refine wp_iadd 71 rfl dX10_polished_70 ?_
    refine wp_dup2 72 rfl dX10_polished_71 rfl rfl ?_
    refine wp_iald 73 rfl dX10_polished_72 (ms_row hm) (36 + dd) (by first | rfl | simp only [pk_mul, nI_add]) (⟨by omega, by decide⟩) ?_
    refine wp_iconst (nI 1) 74 rfl dX10_polished_73 (by decide) ?_
    refine wp_iadd 75 rfl dX10_polished_74 ?_
    refine wp_iast 76 rfl dX10_polished_75 (ms_row hm) (36 + dd) (by first | rfl | simp only [pk_mul, nI_add]) (⟨by omega, by decide⟩) ?_
    refine wp_vret dX10_polished_76 rfl ?_
    rw [sm_a_u, sm_a_eq, r_fcs_out _ _ (by omega)]
    exact ⟨rfl, rfl, rfl⟩
  · have ecf : I m_firstFace (24 * lv + 4 * dd + p) = tx_ff T (4 * dd + p) := by rw [Nat.add_assoc]; exact hT.2.2.2.1 _ (by omega)
    refine wp_iload2 3 rfl dX10_polished_2 ?_
    refine wp_iconst (nI 4) 4 rfl dX10_polished_3 (by decide) ?_
    refine wp_icmp_ge 7 63 rfl rfl dX10_polished_4 (fun c4 => absurd c4 (nI_ge hp (by decide))) (fun c4 => ?_)
    refine wp_aload0 8 rfl dX10_polished_7 ?_
    refine wp_getr 11 rfl dX10_polished_8 fX10_122_10 (md_M hm) (mp_row hm) ?_
    refine wp_iconst (nI 4) 12 rfl dX10_polished_11 (by decide) ?_
    refine wp_iload1 13 rfl dX10_polished_12 ?_
    refine wp_imul 14 rfl dX10_polished_13 ?_
    refine wp_iload2 15 rfl dX10_polished_14 ?_
    refine wp_iadd 16 rfl dX10_polished_15 ?_
    refine wp_aload0 17 rfl dX10_polished_16 ?_
    refine wp_getr 20 rfl dX10_polished_17 fX10_122_10 (md_M hm) (mp_row hm) ?_
    refine wp_iconst (nI 4) 21 rfl dX10_polished_20 (by decide) ?_
    refine wp_iload1 22 rfl dX10_polished_21 ?_
    refine wp_imul 23 rfl dX10_polished_22 ?_
    refine wp_iload2 24 rfl dX10_polished_23 ?_
    refine wp_iadd 25 rfl dX10_polished_24 ?_
    refine wp_iald 26 rfl dX10_polished_25 (ms_row hm) (4 * dd + p) (by first | rfl | simp only [pk_mul, nI_add]) (⟨by omega, by decide⟩) ?_
    refine wp_aload0 27 rfl dX10_polished_26 ?_
    refine wp_iload1 28 rfl dX10_polished_27 ?_
    refine wp_iload2 29 rfl dX10_polished_28 ?_
    refine wp_Ve2 32 rfl dX10_polished_29 kX10_firstPart lX10_339 (md_M hm) (nl rfl) (nl rfl) (s_firstPart hm lv dd p hT.1.1 hT.1.2 (by omega) hp) ?_
    refine wp_aload0 33 rfl dX10_polished_32 ?_
    refine wp_getr 36 rfl dX10_polished_33 fX10_122_10 (md_M hm) (mp_row hm) ?_
    refine wp_iconst (nI 4) 37 rfl dX10_polished_36 (by decide) ?_
    refine wp_iload1 38 rfl dX10_polished_37 ?_
    refine wp_imul 39 rfl dX10_polished_38 ?_
    refine wp_iload2 40 rfl dX10_polished_39 ?_
    refine wp_iadd 41 rfl dX10_polished_40 ?_
    refine wp_iald 42 rfl dX10_polished_41 (ms_row hm) (4 * dd + p) (by first | rfl | simp only [pk_mul, nI_add]) (⟨by omega, by decide⟩) ?_
    refine wp_aload0 43 rfl dX10_polished_42 ?_
    refine wp_iload1 44 rfl dX10_polished_43 ?_
    refine wp_iload2 45 rfl dX10_polished_44 ?_
    refine wp_Ve2 48 rfl dX10_polished_45 kX10_firstPart lX10_339 (md_M hm) (nl rfl) (nl rfl) (s_firstPart hm lv dd p hT.1.1 hT.1.2 (by omega) hp) ?_
    refine wp_Se2 51 rfl dX10_polished_48 kX10_off lX10_336 (nl rfl) (nl rfl) (s_off _ _) ?_
    refine wp_iconst (nI 2) 52 rfl dX10_polished_51 (by decide) ?_
    refine wp_idiv 53 rfl dX10_polished_52 (by decide) ?_
    refine wp_Se3 56 rfl dX10_polished_53 kX10_towardsBy lX10_366 (nl rfl) (nl rfl) (s_towardsBy _ _ _) ?_
    refine wp_iast 57 rfl dX10_polished_56 (ms_row hm) (4 * dd + p) (by first | rfl | simp only [pk_mul, nI_add]) (⟨by omega, by decide⟩) ?_
    refine wp_iincN2 60 rfl dX10_polished_57 (by decide) rfl ?_
    refine wp_goto 2 rfl dX10_polished_60 ?_
    have e1 : z_tow (sm_a I m_row (r_fcs (r_polF T (I m_row) dd) (I m_row) dd p) m_row (4 * dd + p)) (sm_a I m_row (r_fcs (r_polF T (I m_row) dd) (I m_row) dd p) m_firstFace (24 * lv + 4 * dd + p)) (z_off (sm_a I m_row (r_fcs (r_polF T (I m_row) dd) (I m_row) dd p) m_row (4 * dd + p)) (sm_a I m_row (r_fcs (r_polF T (I m_row) dd) (I m_row) dd p) m_firstFace (24 * lv + 4 * dd + p)) / nI 2) = r_polF T (I m_row) dd p := by
      rw [sm_a_eq, r_fcs_out _ _ (by omega), sm_a_ne _ _ (by decide), ecf]
      rfl
    rw [e1, sm_a_u, r_fcs_s]
    exact ih
/-- a day's last part: idle doors, the day's number -/
theorem dg_idle (hm : md ρ) (lv : Nat) (T : tx) (hT : mT I lv T) (ht : tok T) (x1 x3 : Value) (I' : sm_I) (hf : mf mScR [50] I I') (w : Nat → Int32) (hw : I' m_row = w) :
    sm_V G xX10_dayGoes (d + 4) 263 [.ref mM, .retAddr 0, .retAddr 0, .retAddr 0] [] I' ρ (sm_Qv (fun I1 ρ1 => ρ1 = ρ ∧ mf mScR [50] I I1 ∧ I1 m_row = upd (r_idle w (tx_D T)) 69 (r_idle w (tx_D T) 69 + nI 1))) := by
  have hD6 := ht.1.1
  have hT' := hT.kept hf (by decide) (by decide)
  refine wp_iconst (nI 0) 264 rfl dX10_dayGoes_263 (by decide) ?_
  refine wp_istore2 265 rfl dX10_dayGoes_264 (by decide) rfl ?_
  have h0 : I' = sm_a I' m_row (r_idle w 0) := by
    show I' = sm_a I' m_row w
    rw [← hw, sm_a_self]
  rw [h0]
  refine sm_for (P := fun p => sm_V G xX10_dayGoes (d + 4) 265 [.ref mM, .retAddr 0, .int (nI p), .retAddr 0] [] (sm_a I' m_row (r_idle w p)) ρ _) 0 (tx_D T) (Nat.zero_le _) ?_ (fun p _ hp ih => ?_)
  · refine wp_iload2 266 rfl dX10_dayGoes_265 ?_
    refine wp_aload0 267 rfl dX10_dayGoes_266 ?_
    refine wp_getr 270 rfl dX10_dayGoes_267 fX10_46_10 (md_M hm) (mp_doors hm) ?_
    refine wp_aload0 271 rfl dX10_dayGoes_270 ?_
    refine wp_geti 274 rfl dX10_dayGoes_271 fX10_233_10 (md_M hm) ?_
    refine wp_iald 275 rfl dX10_dayGoes_274 (ms_doors hm) (lv) (hT'.1.1) (⟨hT'.1.2, by decide⟩) ?_
    refine wp_icmp_ge 278 338 rfl rfl dX10_dayGoes_275 (fun c275 => ?_) (fun c275 => absurd (by rw [sm_a_ne _ _ (by decide), hT'.2.1.1]; exact nI_le (Nat.le_refl _) (by omega)) c275)
    refine wp_aload0 339 rfl dX10_dayGoes_338 ?_
    refine wp_getr 342 rfl dX10_dayGoes_339 fX10_122_10 (md_M hm) (mp_row hm) ?_
    refine wp_bipush (nI 69) 344 rfl dX10_dayGoes_342 (by decide) ?_
    refine wp_dup2 345 rfl dX10_dayGoes_344 rfl rfl ?_
    refine wp_iald 346 rfl dX10_dayGoes_345 (ms_row hm) (69) (by first | rfl | simp only [pk_mul, nI_add]) (⟨by omega, by decide⟩) ?_
    refine wp_iconst (nI 1) 347 rfl dX10_dayGoes_346 (by decide) ?_
    refine wp_iadd 348 rfl dX10_dayGoes_347 ?_
    refine wp_iast 349 rfl dX10_dayGoes_348 (ms_row hm) (69) (by first | rfl | simp only [pk_mul, nI_add]) (⟨by omega, by decide⟩) ?_
    refine wp_vret dX10_dayGoes_349 rfl ?_
    rw [sm_a_u, sm_a_eq]
    exact ⟨rfl, rfl, hf.tr (mf.a (by decide) (by decide)), by rw [sm_a_eq]⟩
  · have key : ∀ v : Int32, v = (if r_idle w p (48 + p) = nI 1 then nI 0 else z_within (r_idle w p (30 + p) + nI 1) (nI 0) (nI 999)) → sm_V G xX10_dayGoes (d + 4) 321 [.ref mM, .retAddr 0, .int (nI p), .retAddr 0] [.int v, .int (nI 30 + nI p), .ref m_row] (sm_a I' m_row (r_idle w p)) ρ (sm_Qv (fun I1 ρ1 => ρ1 = ρ ∧ mf mScR [50] I I1 ∧ I1 m_row = upd (r_idle w (tx_D T)) 69 (r_idle w (tx_D T) 69 + nI 1))) := by
      intro v hv
      subst hv
      refine wp_iast 322 rfl dX10_dayGoes_321 (ms_row hm) (30 + p) (by first | rfl | simp only [pk_mul, nI_add]) (⟨by omega, by decide⟩) ?_
      refine wp_aload0 323 rfl dX10_dayGoes_322 ?_
      refine wp_getr 326 rfl dX10_dayGoes_323 fX10_122_10 (md_M hm) (mp_row hm) ?_
      refine wp_bipush (nI 48) 328 rfl dX10_dayGoes_326 (by decide) ?_
      refine wp_iload2 329 rfl dX10_dayGoes_328 ?_
      refine wp_iadd 330 rfl dX10_dayGoes_329 ?_
      refine wp_iconst (nI 0) 331 rfl dX10_dayGoes_330 (by decide) ?_
      refine wp_iast 332 rfl dX10_dayGoes_331 (ms_row hm) (48 + p) (by first | rfl | simp only [pk_mul, nI_add]) (⟨by omega, by decide⟩) ?_
      refine wp_iincN2 335 rfl dX10_dayGoes_332 (by decide) rfl ?_
      refine wp_goto 265 rfl dX10_dayGoes_335 ?_
      rw [sm_a_u, sm_a_u]
      exact ih
    refine wp_iload2 266 rfl dX10_dayGoes_265 ?_
    refine wp_aload0 267 rfl dX10_dayGoes_266 ?_
    refine wp_getr 270 rfl dX10_dayGoes_267 fX10_46_10 (md_M hm) (mp_doors hm) ?_
    refine wp_aload0 271 rfl dX10_dayGoes_270 ?_
    refine wp_geti 274 rfl dX10_dayGoes_271 fX10_233_10 (md_M hm) ?_
    refine wp_iald 275 rfl dX10_dayGoes_274 (ms_doors hm) (lv) (hT'.1.1) (⟨hT'.1.2, by decide⟩) ?_
    refine wp_icmp_ge 278 338 rfl rfl dX10_dayGoes_275 (fun c275 => absurd c275 (by rw [sm_a_ne _ _ (by decide), hT'.2.1.1]; exact nI_ge hp (by omega))) (fun c275 => ?_)
    refine wp_aload0 279 rfl dX10_dayGoes_278 ?_
    refine wp_getr 282 rfl dX10_dayGoes_279 fX10_122_10 (md_M hm) (mp_row hm) ?_
    refine wp_bipush (nI 30) 284 rfl dX10_dayGoes_282 (by decide) ?_
    refine wp_iload2 285 rfl dX10_dayGoes_284 ?_
    refine wp_iadd 286 rfl dX10_dayGoes_285 ?_
    refine wp_aload0 287 rfl dX10_dayGoes_286 ?_
    refine wp_getr 290 rfl dX10_dayGoes_287 fX10_122_10 (md_M hm) (mp_row hm) ?_
    refine wp_bipush (nI 48) 292 rfl dX10_dayGoes_290 (by decide) ?_
    refine wp_iload2 293 rfl dX10_dayGoes_292 ?_
    refine wp_iadd 294 rfl dX10_dayGoes_293 ?_
    refine wp_iald 295 rfl dX10_dayGoes_294 (ms_row hm) (48 + p) (by first | rfl | simp only [pk_mul, nI_add]) (⟨by omega, by decide⟩) ?_
    refine wp_iconst (nI 1) 296 rfl dX10_dayGoes_295 (by decide) ?_
    rw [sm_a_eq]
    refine wp_icmp_ne 299 303 rfl rfl dX10_dayGoes_296 (fun c296 => ?_) (fun c296 => ?_)
    · refine wp_aload0 304 rfl dX10_dayGoes_303 ?_
      refine wp_getr 307 rfl dX10_dayGoes_304 fX10_122_10 (md_M hm) (mp_row hm) ?_
      refine wp_bipush (nI 30) 309 rfl dX10_dayGoes_307 (by decide) ?_
      refine wp_iload2 310 rfl dX10_dayGoes_309 ?_
      refine wp_iadd 311 rfl dX10_dayGoes_310 ?_
      refine wp_iald 312 rfl dX10_dayGoes_311 (ms_row hm) (30 + p) (by first | rfl | simp only [pk_mul, nI_add]) (⟨by omega, by decide⟩) ?_
      refine wp_iconst (nI 1) 313 rfl dX10_dayGoes_312 (by decide) ?_
      refine wp_iadd 314 rfl dX10_dayGoes_313 ?_
      refine wp_iconst (nI 0) 315 rfl dX10_dayGoes_314 (by decide) ?_
      refine wp_sipush (nI 999) 318 rfl dX10_dayGoes_315 (by decide) ?_
      refine wp_Se3 321 rfl dX10_dayGoes_318 kX10_within lX10_354 (nl rfl) (nl rfl) (s_within _ _ _) ?_
      refine key _ ?_
      rw [sm_a_eq, if_neg c296]
    · refine wp_iconst (nI 0) 300 rfl dX10_dayGoes_299 (by decide) ?_
      refine wp_goto 321 rfl dX10_dayGoes_300 ?_
      refine key _ ?_
      rw [if_pos c296]
/-- the wear of a door -/
theorem dg_wear (hm : md ρ) (lv : Nat) (T : tx) (hT : mT I lv T) (ht : tok T) (I' : sm_I) (hf : mf mScR [50] I I') (w : Nat → Int32) (hw : I' m_row = w) (Q : sm_O → sm_I → sm_R → Prop)
    (kk : ∀ I2 : sm_I, mf mScR [50] I I2 → I2 m_row = r_wear T w (tx_D T) → sm_V G xX10_dayGoes (d + 4) 263 [.ref mM, .retAddr 0, .retAddr 0, .retAddr 0] [] I2 ρ Q) :
    sm_V G xX10_dayGoes (d + 4) 169 [.ref mM, .retAddr 0, .retAddr 0, .retAddr 0] [] I' ρ Q := by
  have hD6 := ht.1.1
  refine wp_iconst (nI 0) 170 rfl dX10_dayGoes_169 (by decide) ?_
  refine wp_istore2 171 rfl dX10_dayGoes_170 (by decide) rfl ?_
  refine sm_for (P := fun p => ∀ I1 : sm_I, mf mScR [50] I I1 → I1 m_row = r_wear T w p → sm_V G xX10_dayGoes (d + 4) 171 [.ref mM, .retAddr 0, .int (nI p), .retAddr 0] [] I1 ρ Q) 0 (tx_D T) (Nat.zero_le _) ?_ (fun p _ hp ih => ?_) I' hf hw
  · intro I1 hf1 hw1
    have hT1 := hT.kept hf1 (by decide) (by decide)
    refine wp_iload2 172 rfl dX10_dayGoes_171 ?_
    refine wp_aload0 173 rfl dX10_dayGoes_172 ?_
    refine wp_getr 176 rfl dX10_dayGoes_173 fX10_46_10 (md_M hm) (mp_doors hm) ?_
    refine wp_aload0 177 rfl dX10_dayGoes_176 ?_
    refine wp_geti 180 rfl dX10_dayGoes_177 fX10_233_10 (md_M hm) ?_
    refine wp_iald 181 rfl dX10_dayGoes_180 (ms_doors hm) (lv) (hT1.1.1) (⟨hT1.1.2, by decide⟩) ?_
    refine wp_icmp_ge 184 263 rfl rfl dX10_dayGoes_181 (fun c181 => ?_) (fun c181 => absurd (by rw [hT1.2.1.1]; exact nI_le (Nat.le_refl _) (by omega)) c181)
    exact wp_weakK (kk I1 hf1 hw1) ⟨Or.inr rfl, Or.inr rfl, Or.inl rfl, Or.inr rfl, trivial⟩
  · intro I1 hf1 hw1
    have hT1 := hT.kept hf1 (by decide) (by decide)
    refine wp_iload2 172 rfl dX10_dayGoes_171 ?_
    refine wp_aload0 173 rfl dX10_dayGoes_172 ?_
    refine wp_getr 176 rfl dX10_dayGoes_173 fX10_46_10 (md_M hm) (mp_doors hm) ?_
    refine wp_aload0 177 rfl dX10_dayGoes_176 ?_
    refine wp_geti 180 rfl dX10_dayGoes_177 fX10_233_10 (md_M hm) ?_
    refine wp_iald 181 rfl dX10_dayGoes_180 (ms_doors hm) (lv) (hT1.1.1) (⟨hT1.1.2, by decide⟩) ?_
    refine wp_icmp_ge 184 263 rfl rfl dX10_dayGoes_181 (fun c181 => absurd c181 (by rw [hT1.2.1.1]; exact nI_ge hp (by omega))) (fun c181 => ?_)
    refine wp_iconst (nI 0) 185 rfl dX10_dayGoes_184 (by decide) ?_
    refine wp_istore3 186 rfl dX10_dayGoes_185 (by decide) rfl ?_
    refine sm_for (P := fun q => ∀ I2 : sm_I, mf mSc [50] I1 I2 → (∀ i, i < q → I2 m_goesBy i = r_wears T (I1 m_row) p i) → sm_V G xX10_dayGoes (d + 4) 186 [.ref mM, .retAddr 0, .int (nI p), .int (nI q)] [] I2 ρ Q) 0 4 (nl rfl) ?_ (fun q _ hq ih2 => ?_) I1 mf.rf (fun i hi => absurd hi (by omega))
    · intro I2 hf2 hg
      have hrow : I2 m_row = I1 m_row := hf2.1 _ (by decide) (by decide)
      have hT2 := hT1.kept hf2 (by decide) (by decide)
      refine wp_iload3 187 rfl dX10_dayGoes_186 ?_
      refine wp_iconst (nI 4) 188 rfl dX10_dayGoes_187 (by decide) ?_
      refine wp_icmp_ge 191 209 rfl rfl dX10_dayGoes_188 (fun c188 => ?_) (fun c188 => absurd (nI_le (Nat.le_refl 4) (by decide)) c188)
      refine wp_iconst (nI 0) 210 rfl dX10_dayGoes_209 (by decide) ?_
      refine wp_istore3 211 rfl dX10_dayGoes_210 (by decide) rfl ?_
      have h0 : I2 = sm_a I2 m_row (r_fcs (r_wearF T (I1 m_row) p) (I1 m_row) p 0) := by rw [r_fcs_0, ← hrow, sm_a_self]
      rw [h0]
      refine sm_for (P := fun q => sm_V G xX10_dayGoes (d + 4) 211 [.ref mM, .retAddr 0, .int (nI p), .int (nI q)] [] (sm_a I2 m_row (r_fcs (r_wearF T (I1 m_row) p) (I1 m_row) p q)) ρ Q) 0 4 (nl rfl) ?_ (fun q _ hq ih2 => ?_)
      · refine wp_iload3 212 rfl dX10_dayGoes_211 ?_
        refine wp_iconst (nI 4) 213 rfl dX10_dayGoes_212 (by decide) ?_
        refine wp_icmp_ge 216 257 rfl rfl dX10_dayGoes_213 (fun c213 => ?_) (fun c213 => absurd (nI_le (Nat.le_refl 4) (by decide)) c213)
        refine wp_iincN2 260 rfl dX10_dayGoes_257 (by decide) rfl ?_
        refine wp_goto 171 rfl dX10_dayGoes_260 ?_
        refine wp_weakK (ih _ ((hf1.tr (hf2.wk (by decide) (by decide))).tr (mf.a (by decide) (by decide))) ?_) ⟨Or.inr rfl, Or.inr rfl, Or.inr rfl, Or.inl rfl, trivial⟩
        rw [sm_a_eq, hw1]
        rfl
      · have ecf : I2 m_firstFace (24 * lv + 4 * p + q) = tx_ff T (4 * p + q) := by rw [Nat.add_assoc]; exact hT2.2.2.2.1 _ (by omega)
        refine wp_iload3 212 rfl dX10_dayGoes_211 ?_
        refine wp_iconst (nI 4) 213 rfl dX10_dayGoes_212 (by decide) ?_
        refine wp_icmp_ge 216 257 rfl rfl dX10_dayGoes_213 (fun c213 => absurd c213 (nI_ge hq (by decide))) (fun c213 => ?_)
        refine wp_aload0 217 rfl dX10_dayGoes_216 ?_
        refine wp_getr 220 rfl dX10_dayGoes_217 fX10_122_10 (md_M hm) (mp_row hm) ?_
        refine wp_iconst (nI 4) 221 rfl dX10_dayGoes_220 (by decide) ?_
        refine wp_iload2 222 rfl dX10_dayGoes_221 ?_
        refine wp_imul 223 rfl dX10_dayGoes_222 ?_
        refine wp_iload3 224 rfl dX10_dayGoes_223 ?_
        refine wp_iadd 225 rfl dX10_dayGoes_224 ?_
        refine wp_aload0 226 rfl dX10_dayGoes_225 ?_
        refine wp_getr 229 rfl dX10_dayGoes_226 fX10_122_10 (md_M hm) (mp_row hm) ?_
        refine wp_iconst (nI 4) 230 rfl dX10_dayGoes_229 (by decide) ?_
        refine wp_iload2 231 rfl dX10_dayGoes_230 ?_
        refine wp_imul 232 rfl dX10_dayGoes_231 ?_
        refine wp_iload3 233 rfl dX10_dayGoes_232 ?_
        refine wp_iadd 234 rfl dX10_dayGoes_233 ?_
        refine wp_iald 235 rfl dX10_dayGoes_234 (ms_row hm) (4 * p + q) (by first | rfl | simp only [pk_mul, nI_add]) (⟨by omega, by decide⟩) ?_
        refine wp_aload0 236 rfl dX10_dayGoes_235 ?_
        refine wp_iload2 237 rfl dX10_dayGoes_236 ?_
        refine wp_iload3 238 rfl dX10_dayGoes_237 ?_
        refine wp_Ve2 241 rfl dX10_dayGoes_238 kX10_firstPart lX10_339 (md_M hm) (nl rfl) (nl rfl) (s_firstPart hm lv p q hT2.1.1 hT2.1.2 (by omega) hq) ?_
        refine wp_aload0 242 rfl dX10_dayGoes_241 ?_
        refine wp_getr 245 rfl dX10_dayGoes_242 fX10_125_10 (md_M hm) (mp_goesBy hm) ?_
        refine wp_iload3 246 rfl dX10_dayGoes_245 ?_
        refine wp_iald 247 rfl dX10_dayGoes_246 (ms_goesBy hm) (q) (by first | rfl | simp only [pk_mul, nI_add]) (⟨by omega, by decide⟩) ?_
        refine wp_Se3 250 rfl dX10_dayGoes_247 kX10_towardsBy lX10_366 (nl rfl) (nl rfl) (s_towardsBy _ _ _) ?_
        refine wp_iast 251 rfl dX10_dayGoes_250 (ms_row hm) (4 * p + q) (by first | rfl | simp only [pk_mul, nI_add]) (⟨by omega, by decide⟩) ?_
        refine wp_iincN3 254 rfl dX10_dayGoes_251 (by decide) rfl ?_
        refine wp_goto 211 rfl dX10_dayGoes_254 ?_
        have e1 : z_tow (sm_a I2 m_row (r_fcs (r_wearF T (I1 m_row) p) (I1 m_row) p q) m_row (4 * p + q)) (sm_a I2 m_row (r_fcs (r_wearF T (I1 m_row) p) (I1 m_row) p q) m_firstFace (24 * lv + 4 * p + q)) (sm_a I2 m_row (r_fcs (r_wearF T (I1 m_row) p) (I1 m_row) p q) m_goesBy q) = r_wearF T (I1 m_row) p q := by
          rw [sm_a_eq, r_fcs_out _ _ (by omega), sm_a_ne _ _ (by decide), sm_a_ne _ _ (by decide), ecf, hg q hq]
          rfl
        rw [e1, sm_a_u, r_fcs_s]
        exact ih2
    · intro I2 hf2 hg
      have hT2 := hT1.kept hf2 (by decide) (by decide)
      have hrow : I2 m_row = I1 m_row := hf2.1 _ (by decide) (by decide)
      refine wp_iload3 187 rfl dX10_dayGoes_186 ?_
      refine wp_iconst (nI 4) 188 rfl dX10_dayGoes_187 (by decide) ?_
      refine wp_icmp_ge 191 209 rfl rfl dX10_dayGoes_188 (fun c188 => absurd c188 (nI_ge hq (by decide))) (fun c188 => ?_)
      refine wp_aload0 192 rfl dX10_dayGoes_191 ?_
      refine wp_getr 195 rfl dX10_dayGoes_192 fX10_125_10 (md_M hm) (mp_goesBy hm) ?_
      refine wp_iload3 196 rfl dX10_dayGoes_195 ?_
      refine wp_aload0 197 rfl dX10_dayGoes_196 ?_
      refine wp_iload2 198 rfl dX10_dayGoes_197 ?_
      refine wp_iload3 199 rfl dX10_dayGoes_198 ?_
      refine wp_Vi2 202 rfl dX10_dayGoes_199 kX10_wearsOf lX10_381 (md_M hm) (nl rfl) (nl rfl) (s_wearsOf hm lv T hT2 ht p q hp hq) (fun r I3 ρ3 hq3 => ?_)
      obtain ⟨rfl, hf3, rfl⟩ := hq3
      rw [hrow]
      refine wp_iast 203 rfl dX10_dayGoes_202 (ms_goesBy hm) (q) (by first | rfl | simp only [pk_mul, nI_add]) (⟨by omega, by decide⟩) ?_
      refine wp_iincN3 206 rfl dX10_dayGoes_203 (by decide) rfl ?_
      refine wp_goto 186 rfl dX10_dayGoes_206 ?_
      refine ih2 _ ((hf2.tr (hf3.wk (by decide) (by decide))).tr (mf.u (by decide) (by decide))) ?_
      intro i hi
      rw [sm_u_eq]
      by_cases e : i = q
      · subst e
        exact pk_us
      · rw [pk_un e, hf3.1 _ (by decide) (by decide)]
        exact hg i (by omega)
/-- wind -/
theorem dg_blow (hm : md ρ) (lv : Nat) (T : tx) (hT : mT I lv T) (ht : tok T) (I' : sm_I) (hf : mf mScR [50] I I') (w : Nat → Int32) (hw : I' m_row = w) (Q : sm_O → sm_I → sm_R → Prop)
    (kk : ∀ I2 : sm_I, mf mScR [50] I I2 → I2 m_row = r_blow (I mM 53) w (tx_D T) → sm_V G xX10_dayGoes (d + 4) 169 [.ref mM, .retAddr 0, .retAddr 0, .retAddr 0] [] I2 ρ Q) :
    sm_V G xX10_dayGoes (d + 4) 103 [.ref mM, .int (nI 1), .int (nI 0), .retAddr 0] [] I' ρ Q := by
  have hD6 := ht.1.1
  refine sm_for (P := fun p => ∀ I1 : sm_I, mf mScR [50] I I1 → I1 m_row = r_blow (I mM 53) w p → sm_V G xX10_dayGoes (d + 4) 103 [.ref mM, .int (nI 1), .int (nI p), .retAddr 0] [] I1 ρ Q) 0 (tx_D T) (Nat.zero_le _) ?_ (fun p _ hp ih => ?_) I' hf hw
  · intro I1 hf1 hw1
    have hT1 := hT.kept hf1 (by decide) (by decide)
    refine wp_iload2 104 rfl dX10_dayGoes_103 ?_
    refine wp_aload0 105 rfl dX10_dayGoes_104 ?_
    refine wp_getr 108 rfl dX10_dayGoes_105 fX10_46_10 (md_M hm) (mp_doors hm) ?_
    refine wp_aload0 109 rfl dX10_dayGoes_108 ?_
    refine wp_geti 112 rfl dX10_dayGoes_109 fX10_233_10 (md_M hm) ?_
    refine wp_iald 113 rfl dX10_dayGoes_112 (ms_doors hm) (lv) (hT1.1.1) (⟨hT1.1.2, by decide⟩) ?_
    refine wp_icmp_ge 116 169 rfl rfl dX10_dayGoes_113 (fun c113 => ?_) (fun c113 => absurd (by rw [hT1.2.1.1]; exact nI_le (Nat.le_refl _) (by omega)) c113)
    exact wp_weakK (kk I1 hf1 hw1) ⟨Or.inr rfl, Or.inl rfl, Or.inl rfl, Or.inr rfl, trivial⟩
  · intro I1 hf1 hw1
    have hT1 := hT.kept hf1 (by decide) (by decide)
    have hlots : I1 mM 53 = I mM 53 := hf1.2 53 (by decide)
    obtain ⟨q, hq, hlot⟩ := z_lot_lt (I mM 53) (nI 16 * r_blow (I mM 53) w p 69 + nI 1 + nI p) (n := 4) (by decide) (by decide)
    have hcl : (z_lot (I mM 53) (nI 16 * r_blow (I mM 53) w p 69 + nI 1 + nI p) (nI 4)).toNatClampNeg = q := by rw [hlot]; exact nI_clamp (by omega)
    have e9 : r_blow (I mM 53) w (p + 1) = if r_blow (I mM 53) w p (4 * p + q) ≤ 0 then r_blow (I mM 53) w p else upd (r_blow (I mM 53) w p) (4 * p + q) (r_blow (I mM 53) w p (4 * p + q) - nI 1) := by
      show r_blow1 _ _ _ = _
      unfold r_blow1
      rw [hcl]
    refine wp_iload2 104 rfl dX10_dayGoes_103 ?_
    refine wp_aload0 105 rfl dX10_dayGoes_104 ?_
    refine wp_getr 108 rfl dX10_dayGoes_105 fX10_46_10 (md_M hm) (mp_doors hm) ?_
    refine wp_aload0 109 rfl dX10_dayGoes_108 ?_
    refine wp_geti 112 rfl dX10_dayGoes_109 fX10_233_10 (md_M hm) ?_
    refine wp_iald 113 rfl dX10_dayGoes_112 (ms_doors hm) (lv) (hT1.1.1) (⟨hT1.1.2, by decide⟩) ?_
    refine wp_icmp_ge 116 169 rfl rfl dX10_dayGoes_113 (fun c113 => absurd c113 (by rw [hT1.2.1.1]; exact nI_ge hp (by omega))) (fun c113 => ?_)
    refine wp_iload1 117 rfl dX10_dayGoes_116 ?_
    refine wp_if_eq 120 169 rfl rfl dX10_dayGoes_117 (fun c117 => absurd c117 (by decide)) (fun c117 => ?_)
    refine wp_iconst (nI 4) 121 rfl dX10_dayGoes_120 (by decide) ?_
    refine wp_iload2 122 rfl dX10_dayGoes_121 ?_
    refine wp_imul 123 rfl dX10_dayGoes_122 ?_
    refine wp_aload0 124 rfl dX10_dayGoes_123 ?_
    refine wp_bipush (nI 16) 126 rfl dX10_dayGoes_124 (by decide) ?_
    refine wp_aload0 127 rfl dX10_dayGoes_126 ?_
    refine wp_getr 130 rfl dX10_dayGoes_127 fX10_122_10 (md_M hm) (mp_row hm) ?_
    refine wp_bipush (nI 69) 132 rfl dX10_dayGoes_130 (by decide) ?_
    refine wp_iald 133 rfl dX10_dayGoes_132 (ms_row hm) (69) (by first | rfl | simp only [pk_mul, nI_add]) (⟨by omega, by decide⟩) ?_
    refine wp_imul 134 rfl dX10_dayGoes_133 ?_
    refine wp_iconst (nI 1) 135 rfl dX10_dayGoes_134 (by decide) ?_
    refine wp_iadd 136 rfl dX10_dayGoes_135 ?_
    refine wp_iload2 137 rfl dX10_dayGoes_136 ?_
    refine wp_iadd 138 rfl dX10_dayGoes_137 ?_
    refine wp_iconst (nI 4) 139 rfl dX10_dayGoes_138 (by decide) ?_
    refine wp_Ve2 142 rfl dX10_dayGoes_139 kX10_lotOf lX10_330 (md_M hm) (nl rfl) (nl rfl) (s_lotOf hm _ _ (by decide)) ?_
    rw [hw1, hlots, hlot, pk_mul]
    refine wp_iadd 143 rfl dX10_dayGoes_142 ?_
    refine wp_istore3 144 rfl dX10_dayGoes_143 (by decide) rfl ?_
    refine wp_aload0 145 rfl dX10_dayGoes_144 ?_
    refine wp_getr 148 rfl dX10_dayGoes_145 fX10_122_10 (md_M hm) (mp_row hm) ?_
    refine wp_iload3 149 rfl dX10_dayGoes_148 ?_
    refine wp_iald 150 rfl dX10_dayGoes_149 (ms_row hm) (4 * p + q) (by rw [nI_add]) (⟨by omega, by decide⟩) ?_
    rw [nI_add, hw1]
    refine wp_if_le 153 163 rfl rfl dX10_dayGoes_150 (fun c150 => ?_) (fun c150 => ?_)
    · rw [if_pos c150] at e9
      refine wp_iincN2 166 rfl dX10_dayGoes_163 (by decide) rfl ?_
      refine wp_goto 103 rfl dX10_dayGoes_166 ?_
      exact wp_weakK (ih I1 hf1 (by rw [e9]; exact hw1)) ⟨Or.inr rfl, Or.inr rfl, Or.inr rfl, Or.inl rfl, trivial⟩
    · rw [if_neg c150] at e9
      refine wp_aload0 154 rfl dX10_dayGoes_153 ?_
      refine wp_getr 157 rfl dX10_dayGoes_154 fX10_122_10 (md_M hm) (mp_row hm) ?_
      refine wp_iload3 158 rfl dX10_dayGoes_157 ?_
      refine wp_dup2 159 rfl dX10_dayGoes_158 rfl rfl ?_
      refine wp_iald 160 rfl dX10_dayGoes_159 (ms_row hm) (4 * p + q) (by first | rfl | simp only [pk_mul, nI_add]) (⟨by omega, by decide⟩) ?_
      refine wp_iconst (nI 1) 161 rfl dX10_dayGoes_160 (by decide) ?_
      refine wp_isub 162 rfl dX10_dayGoes_161 ?_
      refine wp_iast 163 rfl dX10_dayGoes_162 (ms_row hm) (4 * p + q) (by first | rfl | simp only [pk_mul, nI_add]) (⟨by omega, by decide⟩) ?_
      refine wp_iincN2 166 rfl dX10_dayGoes_163 (by decide) rfl ?_
      refine wp_goto 103 rfl dX10_dayGoes_166 ?_
      refine wp_weakK (ih _ (hf1.tr (mf.u (by decide) (by decide))) ?_) ⟨Or.inr rfl, Or.inr rfl, Or.inr rfl, Or.inl rfl, trivial⟩
      rw [sm_u_eq, hw1, e9]
end M7
