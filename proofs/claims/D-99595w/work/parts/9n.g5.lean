/-! ===== the JDK: texts that are built ===== -/
set_option maxRecDepth 100000
/-- a String of n letters -/
def cStr (I : sm_I) (ρ : sm_R) (lo hi s n : Nat) (c : Nat → Nat) : Prop := (lo ≤ s ∧ s < hi) ∧ ρ.2.2.1 s = (19, 0) ∧ I s 1 = nI 0 ∧ ∃ b, (lo ≤ b ∧ b < hi) ∧ ρ.2.1 s 0 = some b ∧ ρ.2.2.1 b = (101, n) ∧ ∀ j, j < n → I b j = nI (c j)
theorem cStr.g {A B : Nat → Prop} {I I1 : sm_I} {ρ ρ1 : sm_R} {lo hi hi' s n : Nat} {c : Nat → Nat} (h : cStr I ρ lo hi s n c) (f : gF A B I ρ I1 ρ1) (hh : hi ≤ ρ.2.2.2.1 + 64) (h2 : hi ≤ hi') (hA : ∀ x, lo ≤ x → ((ρ.2.2.1 x).1 = 19 ∨ (ρ.2.2.1 x).1 = 101) → ¬ A x) (hB : ∀ x, lo ≤ x → (ρ.2.2.1 x).1 = 19 → ¬ B x) : cStr I1 ρ1 lo hi' s n c := by
  obtain ⟨h1, h3, h4, b, h5, h6, h7, h8⟩ := h
  refine ⟨by omega, (f.eS (by omega)).trans h3, ?_, b, by omega, ?_, (f.eS (by omega)).trans h7, fun j hj => ?_⟩
  · rw [f.eI (by omega) (hA s h1.1 (Or.inl (by rw [h3])))]; exact h4
  · rw [f.eP (by omega) (hB s h1.1 (by rw [h3]))]; exact h6
  · rw [f.eI (by omega) (hA b h5.1 (Or.inr (by rw [h7])))]; exact h8 j hj
/-- a builder with n letters -/
def sbS (I : sm_I) (ρ : sm_R) (a n : Nat) (c : Nat → Nat) : Prop := ρ.2.2.1 a = (20, 0) ∧ ρ.2.1 a 0 = some (a + 1) ∧ ρ.2.2.1 (a + 1) = (101, 16) ∧ I a 1 = nI 0 ∧ I a 3 = nI n ∧ ∀ j, j < n → I (a + 1) j = nI (c j)
theorem fits_b : ∀ c : Fin 128, fits .byte (.int (nI c.val)) = true := by decide +kernel
section G5
variable {G : sm_G} {d : Nat} {I : sm_I} {ρ : sm_R}
theorem s_asbinit {a : Nat} (hs : ρ.2.2.1 a = (20, 0)) (ha : a < ρ.2.2.2.1 + 64) : sm_M G xJ11_init (d + 1) [.ref a, .int (nI 16)] I ρ (sm_Qe none (sm_u (sm_zI I (ρ.2.2.2.1 + 64)) a 1 (nI 0)) ((sm_nR ρ 101 16 16).1, sm_up (sm_nR ρ 101 16 16).2.1 a 0 (some (ρ.2.2.2.1 + 64)), (sm_nR ρ 101 16 16).2.2)) := by
  have hs1 : (sm_nR ρ 101 16 16).2.2.1 a = (20, 0) := by
    have : (sm_nR ρ 101 16 16).2.2.1 a = ρ.2.2.1 a := if_neg (by omega)
    rw [this]
    exact hs
  show sm_V G xJ11_init (d + 1) 0 [.ref a, .int (nI 16)] [] I ρ _
  refine wp_aload0 1 rfl dJ11_init_0 ?_
  refine wp_objInit 4 rfl dJ11_init_1 q827 (nl rfl) ?_
  refine wp_gets (v := .int 1) 7 rfl dJ11_init_4 q828 (fun s h => h.2.2.1) ?_
  refine wp_if_eq 10 25 rfl rfl dJ11_init_7 (fun c7 => absurd c7 (by decide)) (fun c7 => ?_)
  refine wp_aload0 11 rfl dJ11_init_10 ?_
  refine wp_iload1 12 rfl dJ11_init_11 ?_
  refine wp_newa (t := 1) (N := 16) 14 rfl dJ11_init_12 rfl rfl (by decide) q234 (by first | rfl | simp only [pk_mul, nI_add]) (by omega) (ρ.2.2.2.1 + 64) (rfl) ?_
  refine wp_putr 17 rfl dJ11_init_14 pJ11_15_20 (hs1) (fun q => ⟨rfl, rfl⟩) ?_
  refine wp_aload0 18 rfl dJ11_init_17 ?_
  refine wp_iconst (nI 0) 19 rfl dJ11_init_18 (by decide) ?_
  refine wp_puti 22 rfl dJ11_init_19 pJ11_22_20 (hs1) (⟨rfl, rfl⟩) ?_
  refine wp_goto 38 rfl dJ11_init_22 ?_
  refine wp_vret dJ11_init_38 rfl ?_
  exact ⟨rfl, rfl, rfl⟩
theorem s_sbinit {a : Nat} (hs : ρ.2.2.1 a = (20, 0)) (ha : a + 1 = ρ.2.2.2.1 + 64) (hI : I a = fun _ => 0) : sm_M G xJ12_init (d + 2) [.ref a] I ρ (sm_Qv (fun I1 ρ1 => (ρ1.2.2.2.1 = ρ.2.2.2.1 + 1 ∧ ρ1.2.2.2.2 = ρ.2.2.2.2 + 16) ∧ gF (fun x => x = a) (fun x => x = a) I ρ I1 ρ1 ∧ sbS I1 ρ1 a 0 (fun _ => 0))) := by
  show sm_V G xJ12_init (d + 2) 0 [.ref a] [] I ρ _
  refine wp_aload0 1 rfl dJ12_init_0 ?_
  refine wp_bipush (nI 16) 3 rfl dJ12_init_1 (by decide) ?_
  refine wp_Ie1 6 rfl dJ12_init_3 kJ11_init lJ12_1 rfl (nl rfl) (nl rfl) (s_asbinit hs (by omega)) ?_
  refine wp_vret dJ12_init_6 rfl ?_
  have fN : gF (fun x => x = a) (fun x => x = a) I ρ (sm_zI I (ρ.2.2.2.1 + 64)) (sm_nR ρ 101 16 16) := gF.nw _ _ _
  refine ⟨rfl, ⟨rfl, rfl⟩, (fN.tr gF.p (fun _ _ z => z) (fun _ _ z => z)).tr gF.u (fun _ _ z => z) (fun _ _ z => z), ?_, ?_, ?_, ?_, ?_, fun j hj => absurd hj (Nat.not_lt_zero _)⟩
  · exact (fN.eS (by omega)).trans hs
  · show sm_up (sm_nR ρ 101 16 16).2.1 a 0 (some (ρ.2.2.2.1 + 64)) a 0 = _
    rw [sm_up_eq, ha]
    unfold va_up
    rw [if_pos rfl]
  · rw [ha]
    exact sm_nR_at
  · rw [sm_u_eq, pk_us]
  · rw [sm_u_eq, pk_un (by decide), sm_zI_ne _ (by omega), hI]
    rfl
theorem s_ensure {a n : Nat} {c : Nat → Nat} (h : sbS I ρ a n c) (hn : n < 16) : sm_M G xJ11_ensureCapacityInternal d [.ref a, .int (nI (n + 1))] I ρ (sm_Qe none I ρ) := by
  obtain ⟨h1, h2, h3, h4, h5, -⟩ := h
  show sm_V G xJ11_ensureCapacityInternal d 0 [.ref a, .int (nI (n + 1)), .retAddr 0] [] I ρ _
  refine wp_aload0 1 rfl dJ11_ensureCapacityInternal_0 ?_
  refine wp_getr 4 rfl dJ11_ensureCapacityInternal_1 fJ11_15_20 (h1) (h2) ?_
  refine wp_alen (t := 1) 5 rfl dJ11_ensureCapacityInternal_4 rfl (h3) ?_
  refine wp_aload0 6 rfl dJ11_ensureCapacityInternal_5 ?_
  refine wp_geti 9 rfl dJ11_ensureCapacityInternal_6 fJ11_22_20 (h1) ?_
  rw [h4]
  refine wp_ishr 10 rfl dJ11_ensureCapacityInternal_9 ?_
  have e16 : nI 16 >>> (nI 0 &&& 31) = nI 16 := by decide
  rw [e16]
  have e1 : (nI (n + 1) - nI 16).toInt = ((n + 1 : Nat) : Int) - (16 : Nat) := pk_sub_toInt (by omega) (by decide)
  refine wp_istore2 11 rfl dJ11_ensureCapacityInternal_10 (by decide) rfl ?_
  refine wp_iload1 12 rfl dJ11_ensureCapacityInternal_11 ?_
  refine wp_iload2 13 rfl dJ11_ensureCapacityInternal_12 ?_
  refine wp_isub 14 rfl dJ11_ensureCapacityInternal_13 ?_
  refine wp_if_le 17 38 rfl rfl dJ11_ensureCapacityInternal_14 (fun c14 => ?_) (fun c14 => absurd (by rw [Int32.le_iff_toInt_le, e1, Int32.toInt_zero]; omega) c14)
  refine wp_vret dJ11_ensureCapacityInternal_38 rfl ?_
  exact ⟨rfl, rfl, rfl⟩
theorem s_asbLatin {a : Nat} (h1 : ρ.2.2.1 a = (20, 0)) (h4 : I a 1 = nI 0) : sm_M G xJ11_isLatin1 d [.ref a] I ρ (sm_Qe (some (.int (nI 1))) I ρ) := by
  show sm_V G xJ11_isLatin1 d 0 [.ref a] [] I ρ _
  refine wp_gets (v := .int 1) 3 rfl dJ11_isLatin1_0 q828 (fun s h => h.2.2.1) ?_
  refine wp_if_eq 6 17 rfl rfl dJ11_isLatin1_3 (fun c3 => absurd c3 (by decide)) (fun c3 => ?_)
  refine wp_aload0 7 rfl dJ11_isLatin1_6 ?_
  refine wp_geti 10 rfl dJ11_isLatin1_7 fJ11_22_20 (h1) ?_
  rw [h4]
  refine wp_if_ne 13 17 rfl rfl dJ11_isLatin1_10 (fun c10 => absurd (rfl) c10) (fun c10 => ?_)
  refine wp_iconst (nI 1) 14 rfl dJ11_isLatin1_13 (by decide) ?_
  refine wp_goto 18 rfl dJ11_isLatin1_14 ?_
  refine wp_zret dJ11_isLatin1_18 rfl (rfl) ?_
  exact sm_ei rfl
theorem s_canEnc {c : Nat} (hc : c < 128) : sm_M G xJ9_canEncode d [.int (nI c)] I ρ (sm_Qe (some (.int (nI 1))) I ρ) := by
  show sm_V G xJ9_canEncode d 0 [.int (nI c)] [] I ρ _
  refine wp_iload0 1 rfl dJ9_canEncode_0 ?_
  refine wp_sipush (nI 255) 4 rfl dJ9_canEncode_1 (by decide) ?_
  refine wp_icmp_gt 7 11 rfl rfl dJ9_canEncode_4 (fun c4 => absurd c4 (nI_nlt (by omega) (by decide))) (fun c4 => ?_)
  refine wp_iconst (nI 1) 8 rfl dJ9_canEncode_7 (by decide) ?_
  refine wp_goto 12 rfl dJ9_canEncode_8 ?_
  refine wp_zret dJ9_canEncode_12 rfl (rfl) ?_
  exact sm_ei rfl
def M_ap (I : sm_I) (a n c : Nat) : sm_I := sm_u (sm_u I a 3 (nI (n + 1))) (a + 1) n (nI c)
theorem s_asbAppend {a n x : Nat} {c : Nat → Nat} (h : sbS I ρ a n c) (hn : n < 16) (hx : x < 128) : sm_M G xJ11_append (d + 1) [.ref a, .int (nI x)] I ρ (sm_Qe (some (.ref a)) (M_ap I a n x) ρ) := by
  have h' := h
  obtain ⟨h1, h2, h3, h4, h5, -⟩ := h'
  have ex : (nI x).toInt8.toInt32 = nI x := nar_b ⟨x, hx⟩
  show sm_V G xJ11_append (d + 1) 0 [.ref a, .int (nI x)] [] I ρ _
  refine wp_aload0 1 rfl dJ11_append_0 ?_
  refine wp_aload0 2 rfl dJ11_append_1 ?_
  refine wp_geti 5 rfl dJ11_append_2 fJ11_79_20 (h1) ?_
  rw [h5]
  refine wp_iconst (nI 1) 6 rfl dJ11_append_5 (by decide) ?_
  refine wp_iadd 7 rfl dJ11_append_6 ?_
  rw [nI_add]
  refine wp_Pe1 10 rfl dJ11_append_7 kJ11_ensureCapacityInternal lJ11_100_20 (h1) (nl rfl) (nl rfl) (s_ensure h hn) ?_
  refine wp_aload0 11 rfl dJ11_append_10 ?_
  refine wp_Ae0 14 rfl dJ11_append_11 kJ11_isLatin1 lJ11_83_20 (h1) (nl rfl) (nl rfl) (s_asbLatin h1 h4) ?_
  refine wp_if_eq 17 45 rfl rfl dJ11_append_14 (fun c14 => absurd c14 (by decide)) (fun c14 => ?_)
  refine wp_iload1 18 rfl dJ11_append_17 ?_
  refine wp_Se1 21 rfl dJ11_append_18 kJ9_canEncode lJ11_191 (nl rfl) (nl rfl) (s_canEnc hx) ?_
  refine wp_if_eq 24 45 rfl rfl dJ11_append_21 (fun c21 => absurd c21 (by decide)) (fun c21 => ?_)
  refine wp_aload0 25 rfl dJ11_append_24 ?_
  refine wp_getr 28 rfl dJ11_append_25 fJ11_15_20 (h1) (h2) ?_
  refine wp_aload0 29 rfl dJ11_append_28 ?_
  refine wp_dup 30 rfl dJ11_append_29 rfl ?_
  refine wp_geti 33 rfl dJ11_append_30 fJ11_79_20 (h1) ?_
  rw [h5]
  refine wp_dup_x1 34 rfl dJ11_append_33 rfl rfl ?_
  refine wp_iconst (nI 1) 35 rfl dJ11_append_34 (by decide) ?_
  refine wp_iadd 36 rfl dJ11_append_35 ?_
  rw [nI_add]
  refine wp_puti 39 rfl dJ11_append_36 pJ11_79_20 (h1) (⟨rfl, rfl⟩) ?_
  refine wp_iload1 40 rfl dJ11_append_39 ?_
  refine wp_i2b 41 rfl dJ11_append_40 ?_
  rw [ex]
  refine wp_bast 42 rfl dJ11_append_41 (h3) (n) (rfl) (⟨hn, by decide⟩) ?_
  rw [vp_nar_byte, ex]
  refine wp_goto 75 rfl dJ11_append_42 ?_
  refine wp_aload0 76 rfl dJ11_append_75 ?_
  refine wp_aret dJ11_append_76 rfl (Or.inl ⟨_, rfl⟩) ?_
  exact ⟨rfl, rfl, rfl⟩
theorem s_append {a n x : Nat} {c : Nat → Nat} (h : sbS I ρ a n c) (hn : n < 16) (hx : x < 128) : sm_M G xJ12_append (d + 2) [.ref a, .int (nI x)] I ρ (sm_Qe (some (.ref a)) (M_ap I a n x) ρ) := by
  show sm_V G xJ12_append (d + 2) 0 [.ref a, .int (nI x)] [] I ρ _
  refine wp_aload0 1 rfl dJ12_append_0 ?_
  refine wp_iload1 2 rfl dJ12_append_1 ?_
  refine wp_Ue1 5 rfl dJ12_append_2 kJ11_append lJ12_50_20 (h.1) (nl rfl) (nl rfl) (s_asbAppend h hn hx) ?_
  refine wp_pop 6 rfl dJ12_append_5 rfl ?_
  refine wp_aload0 7 rfl dJ12_append_6 ?_
  refine wp_aret dJ12_append_7 rfl (Or.inl ⟨_, rfl⟩) ?_
  exact ⟨rfl, rfl, rfl⟩
theorem sbS.ap {a n x : Nat} {c : Nat → Nat} (h : sbS I ρ a n c) : sbS (M_ap I a n x) ρ a (n + 1) (fun j => if j = n then x else c j) := by
  obtain ⟨h1, h2, h3, h4, h5, h6⟩ := h
  unfold M_ap
  refine ⟨h1, h2, h3, ?_, ?_, fun j hj => ?_⟩
  · rw [sm_u_ne _ _ _ (by omega), sm_u_eq, pk_un (by decide)]; exact h4
  · rw [sm_u_ne _ _ _ (by omega), sm_u_eq, pk_us]
  · rw [sm_u_eq]
    by_cases e : j = n
    · rw [e, pk_us]
      show nI x = nI (if n = n then x else c n)
      rw [if_pos rfl]
    · rw [pk_un e, sm_u_ne _ _ _ (by omega)]
      show _ = nI (if j = n then x else c j)
      rw [if_neg e]
      exact h6 j (by omega)
theorem M_ap_g {a n x : Nat} : gF (fun y => y = a ∨ y = a + 1) pNo I ρ (M_ap I a n x) ρ := gF.i (fun y hy => by
  unfold M_ap
  rw [sm_u_ne _ _ _ (by omega), sm_u_ne _ _ _ (by omega)])
theorem s_chkLen {n : Nat} (hn : n < 1000) : sm_M G xJ15_checkLength d [.int (nI 0), .int (nI n)] I ρ (sm_Qe none I ρ) := by
  show sm_V G xJ15_checkLength d 0 [.int (nI 0), .int (nI n)] [] I ρ _
  refine wp_iload1 1 rfl dJ15_checkLength_0 ?_
  refine wp_iload0 2 rfl dJ15_checkLength_1 ?_
  refine wp_icmp_ge 5 37 rfl rfl dJ15_checkLength_2 (fun c2 => ?_) (fun c2 => absurd (nI_le (Nat.zero_le _) (by omega)) c2)
  refine wp_vret dJ15_checkLength_37 rfl ?_
  exact ⟨rfl, rfl, rfl⟩
/-- what copying comes to -/
def M_cq (I : sm_I) (b m n : Nat) : sm_I := fun q => if q = m then va_cpy (sm_zI I m b) (sm_zI I m m) 0 0 n else sm_zI I m q
theorem s_copyRB {b n : Nat} {c : Nat → Nat} (hb : ρ.2.2.1 b = (101, 16)) (hl : b < ρ.2.2.2.1 + 64) (hn : n < 16) (hc : ∀ j, j < n → I b j = nI (c j) ∧ c j < 128) : sm_M G xJ15_copyOfRangeByte (d + 1) [.ref b, .int (nI 0), .int (nI n)] I ρ (sm_Qe (some (.ref (ρ.2.2.2.1 + 64))) (M_cq I b (ρ.2.2.2.1 + 64) n) (sm_nR ρ 101 n n)) := by
  have hb1 : (sm_nR ρ 101 n n).2.2.1 b = (101, 16) := by
    have : (sm_nR ρ 101 n n).2.2.1 b = ρ.2.2.1 b := if_neg (by omega)
    rw [this]
    exact hb
  have hm1 : (sm_nR ρ 101 n n).2.2.1 (ρ.2.2.2.1 + 64) = (101, n) := sm_nR_at
  have em : (if nI n < nI 16 - nI 0 then nI n else nI 16 - nI 0) = nI n := by
    rw [show nI 16 - nI 0 = nI 16 by decide]
    exact if_pos (nI_lt hn (by decide))
  show sm_V G xJ15_copyOfRangeByte (d + 1) 0 [.ref b, .int (nI 0), .int (nI n), .retAddr 0, .retAddr 0] [] I ρ _
  refine wp_iload1 1 rfl dJ15_copyOfRangeByte_0 ?_
  refine wp_iload2 2 rfl dJ15_copyOfRangeByte_1 ?_
  refine wp_Se2 5 rfl dJ15_copyOfRangeByte_2 kJ15_checkLength lJ15_343 (nl rfl) (nl rfl) (s_chkLen (by omega)) ?_
  refine wp_iload2 6 rfl dJ15_copyOfRangeByte_5 ?_
  refine wp_iload1 7 rfl dJ15_copyOfRangeByte_6 ?_
  refine wp_isub 8 rfl dJ15_copyOfRangeByte_7 ?_
  rw [pk_sub (Nat.zero_le _), Nat.sub_zero]
  refine wp_istore3 9 rfl dJ15_copyOfRangeByte_8 (by decide) rfl ?_
  refine wp_iload3 10 rfl dJ15_copyOfRangeByte_9 ?_
  refine wp_newa (t := 1) (N := n) 12 rfl dJ15_copyOfRangeByte_10 rfl rfl (by decide) q234 (by first | rfl | simp only [pk_mul, nI_add]) (by omega) (ρ.2.2.2.1 + 64) (rfl) ?_
  refine wp_astore4 14 rfl dJ15_copyOfRangeByte_12 (by decide) rfl ?_
  refine wp_aload0 15 rfl dJ15_copyOfRangeByte_14 ?_
  refine wp_iload1 16 rfl dJ15_copyOfRangeByte_15 ?_
  refine wp_aload4 18 rfl dJ15_copyOfRangeByte_16 ?_
  refine wp_iconst (nI 0) 19 rfl dJ15_copyOfRangeByte_18 (by decide) ?_
  refine wp_aload0 20 rfl dJ15_copyOfRangeByte_19 ?_
  refine wp_alen (t := 1) 21 rfl dJ15_copyOfRangeByte_20 rfl (hb1) ?_
  refine wp_iload1 22 rfl dJ15_copyOfRangeByte_21 ?_
  refine wp_isub 23 rfl dJ15_copyOfRangeByte_22 ?_
  refine wp_iload3 24 rfl dJ15_copyOfRangeByte_23 ?_
  refine wp_mmin 27 rfl dJ15_copyOfRangeByte_24 q885 (nl rfl) ?_
  rw [em]
  refine wp_copy (t := 1) (ty := .byte) (sp := 0) (dp := 0) (z := n) 30 rfl dJ15_copyOfRangeByte_27 q888 (nl rfl) (by decide) rfl rfl hb1 hm1 rfl rfl rfl (by omega) (by omega) (by omega) (fun i hi => ?_) ?_
  · rw [Nat.zero_add, sm_zI_ne _ (by omega), (hc i hi).1]
    exact fits_b ⟨c i, (hc i hi).2⟩
  · refine wp_aload4 32 rfl dJ15_copyOfRangeByte_30 ?_
    refine wp_aret dJ15_copyOfRangeByte_32 rfl (Or.inr ⟨_, rfl⟩) ?_
    exact ⟨rfl, rfl, rfl⟩
theorem s_copyR {b n : Nat} {c : Nat → Nat} (hb : ρ.2.2.1 b = (101, 16)) (hl : b < ρ.2.2.2.1 + 64) (hn : n < 16) (hc : ∀ j, j < n → I b j = nI (c j) ∧ c j < 128) : sm_M G xJ15_copyOfRange (d + 2) [.ref b, .int (nI 0), .int (nI n)] I ρ (sm_Qe (some (.ref (ρ.2.2.2.1 + 64))) (M_cq I b (ρ.2.2.2.1 + 64) n) (sm_nR ρ 101 n n)) := by
  show sm_V G xJ15_copyOfRange (d + 2) 0 [.ref b, .int (nI 0), .int (nI n)] [] I ρ _
  refine wp_iload1 1 rfl dJ15_copyOfRange_0 ?_
  refine wp_if_ne 4 10 rfl rfl dJ15_copyOfRange_1 (fun c1 => absurd (rfl) c1) (fun c1 => ?_)
  refine wp_iload2 5 rfl dJ15_copyOfRange_4 ?_
  refine wp_aload0 6 rfl dJ15_copyOfRange_5 ?_
  refine wp_alen (t := 1) 7 rfl dJ15_copyOfRange_6 rfl (hb) ?_
  refine wp_icmp_eq 10 17 rfl rfl dJ15_copyOfRange_7 (fun c7 => absurd c7 (fun z => by have := (nI_eq (by omega) (by decide)).mp z; omega)) (fun c7 => ?_)
  refine wp_aload0 11 rfl dJ15_copyOfRange_10 ?_
  refine wp_iload1 12 rfl dJ15_copyOfRange_11 ?_
  refine wp_iload2 13 rfl dJ15_copyOfRange_12 ?_
  refine wp_Se3 16 rfl dJ15_copyOfRange_13 kJ15_copyOfRangeByte lJ15_339 (nl rfl) (nl rfl) (s_copyRB hb hl hn hc) ?_
  refine wp_aret dJ15_copyOfRange_16 rfl (Or.inr ⟨_, rfl⟩) ?_
  exact ⟨rfl, rfl, rfl⟩
theorem s_asbVal {a n : Nat} {c : Nat → Nat} (h : sbS I ρ a n c) : sm_M G xJ11_getValue d [.ref a] I ρ (sm_Qe (some (.ref (a + 1))) I ρ) := by
  show sm_V G xJ11_getValue d 0 [.ref a] [] I ρ _
  refine wp_aload0 1 rfl dJ11_getValue_0 ?_
  refine wp_getr 4 rfl dJ11_getValue_1 fJ11_15_20 (h.1) (h.2.1) ?_
  refine wp_aret dJ11_getValue_4 rfl (Or.inr ⟨_, rfl⟩) ?_
  exact ⟨rfl, rfl, rfl⟩
theorem s_asbLen {a n : Nat} {c : Nat → Nat} (h : sbS I ρ a n c) : sm_M G xJ11_length d [.ref a] I ρ (sm_Qe (some (.int (nI n))) I ρ) := by
  have h5 := h.2.2.2.2.1
  show sm_V G xJ11_length d 0 [.ref a] [] I ρ _
  refine wp_aload0 1 rfl dJ11_length_0 ?_
  refine wp_geti 4 rfl dJ11_length_1 fJ11_79_20 (h.1) ?_
  rw [h5]
  refine wp_iret dJ11_length_4 rfl ?_
  exact sm_ei rfl
theorem s_sbLen {a n : Nat} {c : Nat → Nat} (h : sbS I ρ a n c) : sm_M G xJ12_length (d + 1) [.ref a] I ρ (sm_Qe (some (.int (nI n))) I ρ) := by
  show sm_V G xJ12_length (d + 1) 0 [.ref a] [] I ρ _
  refine wp_aload0 1 rfl dJ12_length_0 ?_
  refine wp_Ue0 4 rfl dJ12_length_1 kJ11_length lJ12_343_20 (h.1) (nl rfl) (nl rfl) (s_asbLen h) ?_
  refine wp_iret dJ12_length_4 rfl ?_
  exact sm_ei rfl
/-- a builder's text as a String: the object s was made -/
theorem s_strinit2 {a s n : Nat} {c : Nat → Nat} (h : sbS I ρ a n c) (hn : n < 16) (hc : ∀ j, j < n → c j < 128) (hs : ρ.2.2.1 s = (19, 0)) (ha : a + 1 < ρ.2.2.2.1 + 64) (hs2 : s < ρ.2.2.2.1 + 64) (has : a + 1 < s) : sm_M G xJ8_init_2 (d + 3) [.ref s, .ref a, .null] I ρ (sm_Qe none (M_cq (sm_u I s 1 (nI 0)) (a + 1) (ρ.2.2.2.1 + 64) n) ((sm_nR ρ 101 n n).1, sm_up (sm_nR ρ 101 n n).2.1 s 0 (some (ρ.2.2.2.1 + 64)), (sm_nR ρ 101 n n).2.2)) := by
  have hs1 : (sm_nR ρ 101 n n).2.2.1 s = (19, 0) := by
    have : (sm_nR ρ 101 n n).2.2.1 s = ρ.2.2.1 s := if_neg (by omega)
    rw [this]
    exact hs
  show sm_V G xJ8_init_2 (d + 3) 0 [.ref s, .ref a, .null, .retAddr 0, .retAddr 0] [] I ρ _
  refine wp_aload0 1 rfl dJ8_init_2_0 ?_
  refine wp_objInit 4 rfl dJ8_init_2_1 q936 (nl rfl) ?_
  refine wp_aload1 5 rfl dJ8_init_2_4 ?_
  refine wp_Ae0 8 rfl dJ8_init_2_5 kJ11_getValue lJ8_552_20 (h.1) (nl rfl) (nl rfl) (s_asbVal h) ?_
  refine wp_astore3 9 rfl dJ8_init_2_8 (by decide) rfl ?_
  refine wp_aload1 10 rfl dJ8_init_2_9 ?_
  refine wp_Ae0 13 rfl dJ8_init_2_10 kJ12_length lJ8_549_20 (h.1) (nl rfl) (nl rfl) (s_sbLen h) ?_
  refine wp_istore4 15 rfl dJ8_init_2_13 (by decide) rfl ?_
  refine wp_aload1 16 rfl dJ8_init_2_15 ?_
  refine wp_Ae0 19 rfl dJ8_init_2_16 kJ11_isLatin1 lJ8_1047_20 (h.1) (nl rfl) (nl rfl) (s_asbLatin h.1 h.2.2.2.1) ?_
  refine wp_if_eq 22 41 rfl rfl dJ8_init_2_19 (fun c19 => absurd c19 (by decide)) (fun c19 => ?_)
  refine wp_aload0 23 rfl dJ8_init_2_22 ?_
  refine wp_iconst (nI 0) 24 rfl dJ8_init_2_23 (by decide) ?_
  refine wp_putiF 27 rfl dJ8_init_2_24 rfl pJ8_15_19 hs ⟨rfl, rfl⟩ ?_
  refine wp_aload0 28 rfl dJ8_init_2_27 ?_
  refine wp_aload3 29 rfl dJ8_init_2_28 ?_
  refine wp_iconst (nI 0) 30 rfl dJ8_init_2_29 (by decide) ?_
  refine wp_iload4 32 rfl dJ8_init_2_30 ?_
  have hc2 : ∀ j, j < n → sm_u I s 1 (nI 0) (a + 1) j = nI (c j) ∧ c j < 128 := fun j hj => ⟨by rw [sm_u_ne _ _ _ (by omega)]; exact h.2.2.2.2.2 j hj, hc j hj⟩
  refine wp_Se3 35 rfl dJ8_init_2_32 kJ15_copyOfRange lJ8_54 (nl rfl) (nl rfl) (s_copyR h.2.2.1 ha hn hc2) ?_
  refine wp_putrF 38 rfl dJ8_init_2_35 rfl pJ8_9_19 hs1 (fun q => ⟨rfl, rfl⟩) ?_
  refine wp_goto 97 rfl dJ8_init_2_38 ?_
  refine wp_vret dJ8_init_2_97 rfl ?_
  exact ⟨rfl, rfl, rfl⟩
theorem s_toString {a n : Nat} {c : Nat → Nat} (h : sbS I ρ a n c) (hn : n < 16) (hc : ∀ j, j < n → c j < 128) (ha : a + 1 < ρ.2.2.2.1 + 64) : sm_M G xJ12_toString (d + 5) [.ref a] I ρ (sm_Qr (fun s I1 ρ1 => gF pNo pNo I ρ I1 ρ1 ∧ (ρ1.2.2.2.1 = ρ.2.2.2.1 + 2 ∧ ρ1.2.2.2.2 = ρ.2.2.2.2 + 4 + n) ∧ cStr I1 ρ1 (ρ.2.2.2.1 + 64) (ρ1.2.2.2.1 + 64) s n c)) := by
  show sm_V G xJ12_toString (d + 5) 0 [.ref a] [] I ρ _
  refine wp_new 3 rfl dJ12_toString_0 nJ12_18 (ρ.2.2.2.1 + 64) (rfl) ?_
  have fN : gF pNo pNo I ρ (sm_zI I (ρ.2.2.2.1 + 64)) (sm_nR ρ 19 0 4) := gF.nw _ _ _
  have sN : (sm_nR ρ 19 0 4).2.2.1 (ρ.2.2.2.1 + 64) = (19, 0) := sm_nR_at
  have zN : (sm_nR ρ 19 0 4).2.2.2.1 = ρ.2.2.2.1 + 1 ∧ (sm_nR ρ 19 0 4).2.2.2.2 = ρ.2.2.2.2 + 4 := ⟨rfl, rfl⟩
  generalize sm_zI I (ρ.2.2.2.1 + 64) = Jn at *
  generalize sm_nR ρ 19 0 4 = ρn at *
  obtain ⟨zN1, zN2⟩ := zN
  have hn' : sbS Jn ρn a n c := by
    obtain ⟨h1, h2, h3, h4, h5, h6⟩ := h
    unfold sbS
    rw [fN.eS (by omega), fN.eP (by omega) (fun z => z), fN.eS (by omega), fN.eI (by omega) (fun z => z), fN.eI (by omega) (fun z => z)]
    exact ⟨h1, h2, h3, h4, h5, h6⟩
  have hin : sm_M G xJ8_init (d + 4) [.ref (ρ.2.2.2.1 + 64), .ref a] Jn ρn (sm_Qe none (M_cq (sm_u Jn (ρ.2.2.2.1 + 64) 1 (nI 0)) (a + 1) (ρn.2.2.2.1 + 64) n) ((sm_nR ρn 101 n n).1, sm_up (sm_nR ρn 101 n n).2.1 (ρ.2.2.2.1 + 64) 0 (some (ρn.2.2.2.1 + 64)), (sm_nR ρn 101 n n).2.2)) := by
    show sm_V G xJ8_init (d + 4) 0 [.ref (ρ.2.2.2.1 + 64), .ref a] [] Jn ρn _
    refine wp_aload0 1 rfl dJ8_init_0 ?_
    refine wp_aload1 2 rfl dJ8_init_1 ?_
    refine wp_null 3 rfl dJ8_init_2 ?_
    refine wp_Ie2 6 rfl dJ8_init_3 kJ8_init_2 lJ8_489 rfl (nl rfl) (nl rfl) (s_strinit2 hn' hn hc sN (by omega) (by omega) (by omega)) ?_
    refine wp_vret dJ8_init_6 rfl ?_
    exact ⟨rfl, rfl, rfl⟩
  refine wp_dup 4 rfl dJ12_toString_3 rfl ?_
  refine wp_aload0 5 rfl dJ12_toString_4 ?_
  refine wp_Ie1 8 rfl dJ12_toString_5 kJ8_init lJ12_137 rfl (nl rfl) (nl rfl) (hin) ?_
  refine wp_aret dJ12_toString_8 rfl (Or.inl ⟨_, rfl⟩) ?_
  have f2 : gF pNo pNo Jn ρn (sm_zI Jn (ρn.2.2.2.1 + 64)) (sm_nR ρn 101 n n) := gF.nw _ _ _
  have eI : ∀ x, x < ρn.2.2.2.1 + 64 → ¬ x = ρ.2.2.2.1 + 64 → M_cq (sm_u Jn (ρ.2.2.2.1 + 64) 1 (nI 0)) (a + 1) (ρn.2.2.2.1 + 64) n x = Jn x := fun x hx hne => by
    unfold M_cq
    rw [if_neg (by omega), sm_zI_ne _ (by omega), sm_u_ne _ _ _ hne]
  have eP : ∀ x, x < ρn.2.2.2.1 + 64 → ¬ x = ρ.2.2.2.1 + 64 → sm_up (sm_nR ρn 101 n n).2.1 (ρ.2.2.2.1 + 64) 0 (some (ρn.2.2.2.1 + 64)) x = ρn.2.1 x := fun x hx hne => by
    rw [sm_up_ne _ _ _ hne]
    exact f2.eP hx (fun z => z)
  refine ⟨_, rfl, ⟨⟨?_, ?_, fun x hx => ?_⟩, fun x hx => ⟨?_, ?_⟩, fun x hx _ => ?_, fun x hx _ => ?_⟩, ⟨?_, ?_⟩, ⟨Nat.le_refl _, ?_⟩, ?_, ?_, ρn.2.2.2.1 + 64, ⟨?_, ?_⟩, ?_, ?_, fun j hj => ?_⟩
  · show ρ.2.2.2.1 ≤ ρn.2.2.2.1 + 1
    omega
  · show ρ.2.2.2.2 ≤ ρn.2.2.2.2 + n
    omega
  · have hx : ρn.2.2.2.1 + 1 + 64 ≤ x := hx
    exact (f2.1.2.2 x hx).trans (fN.1.2.2 x (by omega))
  · exact (f2.eS (by omega)).trans (fN.eS hx)
  · exact (f2.2.1 x (by omega)).2.trans (fN.2.1 x hx).2
  · exact (eI x (by omega) (by omega)).trans (fN.eI hx (fun z => z))
  · exact (eP x (by omega) (by omega)).trans (fN.eP hx (fun z => z))
  · show ρn.2.2.2.1 + 1 = _
    omega
  · show ρn.2.2.2.2 + n = _
    omega
  · show _ < ρn.2.2.2.1 + 1 + 64
    omega
  · exact (f2.eS (by omega)).trans sN
  · unfold M_cq
    rw [if_neg (by omega), sm_zI_ne _ (by omega), sm_u_eq, pk_us]
  · omega
  · show _ < ρn.2.2.2.1 + 1 + 64
    omega
  · show sm_up (sm_nR ρn 101 n n).2.1 (ρ.2.2.2.1 + 64) 0 (some (ρn.2.2.2.1 + 64)) (ρ.2.2.2.1 + 64) 0 = _
    rw [sm_up_eq]
    unfold va_up
    rw [if_pos rfl]
  · exact sm_nR_at
  · unfold M_cq
    rw [if_pos rfl, pk_cpy_in (by omega) (by omega), sm_zI_ne _ (by omega), sm_u_ne _ _ _ (by omega), show 0 + (j - 0) = j by omega]
    exact hn'.2.2.2.2.2 j hj
end G5
