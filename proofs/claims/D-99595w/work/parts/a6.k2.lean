/-! ===== constructors: a town, the tokens, the fault (printed by gen_k2.py) ===== -/
set_option maxRecDepth 100000
section K2
variable {G : sm_G} {d : Nat} {I : sm_I} {ρ : sm_R}
theorem s_twinit {b : Nat} (hs : ρ.2.2.1 b = (6, 0)) (hb : ρ.2.2.2.1 + 64 = b + 1) : sm_M G xX5_init (d + 3) [.ref b] I ρ (sm_Qv (fun I1 ρ1 => (ρ1.2.2.2.1 = ρ.2.2.2.1 + 15 ∧ ρ1.2.2.2.2 = ρ.2.2.2.2 + 74) ∧ gF pNo (fun x => x = b) I ρ I1 ρ1 ∧ td ρ1 b)) := by
  show sm_V G xX5_init (d + 3) 0 [.ref b] [] I ρ _
  refine wp_aload0 1 rfl dX5_init_0 ?_
  refine wp_objInit 4 rfl dX5_init_1 q401 (nl rfl) ?_
  refine wp_aload0 5 rfl dX5_init_4 ?_
  refine wp_bipush (nI 6) 7 rfl dX5_init_5 (by decide) ?_
  refine wp_iconst (nI 4) 8 rfl dX5_init_7 (by decide) ?_
  refine wp_gM (N := 6) (M := 4) (n := b + 1) 12 15 rfl rfl dX5_init_8 dX5_init_12 q402 q420 rfl rfl (by decide) (by decide) rfl pX5_11_6 hs (fun q => ⟨rfl, rfl⟩) (by omega) hb (fun I1 ρ1 h => ?_)
  obtain ⟨g1, ⟨z1, y1⟩, s1, e1, i1, p1⟩ := h
  have o1' := (g1.eS (x := b) (by omega)).trans hs
  refine wp_aload0 16 rfl dX5_init_15 ?_
  refine wp_bipush (nI 6) 18 rfl dX5_init_16 (by decide) ?_
  refine wp_gA (t := 0) (N := 6) (n := b + 8) 20 23 rfl rfl dX5_init_18 dX5_init_20 rfl rfl (by decide) q420 rfl (by decide) rfl pX5_16_6 o1' (fun q => ⟨rfl, rfl⟩) (by omega) (by omega) (fun I2 ρ2 h => ?_)
  obtain ⟨g2, ⟨z2, y2⟩, s2, -, p2⟩ := h
  have o2' := (g2.eS (x := b) (by omega)).trans o1'
  refine wp_aload0 24 rfl dX5_init_23 ?_
  refine wp_bipush (nI 6) 26 rfl dX5_init_24 (by decide) ?_
  refine wp_gA (t := 0) (N := 6) (n := b + 9) 28 31 rfl rfl dX5_init_26 dX5_init_28 rfl rfl (by decide) q420 rfl (by decide) rfl pX5_20_6 o2' (fun q => ⟨rfl, rfl⟩) (by omega) (by omega) (fun I3 ρ3 h => ?_)
  obtain ⟨g3, ⟨z3, y3⟩, s3, -, p3⟩ := h
  have o3' := (g3.eS (x := b) (by omega)).trans o2'
  refine wp_aload0 32 rfl dX5_init_31 ?_
  refine wp_bipush (nI 6) 34 rfl dX5_init_32 (by decide) ?_
  refine wp_gA (t := 0) (N := 6) (n := b + 10) 36 39 rfl rfl dX5_init_34 dX5_init_36 rfl rfl (by decide) q420 rfl (by decide) rfl pX5_23_6 o3' (fun q => ⟨rfl, rfl⟩) (by omega) (by omega) (fun I4 ρ4 h => ?_)
  obtain ⟨g4, ⟨z4, y4⟩, s4, -, p4⟩ := h
  have o4' := (g4.eS (x := b) (by omega)).trans o3'
  refine wp_aload0 40 rfl dX5_init_39 ?_
  refine wp_bipush (nI 6) 42 rfl dX5_init_40 (by decide) ?_
  refine wp_gA (t := 0) (N := 6) (n := b + 11) 44 47 rfl rfl dX5_init_42 dX5_init_44 rfl rfl (by decide) q420 rfl (by decide) rfl pX5_26_6 o4' (fun q => ⟨rfl, rfl⟩) (by omega) (by omega) (fun I5 ρ5 h => ?_)
  obtain ⟨g5, ⟨z5, y5⟩, s5, -, p5⟩ := h
  have o5' := (g5.eS (x := b) (by omega)).trans o4'
  refine wp_aload0 48 rfl dX5_init_47 ?_
  refine wp_iconst (nI 5) 49 rfl dX5_init_48 (by decide) ?_
  refine wp_gA (t := 0) (N := 5) (n := b + 12) 51 54 rfl rfl dX5_init_49 dX5_init_51 rfl rfl (by decide) q420 rfl (by decide) rfl pX5_29_6 o5' (fun q => ⟨rfl, rfl⟩) (by omega) (by omega) (fun I6 ρ6 h => ?_)
  obtain ⟨g6, ⟨z6, y6⟩, s6, -, p6⟩ := h
  have o6' := (g6.eS (x := b) (by omega)).trans o5'
  refine wp_aload0 55 rfl dX5_init_54 ?_
  refine wp_iconst (nI 4) 56 rfl dX5_init_55 (by decide) ?_
  refine wp_gA (t := 0) (N := 4) (n := b + 13) 58 61 rfl rfl dX5_init_56 dX5_init_58 rfl rfl (by decide) q420 rfl (by decide) rfl pX5_32_6 o6' (fun q => ⟨rfl, rfl⟩) (by omega) (by omega) (fun I7 ρ7 h => ?_)
  obtain ⟨g7, ⟨z7, y7⟩, s7, -, p7⟩ := h
  have o7' := (g7.eS (x := b) (by omega)).trans o6'
  have fN : gF pNo pNo I7 ρ7 (sm_zI I7 (ρ7.2.2.2.1 + 64)) (sm_nR ρ7 7 0 2) := gF.nw _ _ _
  have en : ρ7.2.2.2.1 + 64 = b + 14 := by omega
  have sN : (sm_nR ρ7 7 0 2).2.2.1 (b + 14) = (7, 0) := by rw [← en]; exact sm_nR_at
  rw [en] at fN
  have zN : (sm_nR ρ7 7 0 2).2.2.2.1 = ρ7.2.2.2.1 + 1 ∧ (sm_nR ρ7 7 0 2).2.2.2.2 = ρ7.2.2.2.2 + 2 := ⟨rfl, rfl⟩
  refine wp_aload0 62 rfl dX5_init_61 ?_
  refine wp_new 65 rfl dX5_init_62 nX5_35 (b + 14) (en) ?_
  generalize sm_nR ρ7 7 0 2 = ρn at *
  obtain ⟨zn1, zn2⟩ := zN
  refine wp_dup 66 rfl dX5_init_65 rfl ?_
  refine wp_INv0 69 rfl dX5_init_66 kX6_init lX5_37 rfl (nl rfl) (nl rfl) (s_akinit sN (by omega)) (fun J8 ρ8 h8 => ?_)
  obtain ⟨g8, ⟨z8, y8⟩, s8, -, p8⟩ := h8
  have f8 : gF pNo pNo I7 ρ7 J8 ρ8 := fN.tr g8.1 (fun _ _ z => z) (fun x hx z => by have z : x = b + 14 := z; omega)
  have o8' := (f8.eS (a := b) (by omega)).trans o7'
  have a8 : ρ8.2.2.1 (b + 14) = (7, 0) := (g8.eS (by omega)).trans sN
  show sm_V G xX5_init (d + 3) 69 [.ref b] [.ref (b + 14), .ref b] J8 ρ8 _
  refine wp_putrF 72 rfl dX5_init_69 rfl pX5_38_6 o8' (fun q => ⟨rfl, rfl⟩) ?_
  refine wp_vret dX5_init_72 rfl ?_
  obtain ⟨ρf, hρf⟩ : ∃ ρf : sm_R, ρf = (ρ8.1, sm_up ρ8.2.1 b 11 (some (b + 14)), ρ8.2.2) := ⟨_, rfl⟩
  have sk : ρf.2.2 = ρ8.2.2 := by rw [hρf]
  have pf : ρf.2.1 b 11 = some (b + 14) := by rw [hρf]; exact gP.at
  have gf : gP b [11] J8 ρ8 J8 ρf := by rw [hρf]; exact gP.p
  show sm_Qv _ (.inl none) J8 (ρ8.1, sm_up ρ8.2.1 b 11 (some (b + 14)), ρ8.2.2)
  rw [← hρf]
  clear hρf
  have F7 : gP b ([] ++ [11]) I7 ρ7 J8 ρf := (gP.of (K := []) f8 (by omega)).tr gf
  have F6 := g7.tr F7
  have F5 := g6.tr F6
  have F4 := g5.tr F5
  have F3 := g4.tr F4
  have F2 := g3.tr F3
  have F1 := g2.tr F2
  have F0 := g1.tr F1
  refine ⟨rfl, ⟨by rw [sk]; omega, by rw [sk]; omega⟩, F0.1, (F0.eS (by omega)).trans hs, (F1.2 0 (by decide)).trans p1, (F2.2 1 (by decide)).trans p2, (F3.2 2 (by decide)).trans p3, (F4.2 3 (by decide)).trans p4, (F5.2 4 (by decide)).trans p5, (F6.2 5 (by decide)).trans p6, (F7.2 10 (by decide)).trans p7, pf, (F1.eS (by omega)).trans s1, fun j hj => ?_, fun j hj => ?_, (F2.eS (by omega)).trans s2, (F3.eS (by omega)).trans s3, (F4.eS (by omega)).trans s4, (F5.eS (by omega)).trans s5, (F6.eS (by omega)).trans s6, (F7.eS (by omega)).trans s7, (gf.eS (by omega)).trans a8, ?_, (gf.eS (by omega)).trans s8⟩
  · rw [F1.eP (by omega) (by omega), e1 j hj]
  · exact (F1.eS (by omega)).trans (i1 j hj)
  · rw [gf.eP (by omega) (by omega)]
    exact p8
/-- references of a alone change -/
def fR (a : Nat) (ρ ρ1 : sm_R) : Prop := ρ1.1 = ρ.1 ∧ ρ1.2.2 = ρ.2.2 ∧ ∀ x, ¬ x = a → ρ1.2.1 x = ρ.2.1 x
theorem fR.rf {a : Nat} {ρ : sm_R} : fR a ρ ρ := ⟨rfl, rfl, fun _ _ => rfl⟩
theorem fR.p {a k : Nat} {v : Option Nat} {ρ ρ1 : sm_R} (h : fR a ρ ρ1) : fR a ρ (ρ1.1, sm_up ρ1.2.1 a k v, ρ1.2.2) := ⟨h.1, h.2.1, fun x hx => (sm_up_ne _ _ _ hx).trans (h.2.2 x hx)⟩
theorem fR.s {a x : Nat} {y : Nat × Nat} {ρ ρ1 : sm_R} (h : fR a ρ ρ1) (e : ρ.2.2.1 x = y) : ρ1.2.2.1 x = y := by rw [h.2.1]; exact e
theorem fR.g {a : Nat} {I : sm_I} {ρ ρ1 : sm_R} (h : fR a ρ ρ1) : gF pNo (fun x => x = a) I ρ I ρ1 := ⟨⟨by rw [h.2.1]; exact Nat.le_refl _, by rw [h.2.1]; exact Nat.le_refl _, fun _ _ => by rw [h.2.1]⟩, fun _ _ => ⟨by rw [h.2.1], by rw [h.1]⟩, fun _ _ _ => rfl, fun x _ hx => h.2.2 x hx⟩
theorem s_th3 {a : Nat} {ρ1 : sm_R} (hs : ρ.2.2.1 a = (2, 0)) (h1 : fR a ρ ρ1) : sm_V G xJ0_init_2 (d + 1) 23 [.ref a, .ref 21, .null, .int (nI 0), .int (nI 0)] [] I ρ1 (sm_Qv (fun I1 ρ2 => I1 = I ∧ fR a ρ ρ2)) := by
  refine wp_iload4 25 rfl dJ0_init_2_23 ?_
  refine wp_if_eq 28 36 rfl rfl dJ0_init_2_25 (fun _ => ?_) (fun c => absurd rfl c)
  refine wp_aload0 37 rfl dJ0_init_2_36 ?_
  refine wp_null 38 rfl dJ0_init_2_37 ?_
  refine wp_putnF 41 rfl dJ0_init_2_38 pJ0_17_2 (h1.s hs) ⟨rfl, rfl⟩ ?_
  refine wp_aload0 42 rfl dJ0_init_2_41 ?_
  refine wp_aload1 43 rfl dJ0_init_2_42 ?_
  refine wp_putr 46 rfl dJ0_init_2_43 pJ0_31_2 (h1.s hs) (fun q => ⟨rfl, rfl⟩) ?_
  refine wp_aload0 47 rfl dJ0_init_2_46 ?_
  refine wp_aloadN_nG (i := 2) rfl 48 rfl dJ0_init_2_47 rfl ?_
  refine wp_putnF 51 rfl dJ0_init_2_48 pJ0_7_2 (h1.s hs) ⟨rfl, rfl⟩ ?_
  refine wp_iload3 52 rfl dJ0_init_2_51 ?_
  refine wp_if_ne 55 60 rfl rfl dJ0_init_2_52 (fun c => absurd rfl c) (fun _ => ?_)
  refine wp_aload0 56 rfl dJ0_init_2_55 ?_
  refine wp_null 57 rfl dJ0_init_2_56 ?_
  refine wp_putnF 60 rfl dJ0_init_2_57 pJ0_24_2 (h1.s hs) ⟨rfl, rfl⟩ ?_
  refine wp_vret dJ0_init_2_60 rfl ?_
  exact ⟨rfl, rfl, h1.p.p.p.p⟩
theorem s_th2 {a : Nat} {ρ1 : sm_R} (hs : ρ.2.2.1 a = (2, 0)) (h1 : fR a ρ ρ1) : sm_V G xJ0_init_2 (d + 1) 16 [.ref a, .ref 21, .null, .int (nI 0), .int (nI 0)] [] I ρ1 (sm_Qv (fun I1 ρ2 => I1 = I ∧ fR a ρ ρ2)) := by
  refine wp_aload0 17 rfl dJ0_init_2_16 ?_
  refine wp_getsN (j := 46) 20 rfl dJ0_init_2_17 q189 (by decide) (fun s h => h.2.2.2.2.1.2.1) ?_ ?_
  · exact wp_putnF 23 rfl dJ0_init_2_20 pJ0_24_2 (h1.s hs) ⟨rfl, rfl⟩ (s_th3 hs h1.p)
  · exact wp_putr 23 rfl dJ0_init_2_20 pJ0_24_2 (h1.s hs) (fun q => ⟨rfl, rfl⟩) (s_th3 hs h1.p)
theorem s_th {a : Nat} (hs : ρ.2.2.1 a = (2, 0)) : sm_M G xJ0_init_2 (d + 1) [.ref a, .ref 21, .null, .int (nI 0), .int (nI 0)] I ρ (sm_Qv (fun I1 ρ1 => I1 = I ∧ fR a ρ ρ1)) := by
  show sm_V G xJ0_init_2 (d + 1) 0 [.ref a, .ref 21, .null, .int (nI 0), .int (nI 0)] [] I ρ _
  refine wp_aload0 1 rfl dJ0_init_2_0 ?_
  refine wp_objInit 4 rfl dJ0_init_2_1 q186 (nl rfl) ?_
  refine wp_aload0 5 rfl dJ0_init_2_4 ?_
  refine wp_aload0 6 rfl dJ0_init_2_5 ?_
  refine wp_putr 9 rfl dJ0_init_2_6 pJ0_7_2 hs (fun q => ⟨rfl, rfl⟩) ?_
  refine wp_aload0 10 rfl dJ0_init_2_9 ?_
  refine wp_getsN (j := 45) 13 rfl dJ0_init_2_10 q187 (by decide) (fun s h => h.2.2.2.2.1.1) ?_ ?_
  · exact wp_putnF 16 rfl dJ0_init_2_13 pJ0_17_2 hs ⟨rfl, rfl⟩ (s_th2 hs (fR.rf.p.p))
  · exact wp_putr 16 rfl dJ0_init_2_13 pJ0_17_2 hs (fun q => ⟨rfl, rfl⟩) (s_th2 hs (fR.rf.p.p))
theorem s_ex {a : Nat} (hs : ρ.2.2.1 a = (2, 0)) : sm_M G xJ1_init (d + 2) [.ref a, .ref 21, .null, .int (nI 0), .int (nI 0)] I ρ (sm_Qv (fun I1 ρ1 => I1 = I ∧ fR a ρ ρ1)) := by
  show sm_V G xJ1_init (d + 2) 0 [.ref a, .ref 21, .null, .int (nI 0), .int (nI 0)] [] I ρ _
  refine wp_aload0 1 rfl dJ1_init_0 ?_
  refine wp_aload1 2 rfl dJ1_init_1 ?_
  refine wp_aloadN_nG (i := 2) rfl 3 rfl dJ1_init_2 rfl ?_
  refine wp_iload3 4 rfl dJ1_init_3 ?_
  refine wp_iload4 6 rfl dJ1_init_4 ?_
  refine wp_Iv4 9 rfl dJ1_init_6 kJ0_init_2 lJ1_16 rfl (nl rfl) (nl rfl) (s_th hs) (fun I1 ρ1 h => ?_)
  exact wp_vret dJ1_init_9 rfl ⟨rfl, h⟩
theorem s_rt {a : Nat} (hs : ρ.2.2.1 a = (2, 0)) : sm_M G xJ2_init (d + 3) [.ref a, .ref 21, .null, .int (nI 0), .int (nI 0)] I ρ (sm_Qv (fun I1 ρ1 => I1 = I ∧ fR a ρ ρ1)) := by
  show sm_V G xJ2_init (d + 3) 0 [.ref a, .ref 21, .null, .int (nI 0), .int (nI 0)] [] I ρ _
  refine wp_aload0 1 rfl dJ2_init_0 ?_
  refine wp_aload1 2 rfl dJ2_init_1 ?_
  refine wp_aloadN_nG (i := 2) rfl 3 rfl dJ2_init_2 rfl ?_
  refine wp_iload3 4 rfl dJ2_init_3 ?_
  refine wp_iload4 6 rfl dJ2_init_4 ?_
  refine wp_Iv4 9 rfl dJ2_init_6 kJ1_init lJ2_16 rfl (nl rfl) (nl rfl) (s_ex hs) (fun I1 ρ1 h => ?_)
  exact wp_vret dJ2_init_9 rfl ⟨rfl, h⟩
theorem s_ftinit {a : Nat} (hs : ρ.2.2.1 a = (2, 0)) : sm_M G xX1_init (d + 4) [.ref a] I ρ (sm_Qv (fun I1 ρ1 => I1 = I ∧ fR a ρ ρ1)) := by
  show sm_V G xX1_init (d + 4) 0 [.ref a] [] I ρ _
  refine wp_aload0 1 rfl dX1_init_0 ?_
  refine wp_ldcS (i := 21) 3 rfl dX1_init_1 rfl (by decide) ?_
  refine wp_null 4 rfl dX1_init_3 ?_
  refine wp_iconst (nI 0) 5 rfl dX1_init_4 rfl ?_
  refine wp_iconst (nI 0) 6 rfl dX1_init_5 rfl ?_
  refine wp_Iv4 9 rfl dX1_init_6 kJ2_init lX1_3 rfl (nl rfl) (nl rfl) (s_rt hs) (fun I1 ρ1 h => ?_)
  exact wp_vret dX1_init_9 rfl ⟨rfl, h⟩
theorem s_tkinit {a : Nat} (hs : ρ.2.2.1 a = (3, 0)) (ha : ρ.2.2.2.1 + 64 = a + 1) : sm_M G xX2_init (d + 1) [.ref a] I ρ (sm_Qv (fun I1 ρ1 => (ρ1.2.2.2.1 = ρ.2.2.2.1 + 6 ∧ ρ1.2.2.2.2 = ρ.2.2.2.2 + 10025) ∧ gF pNo (fun x => x = a) I ρ I1 ρ1 ∧ (ρ1.2.1 a 0 = some (a + 1) ∧ ρ1.2.1 a 1 = some (a + 2) ∧ ρ1.2.1 a 3 = some (a + 3) ∧ ρ1.2.1 a 4 = some (a + 4) ∧ ρ1.2.1 a 5 = some (a + 5) ∧ ρ1.2.1 a 6 = some (a + 6)) ∧ (ρ1.2.2.1 (a + 1) = (106, 21) ∧ ∀ j, j < 21 → ρ1.2.1 (a + 1) j = some j) ∧ ρ1.2.2.1 (a + 2) = (101, 2000) ∧ ρ1.2.2.1 (a + 3) = (101, 2001) ∧ ρ1.2.2.1 (a + 4) = (102, 2001) ∧ ρ1.2.2.1 (a + 5) = (102, 2001) ∧ ρ1.2.2.1 (a + 6) = (102, 2001))) := by
  show sm_V G xX2_init (d + 1) 0 [.ref a] [] I ρ _
  refine wp_aload0 1 rfl dX2_init_0 ?_
  refine wp_objInit 4 rfl dX2_init_1 q240 (nl rfl) ?_
  refine wp_aload0 5 rfl dX2_init_4 ?_
  refine wp_bipush (nI 21) 7 rfl dX2_init_5 (by decide) ?_
  refine wp_newq (t := 6) (N := 21) 10 rfl dX2_init_7 q241 q242 rfl (by decide) rfl (by decide) (a + 1) ha ?_
  have fN : gF pNo pNo I ρ (sm_zI I (ρ.2.2.2.1 + 64)) (sm_nR ρ 106 21 21) := gF.nw _ _ _
  rw [ha] at fN
  have sN : (sm_nR ρ 106 21 21).2.2.1 (a + 1) = (106, 21) := by rw [← ha]; exact sm_nR_at
  have zN : (sm_nR ρ 106 21 21).2.2.2.1 = ρ.2.2.2.1 + 1 ∧ (sm_nR ρ 106 21 21).2.2.2.2 = ρ.2.2.2.2 + 21 := ⟨rfl, rfl⟩
  show sm_V G xX2_init (d + 1) 10 [.ref a] [.ref (a + 1), .ref a] (sm_zI I (a + 1)) (sm_nR ρ 106 21 21) _
  generalize sm_nR ρ 106 21 21 = ρn at *
  generalize sm_zI I (a + 1) = J0 at *
  obtain ⟨zn1, zn2⟩ := zN
  have w0 : fR (a + 1) ρn ρn := fR.rf
  have v0 : ∀ j, j < 0 → ρn.2.1 (a + 1) j = some j := fun j hj => absurd hj (Nat.not_lt_zero _)
  refine wp_dup 11 rfl dX2_init_10 rfl ?_
  refine wp_iconst (nI 0) 12 rfl dX2_init_11 (by decide) ?_
  refine wp_ldcS (i := 0) 14 rfl dX2_init_12 rfl (by decide) ?_
  refine sm_aastC 15 rfl dX2_init_14 (w0.s sN) 0 rfl (by decide) (by decide) ?_
  have w1 := w0.p (k := 0) (v := some 0)
  have v1 : ∀ i, i < 1 → (ρn.1, sm_up ρn.2.1 (a + 1) 0 (some 0), ρn.2.2).2.1 (a + 1) i = some i := fun i hi => by
    show sm_up ρn.2.1 (a + 1) 0 (some 0) (a + 1) i = _
    rw [sm_up_eq]
    unfold va_up
    by_cases e : i = 0
    · rw [if_pos e, e]
    · rw [if_neg e]
      exact v0 i (by omega)
  generalize (ρn.1, sm_up ρn.2.1 (a + 1) 0 (some 0), ρn.2.2) = ρw0 at *
  refine wp_dup 16 rfl dX2_init_15 rfl ?_
  refine wp_iconst (nI 1) 17 rfl dX2_init_16 (by decide) ?_
  refine wp_ldcS (i := 1) 19 rfl dX2_init_17 rfl (by decide) ?_
  refine sm_aastC 20 rfl dX2_init_19 (w1.s sN) 1 rfl (by decide) (by decide) ?_
  have w2 := w1.p (k := 1) (v := some 1)
  have v2 : ∀ i, i < 2 → (ρw0.1, sm_up ρw0.2.1 (a + 1) 1 (some 1), ρw0.2.2).2.1 (a + 1) i = some i := fun i hi => by
    show sm_up ρw0.2.1 (a + 1) 1 (some 1) (a + 1) i = _
    rw [sm_up_eq]
    unfold va_up
    by_cases e : i = 1
    · rw [if_pos e, e]
    · rw [if_neg e]
      exact v1 i (by omega)
  generalize (ρw0.1, sm_up ρw0.2.1 (a + 1) 1 (some 1), ρw0.2.2) = ρw1 at *
  refine wp_dup 21 rfl dX2_init_20 rfl ?_
  refine wp_iconst (nI 2) 22 rfl dX2_init_21 (by decide) ?_
  refine wp_ldcS (i := 2) 24 rfl dX2_init_22 rfl (by decide) ?_
  refine sm_aastC 25 rfl dX2_init_24 (w2.s sN) 2 rfl (by decide) (by decide) ?_
  have w3 := w2.p (k := 2) (v := some 2)
  have v3 : ∀ i, i < 3 → (ρw1.1, sm_up ρw1.2.1 (a + 1) 2 (some 2), ρw1.2.2).2.1 (a + 1) i = some i := fun i hi => by
    show sm_up ρw1.2.1 (a + 1) 2 (some 2) (a + 1) i = _
    rw [sm_up_eq]
    unfold va_up
    by_cases e : i = 2
    · rw [if_pos e, e]
    · rw [if_neg e]
      exact v2 i (by omega)
  generalize (ρw1.1, sm_up ρw1.2.1 (a + 1) 2 (some 2), ρw1.2.2) = ρw2 at *
  refine wp_dup 26 rfl dX2_init_25 rfl ?_
  refine wp_iconst (nI 3) 27 rfl dX2_init_26 (by decide) ?_
  refine wp_ldcS (i := 3) 29 rfl dX2_init_27 rfl (by decide) ?_
  refine sm_aastC 30 rfl dX2_init_29 (w3.s sN) 3 rfl (by decide) (by decide) ?_
  have w4 := w3.p (k := 3) (v := some 3)
  have v4 : ∀ i, i < 4 → (ρw2.1, sm_up ρw2.2.1 (a + 1) 3 (some 3), ρw2.2.2).2.1 (a + 1) i = some i := fun i hi => by
    show sm_up ρw2.2.1 (a + 1) 3 (some 3) (a + 1) i = _
    rw [sm_up_eq]
    unfold va_up
    by_cases e : i = 3
    · rw [if_pos e, e]
    · rw [if_neg e]
      exact v3 i (by omega)
  generalize (ρw2.1, sm_up ρw2.2.1 (a + 1) 3 (some 3), ρw2.2.2) = ρw3 at *
  refine wp_dup 31 rfl dX2_init_30 rfl ?_
  refine wp_iconst (nI 4) 32 rfl dX2_init_31 (by decide) ?_
  refine wp_ldcS (i := 4) 34 rfl dX2_init_32 rfl (by decide) ?_
  refine sm_aastC 35 rfl dX2_init_34 (w4.s sN) 4 rfl (by decide) (by decide) ?_
  have w5 := w4.p (k := 4) (v := some 4)
  have v5 : ∀ i, i < 5 → (ρw3.1, sm_up ρw3.2.1 (a + 1) 4 (some 4), ρw3.2.2).2.1 (a + 1) i = some i := fun i hi => by
    show sm_up ρw3.2.1 (a + 1) 4 (some 4) (a + 1) i = _
    rw [sm_up_eq]
    unfold va_up
    by_cases e : i = 4
    · rw [if_pos e, e]
    · rw [if_neg e]
      exact v4 i (by omega)
  generalize (ρw3.1, sm_up ρw3.2.1 (a + 1) 4 (some 4), ρw3.2.2) = ρw4 at *
  refine wp_dup 36 rfl dX2_init_35 rfl ?_
  refine wp_iconst (nI 5) 37 rfl dX2_init_36 (by decide) ?_
  refine wp_ldcS (i := 5) 39 rfl dX2_init_37 rfl (by decide) ?_
  refine sm_aastC 40 rfl dX2_init_39 (w5.s sN) 5 rfl (by decide) (by decide) ?_
  have w6 := w5.p (k := 5) (v := some 5)
  have v6 : ∀ i, i < 6 → (ρw4.1, sm_up ρw4.2.1 (a + 1) 5 (some 5), ρw4.2.2).2.1 (a + 1) i = some i := fun i hi => by
    show sm_up ρw4.2.1 (a + 1) 5 (some 5) (a + 1) i = _
    rw [sm_up_eq]
    unfold va_up
    by_cases e : i = 5
    · rw [if_pos e, e]
    · rw [if_neg e]
      exact v5 i (by omega)
  generalize (ρw4.1, sm_up ρw4.2.1 (a + 1) 5 (some 5), ρw4.2.2) = ρw5 at *
  refine wp_dup 41 rfl dX2_init_40 rfl ?_
  refine wp_bipush (nI 6) 43 rfl dX2_init_41 (by decide) ?_
  refine wp_ldcS (i := 6) 45 rfl dX2_init_43 rfl (by decide) ?_
  refine sm_aastC 46 rfl dX2_init_45 (w6.s sN) 6 rfl (by decide) (by decide) ?_
  have w7 := w6.p (k := 6) (v := some 6)
  have v7 : ∀ i, i < 7 → (ρw5.1, sm_up ρw5.2.1 (a + 1) 6 (some 6), ρw5.2.2).2.1 (a + 1) i = some i := fun i hi => by
    show sm_up ρw5.2.1 (a + 1) 6 (some 6) (a + 1) i = _
    rw [sm_up_eq]
    unfold va_up
    by_cases e : i = 6
    · rw [if_pos e, e]
    · rw [if_neg e]
      exact v6 i (by omega)
  generalize (ρw5.1, sm_up ρw5.2.1 (a + 1) 6 (some 6), ρw5.2.2) = ρw6 at *
  refine wp_dup 47 rfl dX2_init_46 rfl ?_
  refine wp_bipush (nI 7) 49 rfl dX2_init_47 (by decide) ?_
  refine wp_ldcS (i := 7) 51 rfl dX2_init_49 rfl (by decide) ?_
  refine sm_aastC 52 rfl dX2_init_51 (w7.s sN) 7 rfl (by decide) (by decide) ?_
  have w8 := w7.p (k := 7) (v := some 7)
  have v8 : ∀ i, i < 8 → (ρw6.1, sm_up ρw6.2.1 (a + 1) 7 (some 7), ρw6.2.2).2.1 (a + 1) i = some i := fun i hi => by
    show sm_up ρw6.2.1 (a + 1) 7 (some 7) (a + 1) i = _
    rw [sm_up_eq]
    unfold va_up
    by_cases e : i = 7
    · rw [if_pos e, e]
    · rw [if_neg e]
      exact v7 i (by omega)
  generalize (ρw6.1, sm_up ρw6.2.1 (a + 1) 7 (some 7), ρw6.2.2) = ρw7 at *
  refine wp_dup 53 rfl dX2_init_52 rfl ?_
  refine wp_bipush (nI 8) 55 rfl dX2_init_53 (by decide) ?_
  refine wp_ldcS (i := 8) 57 rfl dX2_init_55 rfl (by decide) ?_
  refine sm_aastC 58 rfl dX2_init_57 (w8.s sN) 8 rfl (by decide) (by decide) ?_
  have w9 := w8.p (k := 8) (v := some 8)
  have v9 : ∀ i, i < 9 → (ρw7.1, sm_up ρw7.2.1 (a + 1) 8 (some 8), ρw7.2.2).2.1 (a + 1) i = some i := fun i hi => by
    show sm_up ρw7.2.1 (a + 1) 8 (some 8) (a + 1) i = _
    rw [sm_up_eq]
    unfold va_up
    by_cases e : i = 8
    · rw [if_pos e, e]
    · rw [if_neg e]
      exact v8 i (by omega)
  generalize (ρw7.1, sm_up ρw7.2.1 (a + 1) 8 (some 8), ρw7.2.2) = ρw8 at *
  refine wp_dup 59 rfl dX2_init_58 rfl ?_
  refine wp_bipush (nI 9) 61 rfl dX2_init_59 (by decide) ?_
  refine wp_ldcS (i := 9) 63 rfl dX2_init_61 rfl (by decide) ?_
  refine sm_aastC 64 rfl dX2_init_63 (w9.s sN) 9 rfl (by decide) (by decide) ?_
  have w10 := w9.p (k := 9) (v := some 9)
  have v10 : ∀ i, i < 10 → (ρw8.1, sm_up ρw8.2.1 (a + 1) 9 (some 9), ρw8.2.2).2.1 (a + 1) i = some i := fun i hi => by
    show sm_up ρw8.2.1 (a + 1) 9 (some 9) (a + 1) i = _
    rw [sm_up_eq]
    unfold va_up
    by_cases e : i = 9
    · rw [if_pos e, e]
    · rw [if_neg e]
      exact v9 i (by omega)
  generalize (ρw8.1, sm_up ρw8.2.1 (a + 1) 9 (some 9), ρw8.2.2) = ρw9 at *
  refine wp_dup 65 rfl dX2_init_64 rfl ?_
  refine wp_bipush (nI 10) 67 rfl dX2_init_65 (by decide) ?_
  refine wp_ldcS (i := 10) 69 rfl dX2_init_67 rfl (by decide) ?_
  refine sm_aastC 70 rfl dX2_init_69 (w10.s sN) 10 rfl (by decide) (by decide) ?_
  have w11 := w10.p (k := 10) (v := some 10)
  have v11 : ∀ i, i < 11 → (ρw9.1, sm_up ρw9.2.1 (a + 1) 10 (some 10), ρw9.2.2).2.1 (a + 1) i = some i := fun i hi => by
    show sm_up ρw9.2.1 (a + 1) 10 (some 10) (a + 1) i = _
    rw [sm_up_eq]
    unfold va_up
    by_cases e : i = 10
    · rw [if_pos e, e]
    · rw [if_neg e]
      exact v10 i (by omega)
  generalize (ρw9.1, sm_up ρw9.2.1 (a + 1) 10 (some 10), ρw9.2.2) = ρw10 at *
  refine wp_dup 71 rfl dX2_init_70 rfl ?_
  refine wp_bipush (nI 11) 73 rfl dX2_init_71 (by decide) ?_
  refine wp_ldcS (i := 11) 75 rfl dX2_init_73 rfl (by decide) ?_
  refine sm_aastC 76 rfl dX2_init_75 (w11.s sN) 11 rfl (by decide) (by decide) ?_
  have w12 := w11.p (k := 11) (v := some 11)
  have v12 : ∀ i, i < 12 → (ρw10.1, sm_up ρw10.2.1 (a + 1) 11 (some 11), ρw10.2.2).2.1 (a + 1) i = some i := fun i hi => by
    show sm_up ρw10.2.1 (a + 1) 11 (some 11) (a + 1) i = _
    rw [sm_up_eq]
    unfold va_up
    by_cases e : i = 11
    · rw [if_pos e, e]
    · rw [if_neg e]
      exact v11 i (by omega)
  generalize (ρw10.1, sm_up ρw10.2.1 (a + 1) 11 (some 11), ρw10.2.2) = ρw11 at *
  refine wp_dup 77 rfl dX2_init_76 rfl ?_
  refine wp_bipush (nI 12) 79 rfl dX2_init_77 (by decide) ?_
  refine wp_ldcS (i := 12) 81 rfl dX2_init_79 rfl (by decide) ?_
  refine sm_aastC 82 rfl dX2_init_81 (w12.s sN) 12 rfl (by decide) (by decide) ?_
  have w13 := w12.p (k := 12) (v := some 12)
  have v13 : ∀ i, i < 13 → (ρw11.1, sm_up ρw11.2.1 (a + 1) 12 (some 12), ρw11.2.2).2.1 (a + 1) i = some i := fun i hi => by
    show sm_up ρw11.2.1 (a + 1) 12 (some 12) (a + 1) i = _
    rw [sm_up_eq]
    unfold va_up
    by_cases e : i = 12
    · rw [if_pos e, e]
    · rw [if_neg e]
      exact v12 i (by omega)
  generalize (ρw11.1, sm_up ρw11.2.1 (a + 1) 12 (some 12), ρw11.2.2) = ρw12 at *
  refine wp_dup 83 rfl dX2_init_82 rfl ?_
  refine wp_bipush (nI 13) 85 rfl dX2_init_83 (by decide) ?_
  refine wp_ldcS (i := 13) 87 rfl dX2_init_85 rfl (by decide) ?_
  refine sm_aastC 88 rfl dX2_init_87 (w13.s sN) 13 rfl (by decide) (by decide) ?_
  have w14 := w13.p (k := 13) (v := some 13)
  have v14 : ∀ i, i < 14 → (ρw12.1, sm_up ρw12.2.1 (a + 1) 13 (some 13), ρw12.2.2).2.1 (a + 1) i = some i := fun i hi => by
    show sm_up ρw12.2.1 (a + 1) 13 (some 13) (a + 1) i = _
    rw [sm_up_eq]
    unfold va_up
    by_cases e : i = 13
    · rw [if_pos e, e]
    · rw [if_neg e]
      exact v13 i (by omega)
  generalize (ρw12.1, sm_up ρw12.2.1 (a + 1) 13 (some 13), ρw12.2.2) = ρw13 at *
  refine wp_dup 89 rfl dX2_init_88 rfl ?_
  refine wp_bipush (nI 14) 91 rfl dX2_init_89 (by decide) ?_
  refine wp_ldcS (i := 14) 93 rfl dX2_init_91 rfl (by decide) ?_
  refine sm_aastC 94 rfl dX2_init_93 (w14.s sN) 14 rfl (by decide) (by decide) ?_
  have w15 := w14.p (k := 14) (v := some 14)
  have v15 : ∀ i, i < 15 → (ρw13.1, sm_up ρw13.2.1 (a + 1) 14 (some 14), ρw13.2.2).2.1 (a + 1) i = some i := fun i hi => by
    show sm_up ρw13.2.1 (a + 1) 14 (some 14) (a + 1) i = _
    rw [sm_up_eq]
    unfold va_up
    by_cases e : i = 14
    · rw [if_pos e, e]
    · rw [if_neg e]
      exact v14 i (by omega)
  generalize (ρw13.1, sm_up ρw13.2.1 (a + 1) 14 (some 14), ρw13.2.2) = ρw14 at *
  refine wp_dup 95 rfl dX2_init_94 rfl ?_
  refine wp_bipush (nI 15) 97 rfl dX2_init_95 (by decide) ?_
  refine wp_ldcS (i := 15) 99 rfl dX2_init_97 rfl (by decide) ?_
  refine sm_aastC 100 rfl dX2_init_99 (w15.s sN) 15 rfl (by decide) (by decide) ?_
  have w16 := w15.p (k := 15) (v := some 15)
  have v16 : ∀ i, i < 16 → (ρw14.1, sm_up ρw14.2.1 (a + 1) 15 (some 15), ρw14.2.2).2.1 (a + 1) i = some i := fun i hi => by
    show sm_up ρw14.2.1 (a + 1) 15 (some 15) (a + 1) i = _
    rw [sm_up_eq]
    unfold va_up
    by_cases e : i = 15
    · rw [if_pos e, e]
    · rw [if_neg e]
      exact v15 i (by omega)
  generalize (ρw14.1, sm_up ρw14.2.1 (a + 1) 15 (some 15), ρw14.2.2) = ρw15 at *
  refine wp_dup 101 rfl dX2_init_100 rfl ?_
  refine wp_bipush (nI 16) 103 rfl dX2_init_101 (by decide) ?_
  refine wp_ldcS (i := 16) 105 rfl dX2_init_103 rfl (by decide) ?_
  refine sm_aastC 106 rfl dX2_init_105 (w16.s sN) 16 rfl (by decide) (by decide) ?_
  have w17 := w16.p (k := 16) (v := some 16)
  have v17 : ∀ i, i < 17 → (ρw15.1, sm_up ρw15.2.1 (a + 1) 16 (some 16), ρw15.2.2).2.1 (a + 1) i = some i := fun i hi => by
    show sm_up ρw15.2.1 (a + 1) 16 (some 16) (a + 1) i = _
    rw [sm_up_eq]
    unfold va_up
    by_cases e : i = 16
    · rw [if_pos e, e]
    · rw [if_neg e]
      exact v16 i (by omega)
  generalize (ρw15.1, sm_up ρw15.2.1 (a + 1) 16 (some 16), ρw15.2.2) = ρw16 at *
  refine wp_dup 107 rfl dX2_init_106 rfl ?_
  refine wp_bipush (nI 17) 109 rfl dX2_init_107 (by decide) ?_
  refine wp_ldcS (i := 17) 111 rfl dX2_init_109 rfl (by decide) ?_
  refine sm_aastC 112 rfl dX2_init_111 (w17.s sN) 17 rfl (by decide) (by decide) ?_
  have w18 := w17.p (k := 17) (v := some 17)
  have v18 : ∀ i, i < 18 → (ρw16.1, sm_up ρw16.2.1 (a + 1) 17 (some 17), ρw16.2.2).2.1 (a + 1) i = some i := fun i hi => by
    show sm_up ρw16.2.1 (a + 1) 17 (some 17) (a + 1) i = _
    rw [sm_up_eq]
    unfold va_up
    by_cases e : i = 17
    · rw [if_pos e, e]
    · rw [if_neg e]
      exact v17 i (by omega)
  generalize (ρw16.1, sm_up ρw16.2.1 (a + 1) 17 (some 17), ρw16.2.2) = ρw17 at *
  refine wp_dup 113 rfl dX2_init_112 rfl ?_
  refine wp_bipush (nI 18) 115 rfl dX2_init_113 (by decide) ?_
  refine wp_ldcS (i := 18) 117 rfl dX2_init_115 rfl (by decide) ?_
  refine sm_aastC 118 rfl dX2_init_117 (w18.s sN) 18 rfl (by decide) (by decide) ?_
  have w19 := w18.p (k := 18) (v := some 18)
  have v19 : ∀ i, i < 19 → (ρw17.1, sm_up ρw17.2.1 (a + 1) 18 (some 18), ρw17.2.2).2.1 (a + 1) i = some i := fun i hi => by
    show sm_up ρw17.2.1 (a + 1) 18 (some 18) (a + 1) i = _
    rw [sm_up_eq]
    unfold va_up
    by_cases e : i = 18
    · rw [if_pos e, e]
    · rw [if_neg e]
      exact v18 i (by omega)
  generalize (ρw17.1, sm_up ρw17.2.1 (a + 1) 18 (some 18), ρw17.2.2) = ρw18 at *
  refine wp_dup 119 rfl dX2_init_118 rfl ?_
  refine wp_bipush (nI 19) 121 rfl dX2_init_119 (by decide) ?_
  refine wp_ldcS (i := 19) 123 rfl dX2_init_121 rfl (by decide) ?_
  refine sm_aastC 124 rfl dX2_init_123 (w19.s sN) 19 rfl (by decide) (by decide) ?_
  have w20 := w19.p (k := 19) (v := some 19)
  have v20 : ∀ i, i < 20 → (ρw18.1, sm_up ρw18.2.1 (a + 1) 19 (some 19), ρw18.2.2).2.1 (a + 1) i = some i := fun i hi => by
    show sm_up ρw18.2.1 (a + 1) 19 (some 19) (a + 1) i = _
    rw [sm_up_eq]
    unfold va_up
    by_cases e : i = 19
    · rw [if_pos e, e]
    · rw [if_neg e]
      exact v19 i (by omega)
  generalize (ρw18.1, sm_up ρw18.2.1 (a + 1) 19 (some 19), ρw18.2.2) = ρw19 at *
  refine wp_dup 125 rfl dX2_init_124 rfl ?_
  refine wp_bipush (nI 20) 127 rfl dX2_init_125 (by decide) ?_
  refine wp_ldcS (i := 20) 129 rfl dX2_init_127 rfl (by decide) ?_
  refine sm_aastC 130 rfl dX2_init_129 (w20.s sN) 20 rfl (by decide) (by decide) ?_
  have w21 := w20.p (k := 20) (v := some 20)
  have v21 : ∀ i, i < 21 → (ρw19.1, sm_up ρw19.2.1 (a + 1) 20 (some 20), ρw19.2.2).2.1 (a + 1) i = some i := fun i hi => by
    show sm_up ρw19.2.1 (a + 1) 20 (some 20) (a + 1) i = _
    rw [sm_up_eq]
    unfold va_up
    by_cases e : i = 20
    · rw [if_pos e, e]
    · rw [if_neg e]
      exact v20 i (by omega)
  generalize (ρw19.1, sm_up ρw19.2.1 (a + 1) 20 (some 20), ρw19.2.2) = ρw20 at *
  have fW : gF pNo pNo I ρ J0 ρw20 := fN.tr (w21.g (I := J0)) (fun _ _ z => z) (fun x hx z => by have z : x = a + 1 := z; omega)
  have sa : ρw20.2.2.1 a = (3, 0) := (fW.eS (by omega)).trans hs
  have wz : ρw20.2.2 = ρn.2.2 := w21.2.1
  refine wp_putrF 133 rfl dX2_init_130 rfl pX2_53_3 sa (fun q => ⟨rfl, rfl⟩) ?_
  obtain ⟨ρ1, hρ1⟩ : ∃ ρ1 : sm_R, ρ1 = (ρw20.1, sm_up ρw20.2.1 a 0 (some (a + 1)), ρw20.2.2) := ⟨_, rfl⟩
  have g1' : gP a [0] J0 ρw20 J0 ρ1 := by rw [hρ1]; exact gP.p
  have p1 : ρ1.2.1 a 0 = some (a + 1) := by rw [hρ1]; exact gP.at
  have sk1 : ρ1.2.2 = ρw20.2.2 := by rw [hρ1]
  show sm_V G xX2_init (d + 1) 133 [.ref a] [] J0 (ρw20.1, sm_up ρw20.2.1 a 0 (some (a + 1)), ρw20.2.2) _
  rw [← hρ1]
  clear hρ1
  have z1 : ρ1.2.2.2.1 = ρ.2.2.2.1 + 1 := by rw [sk1, wz]; exact zn1
  have y1 : ρ1.2.2.2.2 = ρ.2.2.2.2 + 21 := by rw [sk1, wz]; exact zn2
  have zw : ρw20.2.2.2.1 = ρ.2.2.2.1 + 1 := by rw [wz]; exact zn1
  have o1' : ρ1.2.2.1 a = (3, 0) := by rw [sk1]; exact sa
  refine wp_aload0 134 rfl dX2_init_133 ?_
  refine wp_sipush (nI 2000) 137 rfl dX2_init_134 (by decide) ?_
  refine wp_gA (t := 1) (N := 2000) (n := a + 2) 139 142 rfl rfl dX2_init_137 dX2_init_139 rfl rfl (by decide) q234 rfl (by decide) rfl pX2_59_3 o1' (fun q => ⟨rfl, rfl⟩) (by omega) (by omega) (fun I2 ρ2 h => ?_)
  obtain ⟨g2, ⟨z2, y2⟩, s2, -, p2⟩ := h
  have o2' := (g2.eS (x := a) (by omega)).trans o1'
  refine wp_aload0 143 rfl dX2_init_142 ?_
  refine wp_sipush (nI 2001) 146 rfl dX2_init_143 (by decide) ?_
  refine wp_gA (t := 1) (N := 2001) (n := a + 3) 148 151 rfl rfl dX2_init_146 dX2_init_148 rfl rfl (by decide) q234 rfl (by decide) rfl pX2_63_3 o2' (fun q => ⟨rfl, rfl⟩) (by omega) (by omega) (fun I3 ρ3 h => ?_)
  obtain ⟨g3, ⟨z3, y3⟩, s3, -, p3⟩ := h
  have o3' := (g3.eS (x := a) (by omega)).trans o2'
  refine wp_aload0 152 rfl dX2_init_151 ?_
  refine wp_sipush (nI 2001) 155 rfl dX2_init_152 (by decide) ?_
  refine wp_gA (t := 2) (N := 2001) (n := a + 4) 157 160 rfl rfl dX2_init_155 dX2_init_157 rfl rfl (by decide) q294 rfl (by decide) rfl pX2_66_3 o3' (fun q => ⟨rfl, rfl⟩) (by omega) (by omega) (fun I4 ρ4 h => ?_)
  obtain ⟨g4, ⟨z4, y4⟩, s4, -, p4⟩ := h
  have o4' := (g4.eS (x := a) (by omega)).trans o3'
  refine wp_aload0 161 rfl dX2_init_160 ?_
  refine wp_sipush (nI 2001) 164 rfl dX2_init_161 (by decide) ?_
  refine wp_gA (t := 2) (N := 2001) (n := a + 5) 166 169 rfl rfl dX2_init_164 dX2_init_166 rfl rfl (by decide) q294 rfl (by decide) rfl pX2_70_3 o4' (fun q => ⟨rfl, rfl⟩) (by omega) (by omega) (fun I5 ρ5 h => ?_)
  obtain ⟨g5, ⟨z5, y5⟩, s5, -, p5⟩ := h
  have o5' := (g5.eS (x := a) (by omega)).trans o4'
  refine wp_aload0 170 rfl dX2_init_169 ?_
  refine wp_sipush (nI 2001) 173 rfl dX2_init_170 (by decide) ?_
  refine wp_gA (t := 2) (N := 2001) (n := a + 6) 175 178 rfl rfl dX2_init_173 dX2_init_175 rfl rfl (by decide) q294 rfl (by decide) rfl pX2_73_3 o5' (fun q => ⟨rfl, rfl⟩) (by omega) (by omega) (fun I6 ρ6 h => ?_)
  obtain ⟨g6, ⟨z6, y6⟩, s6, -, p6⟩ := h
  have o6' := (g6.eS (x := a) (by omega)).trans o5'
  refine wp_vret dX2_init_178 rfl ?_
  have F5 := g6
  have F4 := g5.tr F5
  have F3 := g4.tr F4
  have F2 := g3.tr F3
  have F1 := g2.tr F2
  have F0 := g1'.tr F1
  have FW := (gP.of (K := []) (a := a) fW (by omega)).tr F0
  refine ⟨rfl, ⟨by omega, by omega⟩, FW.1, ⟨(F1.2 0 (by decide)).trans p1, (F2.2 1 (by decide)).trans p2, (F3.2 3 (by decide)).trans p3, (F4.2 4 (by decide)).trans p4, (F5.2 5 (by decide)).trans p5, p6⟩, ⟨(F0.eS (by omega)).trans (w21.s sN), fun j hj => ?_⟩, (F2.eS (by omega)).trans s2, (F3.eS (by omega)).trans s3, (F4.eS (by omega)).trans s4, (F5.eS (by omega)).trans s5, s6⟩
  rw [F0.eP (by omega) (by omega)]
  exact v21 j hj
end K2

