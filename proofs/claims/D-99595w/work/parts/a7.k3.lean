/-! ===== the component's constructor (printed by gen_k3.py) ===== -/
set_option maxRecDepth 100000
theorem td.f {A B : Nat → Prop} {I I1 : sm_I} {ρ ρ1 : sm_R} {b : Nat} (h : td ρ b) (g : gF A B I ρ I1 ρ1) (hb : b + 16 ≤ ρ.2.2.2.1 + 64) (hB : ∀ x, b ≤ x → x < b + 16 → ¬ B x) : td ρ1 b := by
  have hs : ∀ a, b ≤ a → a < b + 16 → ρ1.2.2.1 a = ρ.2.2.1 a := fun a h1 h2 => g.eS (by omega)
  have hp : ∀ a, b ≤ a → a < b + 16 → ρ1.2.1 a = ρ.2.1 a := fun a h1 h2 => g.eP (by omega) (hB a h1 h2)
  exact ⟨(hs _ (by omega) (by omega)).trans (o6 h),
    (congrFun (hp _ (by omega) (by omega)) _).trans (p6_0 h),
    (congrFun (hp _ (by omega) (by omega)) _).trans (p6_1 h),
    (congrFun (hp _ (by omega) (by omega)) _).trans (p6_2 h),
    (congrFun (hp _ (by omega) (by omega)) _).trans (p6_3 h),
    (congrFun (hp _ (by omega) (by omega)) _).trans (p6_4 h),
    (congrFun (hp _ (by omega) (by omega)) _).trans (p6_5 h),
    (congrFun (hp _ (by omega) (by omega)) _).trans (p6_10 h),
    (congrFun (hp _ (by omega) (by omega)) _).trans (p6_11 h),
    (hs _ (by omega) (by omega)).trans (s6_0 h),
    fun j hj => (congrFun (hp _ (by omega) (by omega)) _).trans (e6_0 h hj),
    fun j hj => (hs _ (by omega) (by omega)).trans (i6_0 h hj),
    (hs _ (by omega) (by omega)).trans (s6_1 h),
    (hs _ (by omega) (by omega)).trans (s6_2 h),
    (hs _ (by omega) (by omega)).trans (s6_3 h),
    (hs _ (by omega) (by omega)).trans (s6_4 h),
    (hs _ (by omega) (by omega)).trans (s6_5 h),
    (hs _ (by omega) (by omega)).trans (s6_10 h),
    (hs _ (by omega) (by omega)).trans (o7 h),
    (congrFun (hp _ (by omega) (by omega)) _).trans (p7_0 h),
    (hs _ (by omega) (by omega)).trans (s7_0 h)⟩
theorem x0F.f {I I1 : sm_I} {ρ ρ1 : sm_R} {a : Nat} (h : x0F I ρ a) (e : ∀ x, a ≤ x → x ≤ a + 4 → I1 x = I x ∧ ρ1.2.1 x = ρ.2.1 x ∧ ρ1.2.2.1 x = ρ.2.2.1 x) : x0F I1 ρ1 a := by
  unfold x0F at *
  obtain ⟨a0, b0, c0⟩ := e a (by omega) (by omega)
  obtain ⟨a1, b1, c1⟩ := e (a + 1) (by omega) (by omega)
  obtain ⟨a2, b2, c2⟩ := e (a + 2) (by omega) (by omega)
  obtain ⟨a3, b3, c3⟩ := e (a + 3) (by omega) (by omega)
  obtain ⟨a4, b4, c4⟩ := e (a + 4) (by omega) (by omega)
  rw [a0, b0, c0, a1, b1, c1, a2, b2, c2, a3, b3, c3, b4, c4]
  exact h
section K3
variable {G : sm_G} {d : Nat} {I : sm_I} {ρ : sm_R} {Q : sm_O → sm_I → sm_R → Prop}
/-- a town is made and laid into an array -/
theorem ka_town {p arr M j n : Nat} {lv st : List Value} (p1 p2 p3 p4 : Nat) (h1 : p + 3 = p1) (h2 : p1 + 1 = p2) (h3 : p2 + 3 = p3) (h4 : p3 + 1 = p4) (d1 : decode xX0_init.2.1 p = .ok (.new 59, 3)) (d2 : decode xX0_init.2.1 p1 = .ok (.dup, 1)) (d3 : decode xX0_init.2.1 p2 = .ok (.invokespecial 61, 3)) (d4 : decode xX0_init.2.1 p3 = .ok (.aastore, 1)) (hs : ρ.2.2.1 arr = (107, M)) (hj : j < M) (hM : M < 1000) (hn : ρ.2.2.2.1 + 64 = n) (ha : arr < n) (hrs : (st.map fun v => v.category).sum ≤ 4)
    (kk : ∀ I1 ρ1, gP arr [j] I ρ I1 ρ1 → (ρ1.2.2.2.1 = ρ.2.2.2.1 + 16 ∧ ρ1.2.2.2.2 = ρ.2.2.2.2 + 86) → td ρ1 n → ρ1.2.1 arr j = some n → sm_V G xX0_init (d + 10) p4 lv st I1 ρ1 Q) : sm_V G xX0_init (d + 10) p lv (.int (nI j) :: .ref arr :: st) I ρ Q := by
  have fN : gF pNo pNo I ρ (sm_zI I (ρ.2.2.2.1 + 64)) (sm_nR ρ 6 0 12) := gF.nw _ _ _
  have sN : (sm_nR ρ 6 0 12).2.2.1 n = (6, 0) := by rw [← hn]; exact sm_nR_at
  have zN : (sm_nR ρ 6 0 12).2.2.2.1 = ρ.2.2.2.1 + 1 ∧ (sm_nR ρ 6 0 12).2.2.2.2 = ρ.2.2.2.2 + 12 := ⟨rfl, rfl⟩
  rw [hn] at fN
  refine wp_new p1 h1 d1 nX0_59 n hn ?_
  refine wp_dup p2 h2 d2 rfl ?_
  generalize sm_nR ρ 6 0 12 = ρn at *
  generalize sm_zI I n = Jn at *
  obtain ⟨zn, yn⟩ := zN
  refine wp_INv0 p3 h3 d3 kX5_init lX0_61 rfl (nl rfl) (by show 1 + (1 + (1 + (st.map fun v => v.category).sum)) ≤ 8; omega) (s_twinit sN (by omega)) (fun J1 ρ1 h => ?_)
  obtain ⟨⟨zb, yb⟩, gb, tb⟩ := h
  have f1 : gF pNo pNo I ρ J1 ρ1 := fN.tr gb (fun _ _ z => z) (fun x hx z => by have z : x = n := z; omega)
  have sa : ρ1.2.2.1 arr = (107, M) := (f1.eS (by omega)).trans hs
  refine wp_aast (t := 7) p4 h4 d4 (by decide) rfl sa j rfl ⟨hj, by omega⟩ (o6 tb) ⟨_, _, _, rfl, by decide, by decide, Or.inl rfl⟩ ?_
  refine kk _ _ ((gP.of (K := []) f1 (by omega)).tr gP.p) ⟨by show ρ1.2.2.2.1 = _; omega, by show ρ1.2.2.2.2 = _; omega⟩ (tb.f (gF.p (A := pNo) (I := J1)) (by omega) (fun x h1 h2 z => by have z : x = arr := z; omega)) gP.at
set_option maxHeartbeats 4000000 in
/-- the component is made -/
theorem s_k0 (hs : ρ.2.2.1 64 = (1, 0)) (hn : ρ.2.2.2.1 = 1) (hz : I 64 = fun _ => 0) : sm_M G xX0_init (d + 10) [.ref 64] I ρ (sm_Qv (fun I1 ρ1 => (ρ1.2.2.2.1 = 834 ∧ ρ1.2.2.2.2 ≤ ρ.2.2.2.2 + 20000) ∧ ∃ q, cZ I1 ρ1 74 q y_0)) := by
  show sm_V G xX0_init (d + 10) 0 [.ref 64, .retAddr 0] [] I ρ _
  obtain ⟨ρ0, e0⟩ : ∃ ρ0, ρ = ρ0 := ⟨_, rfl⟩
  obtain ⟨I0, i0⟩ : ∃ I0, I = I0 := ⟨_, rfl⟩
  rw [e0] at hs hn ⊢
  rw [i0] at hz ⊢
  clear e0 i0
  have c0 := hs
  have z0 := hn
  refine wp_aload0 1 rfl dX0_init_0 ?_
  refine wp_objInit 4 rfl dX0_init_1 q158 (nl rfl) ?_
  refine wp_aload0 5 rfl dX0_init_4 ?_
  have fN1 : gF pNo pNo I0 ρ0 (sm_zI I0 (ρ0.2.2.2.1 + 64)) (sm_nR ρ0 2 0 8) := gF.nw _ _ _
  have en1 : ρ0.2.2.2.1 + 64 = 65 := by omega
  have sN1 : (sm_nR ρ0 2 0 8).2.2.1 65 = (2, 0) := by rw [← en1]; exact sm_nR_at
  have zN1 : (sm_nR ρ0 2 0 8).2.2.2.1 = ρ0.2.2.2.1 + 1 ∧ (sm_nR ρ0 2 0 8).2.2.2.2 = ρ0.2.2.2.2 + 8 := ⟨rfl, rfl⟩
  have iN1 : sm_zI I0 65 65 = fun _ => 0 := sm_zI_eq _ _
  rw [en1] at fN1
  refine wp_new 8 rfl dX0_init_5 nX0_25 65 en1 ?_
  refine wp_dup 9 rfl dX0_init_8 rfl ?_
  generalize sm_nR ρ0 2 0 8 = ρn1 at *
  generalize sm_zI I0 65 = Jn1 at *
  obtain ⟨zn1, yn1⟩ := zN1
  refine wp_Iv0 12 rfl dX0_init_9 kX1_init lX0_27 rfl (nl rfl) (nl rfl) (s_ftinit sN1) (fun I1 ρb1 h => ?_)
  obtain ⟨e, w1⟩ := h
  subst e
  have wz1 : ρb1.2.2 = ρn1.2.2 := w1.2.1
  have zb1 : ρb1.2.2.2.1 = ρn1.2.2.2.1 := by rw [wz1]
  have yb1 : ρb1.2.2.2.2 = ρn1.2.2.2.2 := by rw [wz1]
  have s1 : ρb1.2.2.1 65 = (2, 0) := w1.s sN1
  have f1 : gF pNo pNo I0 ρ0 I1 ρb1 := fN1.tr (w1.g (I := I1)) (fun x hx z => by first | exact z | (have z : x = 65 := z; omega)) (fun x hx z => by have z : x = 65 := z; omega)
  have cb1 : ρb1.2.2.1 64 = (1, 0) := (f1.eS (by omega)).trans c0
  refine wp_putrF 15 rfl dX0_init_12 rfl pX0_28_1 cb1 (fun q => ⟨rfl, rfl⟩) ?_
  obtain ⟨ρ1, hρ⟩ : ∃ ρ1 : sm_R, ρ1 = (ρb1.1, sm_up ρb1.2.1 64 0 (some 65), ρb1.2.2) := ⟨_, rfl⟩
  have gl1 : gP 64 [0] I1 ρb1 I1 ρ1 := by rw [hρ]; exact gP.p
  have p1 : ρ1.2.1 64 0 = some 65 := by rw [hρ]; exact gP.at
  have sk1 : ρ1.2.2 = ρb1.2.2 := by rw [hρ]
  show sm_V G xX0_init (d + 10) 15 [.ref 64, .retAddr 0] [] I1 (ρb1.1, sm_up ρb1.2.1 64 0 (some 65), ρb1.2.2) _
  rw [← hρ]
  clear hρ
  have g1 : gP 64 ([] ++ [0]) I0 ρ0 I1 ρ1 := (gP.of (K := []) f1 (by omega)).tr gl1
  have zv1 : ρb1.2.2.2.1 = 2 := by omega
  have z1 : ρ1.2.2.2.1 = 2 := by rw [sk1]; exact zv1
  have y1 : ρ1.2.2.2.2 = ρ0.2.2.2.2 + 8 := by rw [sk1]; omega
  have c1 : ρ1.2.2.1 64 = (1, 0) := by rw [sk1]; exact cb1
  clear zn1 yn1 en1 zb1 yb1
  refine wp_aload0 16 rfl dX0_init_15 ?_
  have fN2 : gF pNo pNo I1 ρ1 (sm_zI I1 (ρ1.2.2.2.1 + 64)) (sm_nR ρ1 3 0 8) := gF.nw _ _ _
  have en2 : ρ1.2.2.2.1 + 64 = 66 := by omega
  have sN2 : (sm_nR ρ1 3 0 8).2.2.1 66 = (3, 0) := by rw [← en2]; exact sm_nR_at
  have zN2 : (sm_nR ρ1 3 0 8).2.2.2.1 = ρ1.2.2.2.1 + 1 ∧ (sm_nR ρ1 3 0 8).2.2.2.2 = ρ1.2.2.2.2 + 8 := ⟨rfl, rfl⟩
  have iN2 : sm_zI I1 66 66 = fun _ => 0 := sm_zI_eq _ _
  rw [en2] at fN2
  refine wp_new 19 rfl dX0_init_16 nX0_32 66 en2 ?_
  refine wp_dup 20 rfl dX0_init_19 rfl ?_
  generalize sm_nR ρ1 3 0 8 = ρn2 at *
  generalize sm_zI I1 66 = Jn2 at *
  obtain ⟨zn2, yn2⟩ := zN2
  refine wp_INv0 23 rfl dX0_init_20 kX2_init lX0_34 rfl (nl rfl) (nl rfl) (s_tkinit sN2 (by omega)) (fun I2 ρb2 h => ?_)
  obtain ⟨⟨zb2, yb2⟩, gb2, ⟨a20, a21, a23, a24, a25, a26⟩, ⟨b20, b21⟩, b22, b23, b24, b25, b26⟩ := h
  have s2 : ρb2.2.2.1 66 = (3, 0) := (gb2.eS (by omega)).trans sN2
  have iz2 : I2 66 = fun _ => 0 := (gb2.eI (by omega) (fun z => z)).trans iN2
  have f2 : gF pNo pNo I1 ρ1 I2 ρb2 := fN2.tr gb2 (fun x hx z => by first | exact z | (have z : x = 66 := z; omega)) (fun x hx z => by have z : x = 66 := z; omega)
  have cb2 : ρb2.2.2.1 64 = (1, 0) := (f2.eS (by omega)).trans c1
  refine wp_putrF 26 rfl dX0_init_23 rfl pX0_35_1 cb2 (fun q => ⟨rfl, rfl⟩) ?_
  obtain ⟨ρ2, hρ⟩ : ∃ ρ2 : sm_R, ρ2 = (ρb2.1, sm_up ρb2.2.1 64 1 (some 66), ρb2.2.2) := ⟨_, rfl⟩
  have gl2 : gP 64 [1] I2 ρb2 I2 ρ2 := by rw [hρ]; exact gP.p
  have p2 : ρ2.2.1 64 1 = some 66 := by rw [hρ]; exact gP.at
  have sk2 : ρ2.2.2 = ρb2.2.2 := by rw [hρ]
  show sm_V G xX0_init (d + 10) 26 [.ref 64, .retAddr 0] [] I2 (ρb2.1, sm_up ρb2.2.1 64 1 (some 66), ρb2.2.2) _
  rw [← hρ]
  clear hρ
  have g2 : gP 64 ([] ++ [1]) I1 ρ1 I2 ρ2 := (gP.of (K := []) f2 (by omega)).tr gl2
  have zv2 : ρb2.2.2.2.1 = 9 := by omega
  have z2 : ρ2.2.2.2.1 = 9 := by rw [sk2]; exact zv2
  have y2 : ρ2.2.2.2.2 = ρ0.2.2.2.2 + 10041 := by rw [sk2]; omega
  have c2 : ρ2.2.2.1 64 = (1, 0) := by rw [sk2]; exact cb2
  clear zn2 yn2 en2 zb2 yb2 y1
  refine wp_aload0 27 rfl dX0_init_26 ?_
  have fN3 : gF pNo pNo I2 ρ2 (sm_zI I2 (ρ2.2.2.2.1 + 64)) (sm_nR ρ2 4 0 7) := gF.nw _ _ _
  have en3 : ρ2.2.2.2.1 + 64 = 73 := by omega
  have sN3 : (sm_nR ρ2 4 0 7).2.2.1 73 = (4, 0) := by rw [← en3]; exact sm_nR_at
  have zN3 : (sm_nR ρ2 4 0 7).2.2.2.1 = ρ2.2.2.2.1 + 1 ∧ (sm_nR ρ2 4 0 7).2.2.2.2 = ρ2.2.2.2.2 + 7 := ⟨rfl, rfl⟩
  have iN3 : sm_zI I2 73 73 = fun _ => 0 := sm_zI_eq _ _
  rw [en3] at fN3
  refine wp_new 30 rfl dX0_init_27 nX0_39 73 en3 ?_
  refine wp_dup 31 rfl dX0_init_30 rfl ?_
  generalize sm_nR ρ2 4 0 7 = ρn3 at *
  generalize sm_zI I2 73 = Jn3 at *
  obtain ⟨zn3, yn3⟩ := zN3
  have q30 : ρn3.2.1 64 1 = some 66 := by rw [fN3.eP (by omega) (fun z => z)]; exact p2
  have q31 : ρn3.2.1 64 0 = some 65 := by rw [fN3.eP (by omega) (fun z => z), g2.2 0 (by decide)]; exact p1
  have q32 : ρn3.2.2.1 64 = (1, 0) := (fN3.eS (by omega)).trans c2
  refine wp_aload0 32 rfl dX0_init_31 ?_
  refine wp_getr 35 rfl dX0_init_32 fX0_35_1 q32 q30 ?_
  refine wp_aload0 36 rfl dX0_init_35 ?_
  refine wp_getr 39 rfl dX0_init_36 fX0_28_1 q32 q31 ?_
  refine wp_Ie2 42 rfl dX0_init_39 kX3_init lX0_41 rfl (nl rfl) (nl rfl) (s_prinit sN3) ?_
  have gb3 : gF pNo (fun x => x = 73) Jn3 ρn3 Jn3 (ρn3.1, sm_up (sm_up ρn3.2.1 73 0 (some 66)) 73 1 (some 65), ρn3.2.2) := (gF.p (A := pNo)).tr (gF.p (A := pNo)) (fun _ _ z => z) (fun _ _ z => z)
  have a30 : (ρn3.1, sm_up (sm_up ρn3.2.1 73 0 (some 66)) 73 1 (some 65), ρn3.2.2).2.1 73 0 = some 66 := by
    show sm_up (sm_up ρn3.2.1 73 0 (some 66)) 73 1 (some 65) 73 0 = _
    rw [sm_up_eq, sm_up_eq]
    rfl
  have a31 : (ρn3.1, sm_up (sm_up ρn3.2.1 73 0 (some 66)) 73 1 (some 65), ρn3.2.2).2.1 73 1 = some 65 := by
    show sm_up (sm_up ρn3.2.1 73 0 (some 66)) 73 1 (some 65) 73 1 = _
    rw [sm_up_eq]
    rfl
  have zb3 : (ρn3.1, sm_up (sm_up ρn3.2.1 73 0 (some 66)) 73 1 (some 65), ρn3.2.2).2.2 = ρn3.2.2 := rfl
  show sm_V G xX0_init (d + 10) 42 [.ref 64, .retAddr 0] [.ref 73, .ref 64] Jn3 (ρn3.1, sm_up (sm_up ρn3.2.1 73 0 (some 66)) 73 1 (some 65), ρn3.2.2) _
  generalize (ρn3.1, sm_up (sm_up ρn3.2.1 73 0 (some 66)) 73 1 (some 65), ρn3.2.2) = ρb3 at *
  have s3 : ρb3.2.2.1 73 = (4, 0) := (gb3.eS (by omega)).trans sN3
  have zc3 : ρb3.2.2.2.1 = ρn3.2.2.2.1 := by rw [zb3]
  have yc3 : ρb3.2.2.2.2 = ρn3.2.2.2.2 := by rw [zb3]
  obtain ⟨I3, hI3⟩ : ∃ I3, I3 = Jn3 := ⟨_, rfl⟩
  subst hI3
  have f3 : gF pNo pNo I2 ρ2 I3 ρb3 := fN3.tr gb3 (fun x hx z => z) (fun x hx z => by have z : x = 73 := z; omega)
  have cb3 : ρb3.2.2.1 64 = (1, 0) := (f3.eS (by omega)).trans c2
  refine wp_putrF 45 rfl dX0_init_42 rfl pX0_44_1 cb3 (fun q => ⟨rfl, rfl⟩) ?_
  obtain ⟨ρ3, hρ⟩ : ∃ ρ3 : sm_R, ρ3 = (ρb3.1, sm_up ρb3.2.1 64 2 (some 73), ρb3.2.2) := ⟨_, rfl⟩
  have gl3 : gP 64 [2] I3 ρb3 I3 ρ3 := by rw [hρ]; exact gP.p
  have p3 : ρ3.2.1 64 2 = some 73 := by rw [hρ]; exact gP.at
  have sk3 : ρ3.2.2 = ρb3.2.2 := by rw [hρ]
  show sm_V G xX0_init (d + 10) 45 [.ref 64, .retAddr 0] [] I3 (ρb3.1, sm_up ρb3.2.1 64 2 (some 73), ρb3.2.2) _
  rw [← hρ]
  clear hρ
  have g3 : gP 64 ([] ++ [2]) I2 ρ2 I3 ρ3 := (gP.of (K := []) f3 (by omega)).tr gl3
  have zv3 : ρb3.2.2.2.1 = 10 := by omega
  have z3 : ρ3.2.2.2.1 = 10 := by rw [sk3]; exact zv3
  have y3 : ρ3.2.2.2.2 = ρ0.2.2.2.2 + 10048 := by rw [sk3]; omega
  have c3 : ρ3.2.2.1 64 = (1, 0) := by rw [sk3]; exact cb3
  clear zn3 yn3 en3 zc3 yc3 y2
  refine wp_aload0 46 rfl dX0_init_45 ?_
  have fN4 : gF pNo pNo I3 ρ3 (sm_zI I3 (ρ3.2.2.2.1 + 64)) (sm_nR ρ3 5 0 7) := gF.nw _ _ _
  have en4 : ρ3.2.2.2.1 + 64 = 74 := by omega
  have sN4 : (sm_nR ρ3 5 0 7).2.2.1 74 = (5, 0) := by rw [← en4]; exact sm_nR_at
  have zN4 : (sm_nR ρ3 5 0 7).2.2.2.1 = ρ3.2.2.2.1 + 1 ∧ (sm_nR ρ3 5 0 7).2.2.2.2 = ρ3.2.2.2.2 + 7 := ⟨rfl, rfl⟩
  have iN4 : sm_zI I3 74 74 = fun _ => 0 := sm_zI_eq _ _
  rw [en4] at fN4
  refine wp_new 49 rfl dX0_init_46 nX0_48 74 en4 ?_
  refine wp_dup 50 rfl dX0_init_49 rfl ?_
  generalize sm_nR ρ3 5 0 7 = ρn4 at *
  generalize sm_zI I3 74 = Jn4 at *
  obtain ⟨zn4, yn4⟩ := zN4
  refine wp_INv0 53 rfl dX0_init_50 kX4_init lX0_50 rfl (nl rfl) (nl rfl) (s_xinit sN4 (by omega) iN4) (fun I4 ρb4 h => ?_)
  obtain ⟨⟨zb4, yb4⟩, gb4, hx4⟩ := h
  have f4 : gF pNo pNo I3 ρ3 I4 ρb4 := fN4.tr gb4 (fun x hx z => by first | exact z | (have z : x = 74 := z; omega)) (fun x hx z => by have z : x = 74 := z; omega)
  have cb4 : ρb4.2.2.1 64 = (1, 0) := (f4.eS (by omega)).trans c3
  refine wp_putr 56 rfl dX0_init_53 pX0_51_1 cb4 (fun q => ⟨rfl, rfl⟩) ?_
  obtain ⟨ρ4, hρ⟩ : ∃ ρ4 : sm_R, ρ4 = (ρb4.1, sm_up ρb4.2.1 64 3 (some 74), ρb4.2.2) := ⟨_, rfl⟩
  have gl4 : gP 64 [3] I4 ρb4 I4 ρ4 := by rw [hρ]; exact gP.p
  have p4 : ρ4.2.1 64 3 = some 74 := by rw [hρ]; exact gP.at
  have sk4 : ρ4.2.2 = ρb4.2.2 := by rw [hρ]
  show sm_V G xX0_init (d + 10) 56 [.ref 64, .retAddr 0] [] I4 (ρb4.1, sm_up ρb4.2.1 64 3 (some 74), ρb4.2.2) _
  rw [← hρ]
  clear hρ
  have g4 : gP 64 ([] ++ [3]) I3 ρ3 I4 ρ4 := (gP.of (K := []) f4 (by omega)).tr gl4
  have zv4 : ρb4.2.2.2.1 = 15 := by omega
  have z4 : ρ4.2.2.2.1 = 15 := by rw [sk4]; exact zv4
  have y4 : ρ4.2.2.2.2 = ρ0.2.2.2.2 + 10067 := by rw [sk4]; omega
  have c4 : ρ4.2.2.1 64 = (1, 0) := by rw [sk4]; exact cb4
  clear zn4 yn4 en4 zb4 yb4 y3
  have E3' := gl3.tr g4
  have E2' := gl2.tr (g3.tr g4)
  have E1' := gl1.tr (g2.tr (g3.tr g4))
  have iz0 : I4 64 = fun _ => 0 := by rw [g4.eI (by omega), g3.eI (by omega), g2.eI (by omega), g1.eI (by omega)]; exact hz
  have iz2' : I4 66 = fun _ => 0 := by rw [g4.eI (by omega), g3.eI (by omega)]; exact iz2
  have hx4' : x0F I4 ρ4 74 := hx4.f (fun x h1 h2 => ⟨rfl, gl4.eP (by omega) (by omega), gl4.eS (by omega)⟩)
  refine wp_aload0 57 rfl dX0_init_56 ?_
  refine wp_iconst (-1) 58 rfl dX0_init_57 rfl ?_
  refine wp_puti 61 rfl dX0_init_58 pX0_55_1 c4 ⟨rfl, rfl⟩ ?_
  obtain ⟨L4, hL4⟩ : ∃ L4, L4 = sm_u I4 64 4 (-1) := ⟨_, rfl⟩
  rw [← hL4]
  have il4 : L4 64 4 = -1 := by rw [hL4, sm_u_eq, pk_us]
  have il64 : ∀ k, ¬ k = 4 → L4 64 k = 0 := fun k hk => by rw [hL4, sm_u_eq, pk_un hk, iz0]
  have iln : ∀ a, ¬ a = 64 → L4 a = I4 a := fun a ha => by rw [hL4, sm_u_ne _ _ _ ha]
  clear hL4
  refine wp_aload0 62 rfl dX0_init_61 ?_
  have fN5 : gF pNo pNo L4 ρ4 (sm_zI L4 (ρ4.2.2.2.1 + 64)) (sm_nR ρ4 6 0 12) := gF.nw _ _ _
  have en5 : ρ4.2.2.2.1 + 64 = 79 := by omega
  have sN5 : (sm_nR ρ4 6 0 12).2.2.1 79 = (6, 0) := by rw [← en5]; exact sm_nR_at
  have zN5 : (sm_nR ρ4 6 0 12).2.2.2.1 = ρ4.2.2.2.1 + 1 ∧ (sm_nR ρ4 6 0 12).2.2.2.2 = ρ4.2.2.2.2 + 12 := ⟨rfl, rfl⟩
  have iN5 : sm_zI L4 79 79 = fun _ => 0 := sm_zI_eq _ _
  rw [en5] at fN5
  refine wp_new 65 rfl dX0_init_62 nX0_59 79 en5 ?_
  refine wp_dup 66 rfl dX0_init_65 rfl ?_
  generalize sm_nR ρ4 6 0 12 = ρn5 at *
  generalize sm_zI L4 79 = Jn5 at *
  obtain ⟨zn5, yn5⟩ := zN5
  refine wp_INv0 69 rfl dX0_init_66 kX5_init lX0_61 rfl (nl rfl) (nl rfl) (s_twinit sN5 (by omega)) (fun I5 ρb5 h => ?_)
  obtain ⟨⟨zb5, yb5⟩, gb5, t5⟩ := h
  have f5 : gF pNo pNo L4 ρ4 I5 ρb5 := fN5.tr gb5 (fun x hx z => by first | exact z | (have z : x = 79 := z; omega)) (fun x hx z => by have z : x = 79 := z; omega)
  have cb5 : ρb5.2.2.1 64 = (1, 0) := (f5.eS (by omega)).trans c4
  refine wp_putrF 72 rfl dX0_init_69 rfl pX0_62_1 cb5 (fun q => ⟨rfl, rfl⟩) ?_
  obtain ⟨ρ5, hρ⟩ : ∃ ρ5 : sm_R, ρ5 = (ρb5.1, sm_up ρb5.2.1 64 7 (some 79), ρb5.2.2) := ⟨_, rfl⟩
  have gl5 : gP 64 [7] I5 ρb5 I5 ρ5 := by rw [hρ]; exact gP.p
  have p5 : ρ5.2.1 64 7 = some 79 := by rw [hρ]; exact gP.at
  have sk5 : ρ5.2.2 = ρb5.2.2 := by rw [hρ]
  show sm_V G xX0_init (d + 10) 72 [.ref 64, .retAddr 0] [] I5 (ρb5.1, sm_up ρb5.2.1 64 7 (some 79), ρb5.2.2) _
  rw [← hρ]
  clear hρ
  have g5 : gP 64 ([] ++ [7]) L4 ρ4 I5 ρ5 := (gP.of (K := []) f5 (by omega)).tr gl5
  have zv5 : ρb5.2.2.2.1 = 31 := by omega
  have z5 : ρ5.2.2.2.1 = 31 := by rw [sk5]; exact zv5
  have y5 : ρ5.2.2.2.2 = ρ0.2.2.2.2 + 10153 := by rw [sk5]; omega
  have c5 : ρ5.2.2.1 64 = (1, 0) := by rw [sk5]; exact cb5
  clear zn5 yn5 en5 zb5 yb5 y4
  have td5 : td ρ5 79 := t5.f gl5.1 (by omega) (fun x h1 h2 z => by have z : x = 64 := z; omega)
  refine wp_aload0 73 rfl dX0_init_72 ?_
  have fN6 : gF pNo pNo I5 ρ5 (sm_zI I5 (ρ5.2.2.2.1 + 64)) (sm_nR ρ5 6 0 12) := gF.nw _ _ _
  have en6 : ρ5.2.2.2.1 + 64 = 95 := by omega
  have sN6 : (sm_nR ρ5 6 0 12).2.2.1 95 = (6, 0) := by rw [← en6]; exact sm_nR_at
  have zN6 : (sm_nR ρ5 6 0 12).2.2.2.1 = ρ5.2.2.2.1 + 1 ∧ (sm_nR ρ5 6 0 12).2.2.2.2 = ρ5.2.2.2.2 + 12 := ⟨rfl, rfl⟩
  have iN6 : sm_zI I5 95 95 = fun _ => 0 := sm_zI_eq _ _
  rw [en6] at fN6
  refine wp_new 76 rfl dX0_init_73 nX0_59 95 en6 ?_
  refine wp_dup 77 rfl dX0_init_76 rfl ?_
  generalize sm_nR ρ5 6 0 12 = ρn6 at *
  generalize sm_zI I5 95 = Jn6 at *
  obtain ⟨zn6, yn6⟩ := zN6
  refine wp_INv0 80 rfl dX0_init_77 kX5_init lX0_61 rfl (nl rfl) (nl rfl) (s_twinit sN6 (by omega)) (fun I6 ρb6 h => ?_)
  obtain ⟨⟨zb6, yb6⟩, gb6, t6⟩ := h
  have f6 : gF pNo pNo I5 ρ5 I6 ρb6 := fN6.tr gb6 (fun x hx z => by first | exact z | (have z : x = 95 := z; omega)) (fun x hx z => by have z : x = 95 := z; omega)
  have cb6 : ρb6.2.2.1 64 = (1, 0) := (f6.eS (by omega)).trans c5
  refine wp_putrF 83 rfl dX0_init_80 rfl pX0_66_1 cb6 (fun q => ⟨rfl, rfl⟩) ?_
  obtain ⟨ρ6, hρ⟩ : ∃ ρ6 : sm_R, ρ6 = (ρb6.1, sm_up ρb6.2.1 64 8 (some 95), ρb6.2.2) := ⟨_, rfl⟩
  have gl6 : gP 64 [8] I6 ρb6 I6 ρ6 := by rw [hρ]; exact gP.p
  have p6 : ρ6.2.1 64 8 = some 95 := by rw [hρ]; exact gP.at
  have sk6 : ρ6.2.2 = ρb6.2.2 := by rw [hρ]
  show sm_V G xX0_init (d + 10) 83 [.ref 64, .retAddr 0] [] I6 (ρb6.1, sm_up ρb6.2.1 64 8 (some 95), ρb6.2.2) _
  rw [← hρ]
  clear hρ
  have g6 : gP 64 ([] ++ [8]) I5 ρ5 I6 ρ6 := (gP.of (K := []) f6 (by omega)).tr gl6
  have zv6 : ρb6.2.2.2.1 = 47 := by omega
  have z6 : ρ6.2.2.2.1 = 47 := by rw [sk6]; exact zv6
  have y6 : ρ6.2.2.2.2 = ρ0.2.2.2.2 + 10239 := by rw [sk6]; omega
  have c6 : ρ6.2.2.1 64 = (1, 0) := by rw [sk6]; exact cb6
  clear zn6 yn6 en6 zb6 yb6 y5
  have td6 : td ρ6 95 := t6.f gl6.1 (by omega) (fun x h1 h2 z => by have z : x = 64 := z; omega)
  refine wp_aload0 84 rfl dX0_init_83 ?_
  refine wp_bipush (nI 40) 86 rfl dX0_init_84 (by decide) ?_
  refine wp_gQ (t := 7) (N := 40) (n := 111) 89 92 rfl rfl dX0_init_86 dX0_init_89 q396 q470 rfl (by decide) rfl (by decide) rfl pX0_69_1 c6 (fun q => ⟨rfl, rfl⟩) (by omega) (by omega) (fun I7 ρ7 h => ?_)
  obtain ⟨g7, ⟨zz7, yy7⟩, s7, iz7, p7⟩ := h
  have z7 : ρ7.2.2.2.1 = 48 := by omega
  have y7 : ρ7.2.2.2.2 = ρ0.2.2.2.2 + 10279 := by omega
  have c7 : ρ7.2.2.1 64 = (1, 0) := (g7.eS (by omega)).trans c6
  clear zz7 yy7 y6
  refine wp_aload0 93 rfl dX0_init_92 ?_
  refine wp_iconst (nI 3) 94 rfl dX0_init_93 rfl ?_
  have fN8 : gF pNo pNo I7 ρ7 (sm_zI I7 (ρ7.2.2.2.1 + 64)) (sm_nR ρ7 107 3 3) := gF.nw _ _ _
  have en8 : ρ7.2.2.2.1 + 64 = 112 := by omega
  have sN8 : (sm_nR ρ7 107 3 3).2.2.1 112 = (107, 3) := by rw [← en8]; exact sm_nR_at
  have zN8 : (sm_nR ρ7 107 3 3).2.2.2.1 = ρ7.2.2.2.1 + 1 ∧ (sm_nR ρ7 107 3 3).2.2.2.2 = ρ7.2.2.2.2 + 3 := ⟨rfl, rfl⟩
  rw [en8] at fN8
  refine wp_newq (t := 7) (N := 3) 97 rfl dX0_init_94 q396 q470 rfl (by decide) rfl (by decide) 112 en8 ?_
  show sm_V G xX0_init (d + 10) 97 [.ref 64, .retAddr 0] [.ref 112, .ref 64] (sm_zI I7 112) (sm_nR ρ7 107 3 3) _
  generalize sm_nR ρ7 107 3 3 = r8_0 at *
  generalize sm_zI I7 112 = j8_0 at *
  obtain ⟨x8_0, w8_0⟩ := zN8
  have s8_0 := sN8
  refine wp_dup 98 rfl dX0_init_97 rfl ?_
  refine wp_iconst (nI 0) 99 rfl dX0_init_98 rfl ?_
  refine ka_town (M := 3) (n := 113) 102 103 106 107 rfl rfl rfl rfl dX0_init_99 dX0_init_102 dX0_init_103 dX0_init_106 s8_0 (by decide) (by decide) (by omega) (by decide) (nl rfl) (fun j8_1 r8_1 h8_1 hz8 t8_1 e8_1 => ?_)
  obtain ⟨x8_1, w8_1⟩ := hz8
  have s8_1 := (h8_1.eS (x := 112) (by omega)).trans s8_0
  refine wp_dup 108 rfl dX0_init_107 rfl ?_
  refine wp_iconst (nI 1) 109 rfl dX0_init_108 rfl ?_
  refine ka_town (M := 3) (n := 129) 112 113 116 117 rfl rfl rfl rfl dX0_init_109 dX0_init_112 dX0_init_113 dX0_init_116 s8_1 (by decide) (by decide) (by omega) (by decide) (nl rfl) (fun j8_2 r8_2 h8_2 hz8 t8_2 e8_2 => ?_)
  obtain ⟨x8_2, w8_2⟩ := hz8
  have s8_2 := (h8_2.eS (x := 112) (by omega)).trans s8_1
  refine wp_dup 118 rfl dX0_init_117 rfl ?_
  refine wp_iconst (nI 2) 119 rfl dX0_init_118 rfl ?_
  refine ka_town (M := 3) (n := 145) 122 123 126 127 rfl rfl rfl rfl dX0_init_119 dX0_init_122 dX0_init_123 dX0_init_126 s8_2 (by decide) (by decide) (by omega) (by decide) (nl rfl) (fun j8_3 r8_3 h8_3 hz8 t8_3 e8_3 => ?_)
  obtain ⟨x8_3, w8_3⟩ := hz8
  have s8_3 := (h8_3.eS (x := 112) (by omega)).trans s8_2
  have H8_3 : gP 112 [] j8_3 r8_3 j8_3 r8_3 := ⟨gF.rf, fun _ _ => rfl⟩
  have H8_2 := h8_3.tr H8_3
  have H8_1 := h8_2.tr H8_2
  have H8_0 := h8_1.tr H8_1
  have f8 : gF pNo pNo I7 ρ7 j8_3 r8_3 := fN8.tr H8_0.1 (fun _ _ z => z) (fun x hx z => by have z : x = 112 := z; omega)
  obtain ⟨I8, hI8⟩ : ∃ I8, I8 = j8_3 := ⟨_, rfl⟩
  subst hI8
  have cb8 : r8_3.2.2.1 64 = (1, 0) := (f8.eS (by omega)).trans c7
  refine wp_putrF 130 rfl dX0_init_127 rfl pX0_73_1 cb8 (fun q => ⟨rfl, rfl⟩) ?_
  obtain ⟨ρ8, hρ⟩ : ∃ ρ8 : sm_R, ρ8 = (r8_3.1, sm_up r8_3.2.1 64 10 (some 112), r8_3.2.2) := ⟨_, rfl⟩
  have gl8 : gP 64 [10] I8 r8_3 I8 ρ8 := by rw [hρ]; exact gP.p
  have p8 : ρ8.2.1 64 10 = some 112 := by rw [hρ]; exact gP.at
  have sk8 : ρ8.2.2 = r8_3.2.2 := by rw [hρ]
  show sm_V G xX0_init (d + 10) 130 [.ref 64, .retAddr 0] [] I8 (r8_3.1, sm_up r8_3.2.1 64 10 (some 112), r8_3.2.2) _
  rw [← hρ]
  clear hρ
  have g8 : gP 64 ([] ++ [10]) I7 ρ7 I8 ρ8 := (gP.of (K := []) f8 (by omega)).tr gl8
  have zv8 : r8_3.2.2.2.1 = 97 := by omega
  have z8 : ρ8.2.2.2.1 = 97 := by rw [sk8]; exact zv8
  have y8 : ρ8.2.2.2.2 = ρ0.2.2.2.2 + 10540 := by rw [sk8]; omega
  have c8 : ρ8.2.2.1 64 = (1, 0) := by rw [sk8]; exact cb8
  clear en8 y7 w8_0 w8_1 w8_2 w8_3
  have s8 : ρ8.2.2.1 112 = (107, 3) := by rw [sk8]; exact s8_3
  have e8 : ∀ j, j < 3 → ρ8.2.1 112 j = some (113 + 16 * j) := fun j hj => by
    rw [gl8.eP (by omega) (by omega)]
    match j, hj with
    | 0, _ => exact (H8_1.2 0 (by decide)).trans e8_1
    | 1, _ => exact (H8_2.2 1 (by decide)).trans e8_2
    | 2, _ => exact (H8_3.2 2 (by decide)).trans e8_3
    | j + 3, h => exact absurd h (by omega)
  have td8 : ∀ j, j < 3 → td ρ8 (113 + 16 * j) := fun j hj => by
    match j, hj with
    | 0, _ => exact (t8_1.f H8_1.1 (by omega) (fun x h1 h2 z => by have z : x = 112 := z; omega)).f gl8.1 (by omega) (fun x h1 h2 z => by have z : x = 64 := z; omega)
    | 1, _ => exact (t8_2.f H8_2.1 (by omega) (fun x h1 h2 z => by have z : x = 112 := z; omega)).f gl8.1 (by omega) (fun x h1 h2 z => by have z : x = 64 := z; omega)
    | 2, _ => exact (t8_3.f H8_3.1 (by omega) (fun x h1 h2 z => by have z : x = 112 := z; omega)).f gl8.1 (by omega) (fun x h1 h2 z => by have z : x = 64 := z; omega)
    | j + 3, h => exact absurd h (by omega)
  clear x8_0 x8_1 x8_2 x8_3
  refine wp_aload0 131 rfl dX0_init_130 ?_
  refine wp_iconst (nI 5) 132 rfl dX0_init_131 rfl ?_
  have fN9 : gF pNo pNo I8 ρ8 (sm_zI I8 (ρ8.2.2.2.1 + 64)) (sm_nR ρ8 107 5 5) := gF.nw _ _ _
  have en9 : ρ8.2.2.2.1 + 64 = 161 := by omega
  have sN9 : (sm_nR ρ8 107 5 5).2.2.1 161 = (107, 5) := by rw [← en9]; exact sm_nR_at
  have zN9 : (sm_nR ρ8 107 5 5).2.2.2.1 = ρ8.2.2.2.1 + 1 ∧ (sm_nR ρ8 107 5 5).2.2.2.2 = ρ8.2.2.2.2 + 5 := ⟨rfl, rfl⟩
  rw [en9] at fN9
  refine wp_newq (t := 7) (N := 5) 135 rfl dX0_init_132 q396 q470 rfl (by decide) rfl (by decide) 161 en9 ?_
  show sm_V G xX0_init (d + 10) 135 [.ref 64, .retAddr 0] [.ref 161, .ref 64] (sm_zI I8 161) (sm_nR ρ8 107 5 5) _
  generalize sm_nR ρ8 107 5 5 = r9_0 at *
  generalize sm_zI I8 161 = j9_0 at *
  obtain ⟨x9_0, w9_0⟩ := zN9
  have s9_0 := sN9
  refine wp_dup 136 rfl dX0_init_135 rfl ?_
  refine wp_iconst (nI 0) 137 rfl dX0_init_136 rfl ?_
  refine ka_town (M := 5) (n := 162) 140 141 144 145 rfl rfl rfl rfl dX0_init_137 dX0_init_140 dX0_init_141 dX0_init_144 s9_0 (by decide) (by decide) (by omega) (by decide) (nl rfl) (fun j9_1 r9_1 h9_1 hz9 t9_1 e9_1 => ?_)
  obtain ⟨x9_1, w9_1⟩ := hz9
  have s9_1 := (h9_1.eS (x := 161) (by omega)).trans s9_0
  refine wp_dup 146 rfl dX0_init_145 rfl ?_
  refine wp_iconst (nI 1) 147 rfl dX0_init_146 rfl ?_
  refine ka_town (M := 5) (n := 178) 150 151 154 155 rfl rfl rfl rfl dX0_init_147 dX0_init_150 dX0_init_151 dX0_init_154 s9_1 (by decide) (by decide) (by omega) (by decide) (nl rfl) (fun j9_2 r9_2 h9_2 hz9 t9_2 e9_2 => ?_)
  obtain ⟨x9_2, w9_2⟩ := hz9
  have s9_2 := (h9_2.eS (x := 161) (by omega)).trans s9_1
  refine wp_dup 156 rfl dX0_init_155 rfl ?_
  refine wp_iconst (nI 2) 157 rfl dX0_init_156 rfl ?_
  refine ka_town (M := 5) (n := 194) 160 161 164 165 rfl rfl rfl rfl dX0_init_157 dX0_init_160 dX0_init_161 dX0_init_164 s9_2 (by decide) (by decide) (by omega) (by decide) (nl rfl) (fun j9_3 r9_3 h9_3 hz9 t9_3 e9_3 => ?_)
  obtain ⟨x9_3, w9_3⟩ := hz9
  have s9_3 := (h9_3.eS (x := 161) (by omega)).trans s9_2
  refine wp_dup 166 rfl dX0_init_165 rfl ?_
  refine wp_iconst (nI 3) 167 rfl dX0_init_166 rfl ?_
  refine ka_town (M := 5) (n := 210) 170 171 174 175 rfl rfl rfl rfl dX0_init_167 dX0_init_170 dX0_init_171 dX0_init_174 s9_3 (by decide) (by decide) (by omega) (by decide) (nl rfl) (fun j9_4 r9_4 h9_4 hz9 t9_4 e9_4 => ?_)
  obtain ⟨x9_4, w9_4⟩ := hz9
  have s9_4 := (h9_4.eS (x := 161) (by omega)).trans s9_3
  refine wp_dup 176 rfl dX0_init_175 rfl ?_
  refine wp_iconst (nI 4) 177 rfl dX0_init_176 rfl ?_
  refine ka_town (M := 5) (n := 226) 180 181 184 185 rfl rfl rfl rfl dX0_init_177 dX0_init_180 dX0_init_181 dX0_init_184 s9_4 (by decide) (by decide) (by omega) (by decide) (nl rfl) (fun j9_5 r9_5 h9_5 hz9 t9_5 e9_5 => ?_)
  obtain ⟨x9_5, w9_5⟩ := hz9
  have s9_5 := (h9_5.eS (x := 161) (by omega)).trans s9_4
  have H9_5 : gP 161 [] j9_5 r9_5 j9_5 r9_5 := ⟨gF.rf, fun _ _ => rfl⟩
  have H9_4 := h9_5.tr H9_5
  have H9_3 := h9_4.tr H9_4
  have H9_2 := h9_3.tr H9_3
  have H9_1 := h9_2.tr H9_2
  have H9_0 := h9_1.tr H9_1
  have f9 : gF pNo pNo I8 ρ8 j9_5 r9_5 := fN9.tr H9_0.1 (fun _ _ z => z) (fun x hx z => by have z : x = 161 := z; omega)
  obtain ⟨I9, hI9⟩ : ∃ I9, I9 = j9_5 := ⟨_, rfl⟩
  subst hI9
  have cb9 : r9_5.2.2.1 64 = (1, 0) := (f9.eS (by omega)).trans c8
  refine wp_putrF 188 rfl dX0_init_185 rfl pX0_76_1 cb9 (fun q => ⟨rfl, rfl⟩) ?_
  obtain ⟨ρ9, hρ⟩ : ∃ ρ9 : sm_R, ρ9 = (r9_5.1, sm_up r9_5.2.1 64 11 (some 161), r9_5.2.2) := ⟨_, rfl⟩
  have gl9 : gP 64 [11] I9 r9_5 I9 ρ9 := by rw [hρ]; exact gP.p
  have p9 : ρ9.2.1 64 11 = some 161 := by rw [hρ]; exact gP.at
  have sk9 : ρ9.2.2 = r9_5.2.2 := by rw [hρ]
  show sm_V G xX0_init (d + 10) 188 [.ref 64, .retAddr 0] [] I9 (r9_5.1, sm_up r9_5.2.1 64 11 (some 161), r9_5.2.2) _
  rw [← hρ]
  clear hρ
  have g9 : gP 64 ([] ++ [11]) I8 ρ8 I9 ρ9 := (gP.of (K := []) f9 (by omega)).tr gl9
  have zv9 : r9_5.2.2.2.1 = 178 := by omega
  have z9 : ρ9.2.2.2.1 = 178 := by rw [sk9]; exact zv9
  have y9 : ρ9.2.2.2.2 = ρ0.2.2.2.2 + 10975 := by rw [sk9]; omega
  have c9 : ρ9.2.2.1 64 = (1, 0) := by rw [sk9]; exact cb9
  clear en9 y8 w9_0 w9_1 w9_2 w9_3 w9_4 w9_5
  have s9 : ρ9.2.2.1 161 = (107, 5) := by rw [sk9]; exact s9_5
  have e9 : ∀ j, j < 5 → ρ9.2.1 161 j = some (162 + 16 * j) := fun j hj => by
    rw [gl9.eP (by omega) (by omega)]
    match j, hj with
    | 0, _ => exact (H9_1.2 0 (by decide)).trans e9_1
    | 1, _ => exact (H9_2.2 1 (by decide)).trans e9_2
    | 2, _ => exact (H9_3.2 2 (by decide)).trans e9_3
    | 3, _ => exact (H9_4.2 3 (by decide)).trans e9_4
    | 4, _ => exact (H9_5.2 4 (by decide)).trans e9_5
    | j + 5, h => exact absurd h (by omega)
  have td9 : ∀ j, j < 5 → td ρ9 (162 + 16 * j) := fun j hj => by
    match j, hj with
    | 0, _ => exact (t9_1.f H9_1.1 (by omega) (fun x h1 h2 z => by have z : x = 161 := z; omega)).f gl9.1 (by omega) (fun x h1 h2 z => by have z : x = 64 := z; omega)
    | 1, _ => exact (t9_2.f H9_2.1 (by omega) (fun x h1 h2 z => by have z : x = 161 := z; omega)).f gl9.1 (by omega) (fun x h1 h2 z => by have z : x = 64 := z; omega)
    | 2, _ => exact (t9_3.f H9_3.1 (by omega) (fun x h1 h2 z => by have z : x = 161 := z; omega)).f gl9.1 (by omega) (fun x h1 h2 z => by have z : x = 64 := z; omega)
    | 3, _ => exact (t9_4.f H9_4.1 (by omega) (fun x h1 h2 z => by have z : x = 161 := z; omega)).f gl9.1 (by omega) (fun x h1 h2 z => by have z : x = 64 := z; omega)
    | 4, _ => exact (t9_5.f H9_5.1 (by omega) (fun x h1 h2 z => by have z : x = 161 := z; omega)).f gl9.1 (by omega) (fun x h1 h2 z => by have z : x = 64 := z; omega)
    | j + 5, h => exact absurd h (by omega)
  clear x9_0 x9_1 x9_2 x9_3 x9_4 x9_5
  refine wp_aload0 189 rfl dX0_init_188 ?_
  have fN10 : gF pNo pNo I9 ρ9 (sm_zI I9 (ρ9.2.2.2.1 + 64)) (sm_nR ρ9 8 0 0) := gF.nw _ _ _
  have en10 : ρ9.2.2.2.1 + 64 = 242 := by omega
  have sN10 : (sm_nR ρ9 8 0 0).2.2.1 242 = (8, 0) := by rw [← en10]; exact sm_nR_at
  have zN10 : (sm_nR ρ9 8 0 0).2.2.2.1 = ρ9.2.2.2.1 + 1 ∧ (sm_nR ρ9 8 0 0).2.2.2.2 = ρ9.2.2.2.2 + 0 := ⟨rfl, rfl⟩
  have iN10 : sm_zI I9 242 242 = fun _ => 0 := sm_zI_eq _ _
  rw [en10] at fN10
  refine wp_new 192 rfl dX0_init_189 nX0_79 242 en10 ?_
  refine wp_dup 193 rfl dX0_init_192 rfl ?_
  generalize sm_nR ρ9 8 0 0 = ρn10 at *
  generalize sm_zI I9 242 = Jn10 at *
  obtain ⟨zn10, yn10⟩ := zN10
  refine wp_INe0 196 rfl dX0_init_193 kX8_init lX0_81 rfl (nl rfl) (nl rfl) (s_drawninit) ?_
  have f10 := fN10
  obtain ⟨I10, hI10⟩ : ∃ I10, I10 = Jn10 := ⟨_, rfl⟩
  subst hI10
  show sm_V G xX0_init (d + 10) 196 [.ref 64, .retAddr 0] [.ref 242, .ref 64] I10 ρn10 _
  have cb10 : ρn10.2.2.1 64 = (1, 0) := (f10.eS (by omega)).trans c9
  refine wp_putrF 199 rfl dX0_init_196 rfl pX0_82_1 cb10 (fun q => ⟨rfl, rfl⟩) ?_
  obtain ⟨ρ10, hρ⟩ : ∃ ρ10 : sm_R, ρ10 = (ρn10.1, sm_up ρn10.2.1 64 12 (some 242), ρn10.2.2) := ⟨_, rfl⟩
  have gl10 : gP 64 [12] I10 ρn10 I10 ρ10 := by rw [hρ]; exact gP.p
  have p10 : ρ10.2.1 64 12 = some 242 := by rw [hρ]; exact gP.at
  have sk10 : ρ10.2.2 = ρn10.2.2 := by rw [hρ]
  show sm_V G xX0_init (d + 10) 199 [.ref 64, .retAddr 0] [] I10 (ρn10.1, sm_up ρn10.2.1 64 12 (some 242), ρn10.2.2) _
  rw [← hρ]
  clear hρ
  have g10 : gP 64 ([] ++ [12]) I9 ρ9 I10 ρ10 := (gP.of (K := []) f10 (by omega)).tr gl10
  have zv10 : ρn10.2.2.2.1 = 179 := by omega
  have z10 : ρ10.2.2.2.1 = 179 := by rw [sk10]; exact zv10
  have y10 : ρ10.2.2.2.2 = ρ0.2.2.2.2 + 10975 := by rw [sk10]; omega
  have c10 : ρ10.2.2.1 64 = (1, 0) := by rw [sk10]; exact cb10
  clear yn10 en10 y9
  have s10 : ρ10.2.2.1 242 = (8, 0) := by rw [sk10]; exact sN10
  refine wp_aload0 200 rfl dX0_init_199 ?_
  have fN11 : gF pNo pNo I10 ρ10 (sm_zI I10 (ρ10.2.2.2.1 + 64)) (sm_nR ρ10 9 0 0) := gF.nw _ _ _
  have en11 : ρ10.2.2.2.1 + 64 = 243 := by omega
  have sN11 : (sm_nR ρ10 9 0 0).2.2.1 243 = (9, 0) := by rw [← en11]; exact sm_nR_at
  have zN11 : (sm_nR ρ10 9 0 0).2.2.2.1 = ρ10.2.2.2.1 + 1 ∧ (sm_nR ρ10 9 0 0).2.2.2.2 = ρ10.2.2.2.2 + 0 := ⟨rfl, rfl⟩
  have iN11 : sm_zI I10 243 243 = fun _ => 0 := sm_zI_eq _ _
  rw [en11] at fN11
  refine wp_new 203 rfl dX0_init_200 nX0_86 243 en11 ?_
  refine wp_dup 204 rfl dX0_init_203 rfl ?_
  generalize sm_nR ρ10 9 0 0 = ρn11 at *
  generalize sm_zI I10 243 = Jn11 at *
  obtain ⟨zn11, yn11⟩ := zN11
  refine wp_INe0 207 rfl dX0_init_204 kX9_init lX0_88 rfl (nl rfl) (nl rfl) (s_stillinit) ?_
  have f11 := fN11
  obtain ⟨I11, hI11⟩ : ∃ I11, I11 = Jn11 := ⟨_, rfl⟩
  subst hI11
  show sm_V G xX0_init (d + 10) 207 [.ref 64, .retAddr 0] [.ref 243, .ref 64] I11 ρn11 _
  have cb11 : ρn11.2.2.1 64 = (1, 0) := (f11.eS (by omega)).trans c10
  refine wp_putrF 210 rfl dX0_init_207 rfl pX0_89_1 cb11 (fun q => ⟨rfl, rfl⟩) ?_
  obtain ⟨ρ11, hρ⟩ : ∃ ρ11 : sm_R, ρ11 = (ρn11.1, sm_up ρn11.2.1 64 13 (some 243), ρn11.2.2) := ⟨_, rfl⟩
  have gl11 : gP 64 [13] I11 ρn11 I11 ρ11 := by rw [hρ]; exact gP.p
  have p11 : ρ11.2.1 64 13 = some 243 := by rw [hρ]; exact gP.at
  have sk11 : ρ11.2.2 = ρn11.2.2 := by rw [hρ]
  show sm_V G xX0_init (d + 10) 210 [.ref 64, .retAddr 0] [] I11 (ρn11.1, sm_up ρn11.2.1 64 13 (some 243), ρn11.2.2) _
  rw [← hρ]
  clear hρ
  have g11 : gP 64 ([] ++ [13]) I10 ρ10 I11 ρ11 := (gP.of (K := []) f11 (by omega)).tr gl11
  have zv11 : ρn11.2.2.2.1 = 180 := by omega
  have z11 : ρ11.2.2.2.1 = 180 := by rw [sk11]; exact zv11
  have y11 : ρ11.2.2.2.2 = ρ0.2.2.2.2 + 10975 := by rw [sk11]; omega
  have c11 : ρ11.2.2.1 64 = (1, 0) := by rw [sk11]; exact cb11
  clear yn11 en11 y10
  have s11 : ρ11.2.2.1 243 = (9, 0) := by rw [sk11]; exact sN11
  refine wp_aload0 211 rfl dX0_init_210 ?_
  refine wp_iconst (nI 3) 212 rfl dX0_init_211 (by decide) ?_
  refine wp_gA (t := 3) (N := 3) (n := 244) 214 217 rfl rfl dX0_init_212 dX0_init_214 rfl rfl (by decide) q579 rfl (by decide) rfl pX0_92_1 c11 (fun q => ⟨rfl, rfl⟩) (by omega) (by omega) (fun I12 ρ12 h => ?_)
  obtain ⟨g12, ⟨zz12, yy12⟩, s12, iz12, p12⟩ := h
  have z12 : ρ12.2.2.2.1 = 181 := by omega
  have y12 : ρ12.2.2.2.2 = ρ0.2.2.2.2 + 10978 := by omega
  have c12 : ρ12.2.2.1 64 = (1, 0) := (g12.eS (by omega)).trans c11
  clear zz12 yy12 y11
  refine wp_aload0 218 rfl dX0_init_217 ?_
  refine wp_iconst (nI 4) 219 rfl dX0_init_218 (by decide) ?_
  refine wp_gA (t := 0) (N := 4) (n := 245) 221 224 rfl rfl dX0_init_219 dX0_init_221 rfl rfl (by decide) q420 rfl (by decide) rfl pX0_96_1 c12 (fun q => ⟨rfl, rfl⟩) (by omega) (by omega) (fun I13 ρ13 h => ?_)
  obtain ⟨g13, ⟨zz13, yy13⟩, s13, iz13, p13⟩ := h
  have z13 : ρ13.2.2.2.1 = 182 := by omega
  have y13 : ρ13.2.2.2.2 = ρ0.2.2.2.2 + 10982 := by omega
  have c13 : ρ13.2.2.1 64 = (1, 0) := (g13.eS (by omega)).trans c12
  clear zz13 yy13 y12
  refine wp_aload0 225 rfl dX0_init_224 ?_
  refine wp_bipush (nI 7) 227 rfl dX0_init_225 (by decide) ?_
  refine wp_bipush (nI 32) 229 rfl dX0_init_227 (by decide) ?_
  refine wp_gM (N := 7) (M := 32) (n := 246) 233 236 rfl rfl dX0_init_229 dX0_init_233 q488 q420 rfl rfl (by decide) (by decide) rfl pX0_102_1 c13 (fun q => ⟨rfl, rfl⟩) (by omega) (by omega) (fun I14 ρ14 h => ?_)
  obtain ⟨g14, ⟨zz14, yy14⟩, s14, e14, i14, p14⟩ := h
  have z14 : ρ14.2.2.2.1 = 190 := by omega
  have y14 : ρ14.2.2.2.2 = ρ0.2.2.2.2 + 11213 := by omega
  have c14 : ρ14.2.2.1 64 = (1, 0) := (g14.eS (by omega)).trans c13
  clear zz14 yy14 y13
  refine wp_aload0 237 rfl dX0_init_236 ?_
  refine wp_bipush (nI 20) 239 rfl dX0_init_237 (by decide) ?_
  refine wp_gA (t := 0) (N := 20) (n := 254) 241 244 rfl rfl dX0_init_239 dX0_init_241 rfl rfl (by decide) q420 rfl (by decide) rfl pX0_105_1 c14 (fun q => ⟨rfl, rfl⟩) (by omega) (by omega) (fun I15 ρ15 h => ?_)
  obtain ⟨g15, ⟨zz15, yy15⟩, s15, iz15, p15⟩ := h
  have z15 : ρ15.2.2.2.1 = 191 := by omega
  have y15 : ρ15.2.2.2.2 = ρ0.2.2.2.2 + 11233 := by omega
  have c15 : ρ15.2.2.1 64 = (1, 0) := (g15.eS (by omega)).trans c14
  clear zz15 yy15 y14
  refine wp_aload0 245 rfl dX0_init_244 ?_
  refine wp_bipush (nI 20) 247 rfl dX0_init_245 (by decide) ?_
  refine wp_gA (t := 0) (N := 20) (n := 255) 249 252 rfl rfl dX0_init_247 dX0_init_249 rfl rfl (by decide) q420 rfl (by decide) rfl pX0_108_1 c15 (fun q => ⟨rfl, rfl⟩) (by omega) (by omega) (fun I16 ρ16 h => ?_)
  obtain ⟨g16, ⟨zz16, yy16⟩, s16, iz16, p16⟩ := h
  have z16 : ρ16.2.2.2.1 = 192 := by omega
  have y16 : ρ16.2.2.2.2 = ρ0.2.2.2.2 + 11253 := by omega
  have c16 : ρ16.2.2.1 64 = (1, 0) := (g16.eS (by omega)).trans c15
  clear zz16 yy16 y15
  refine wp_aload0 253 rfl dX0_init_252 ?_
  refine wp_bipush (nI 20) 255 rfl dX0_init_253 (by decide) ?_
  refine wp_gA (t := 0) (N := 20) (n := 256) 257 260 rfl rfl dX0_init_255 dX0_init_257 rfl rfl (by decide) q420 rfl (by decide) rfl pX0_111_1 c16 (fun q => ⟨rfl, rfl⟩) (by omega) (by omega) (fun I17 ρ17 h => ?_)
  obtain ⟨g17, ⟨zz17, yy17⟩, s17, iz17, p17⟩ := h
  have z17 : ρ17.2.2.2.1 = 193 := by omega
  have y17 : ρ17.2.2.2.2 = ρ0.2.2.2.2 + 11273 := by omega
  have c17 : ρ17.2.2.1 64 = (1, 0) := (g17.eS (by omega)).trans c16
  clear zz17 yy17 y16
  refine wp_aload0 261 rfl dX0_init_260 ?_
  refine wp_iconst (nI 3) 262 rfl dX0_init_261 (by decide) ?_
  refine wp_gA (t := 0) (N := 3) (n := 257) 264 267 rfl rfl dX0_init_262 dX0_init_264 rfl rfl (by decide) q420 rfl (by decide) rfl pX0_114_1 c17 (fun q => ⟨rfl, rfl⟩) (by omega) (by omega) (fun I18 ρ18 h => ?_)
  obtain ⟨g18, ⟨zz18, yy18⟩, s18, iz18, p18⟩ := h
  have z18 : ρ18.2.2.2.1 = 194 := by omega
  have y18 : ρ18.2.2.2.2 = ρ0.2.2.2.2 + 11276 := by omega
  have c18 : ρ18.2.2.1 64 = (1, 0) := (g18.eS (by omega)).trans c17
  clear zz18 yy18 y17
  have E18 : gP 64 [] I18 ρ18 I18 ρ18 := ⟨gF.rf, fun _ _ => rfl⟩
  have E17 := g18.tr E18
  have E16 := g17.tr E17
  have E15 := g16.tr E16
  have E14 := g15.tr E15
  have E13 := g14.tr E14
  have E12 := g13.tr E13
  have E11 := g12.tr E12
  have E10 := g11.tr E11
  have E9 := g10.tr E10
  have E8 := g9.tr E9
  have E7 := g8.tr E8
  have E6 := g7.tr E7
  have E5 := g6.tr E6
  have E4 := g5.tr E5
  refine wp_iconst (nI 0) 268 rfl dX0_init_267 rfl ?_
  refine wp_istore1 269 rfl dX0_init_268 (by decide) rfl ?_
  have a18 : ρ18.2.2.1 111 = (107, 40) := (E7.eS (by omega)).trans s7
  have q9 : ρ18.2.1 64 9 = some 111 := (E7.2 9 (by decide)).trans p7
  refine sm_for (P := fun j => ∀ (J : sm_I) (ρJ : sm_R), gF pNo (fun x => x = 111) I18 ρ18 J ρJ → ρJ.2.2.2.1 = 194 + 16 * j → ρJ.2.2.2.2 = ρ0.2.2.2.2 + 11276 + 86 * j → (∀ i, i < j → ρJ.2.1 111 i = some (258 + 16 * i) ∧ td ρJ (258 + 16 * i)) → sm_V G xX0_init (d + 10) 269 [.ref 64, .int (nI j)] [] J ρJ (sm_Qv (fun I1 ρ1 => (ρ1.2.2.2.1 = 834 ∧ ρ1.2.2.2.2 ≤ ρ0.2.2.2.2 + 20000) ∧ ∃ q, cZ I1 ρ1 74 q y_0))) 0 40 (by decide) ?_ (fun j _ hj ih => ?_) I18 ρ18 gF.rf z18 (by omega) (fun i hi => absurd hi (Nat.not_lt_zero _))
  · intro J ρf T zf yf hf
    have zf : ρf.2.2.2.1 = 834 := by omega
    have D2 := g3.tr g4
    have D1 := g2.tr D2
    have U : ∀ f, ρf.2.1 64 f = ρ18.2.1 64 f := fun f => by rw [T.eP (by omega) (by decide)]
    have P66 : ρf.2.1 66 = ρb2.2.1 66 := (T.eP (by omega) (by decide)).trans ((E4.eP (by omega) (by decide)).trans (E2'.eP (by omega) (by decide)))
    have P67 : ρf.2.1 67 = ρb2.2.1 67 := (T.eP (by omega) (by decide)).trans ((E4.eP (by omega) (by decide)).trans (E2'.eP (by omega) (by decide)))
    have P73 : ρf.2.1 73 = ρb3.2.1 73 := (T.eP (by omega) (by decide)).trans ((E4.eP (by omega) (by decide)).trans (E3'.eP (by omega) (by decide)))
    have hK : kd ρf := by
      refine ⟨(T.eS (by omega)).trans c18, ?_, ?_, ?_, ?_, ?_, ?_, ?_, ?_, ?_, ?_, ?_, ?_, ?_, ?_, ?_, ?_, ?_, ?_, ?_, ?_, ?_, ?_, ?_, ?_, ?_, ?_, ?_, ?_, ?_, ?_, ?_, ?_, ?_, ?_, ?_, ?_, ?_, ?_, ?_, ?_, ?_, ?_, ?_, ?_, ?_, ?_, ?_, ?_, ?_, ?_, ?_, ?_, ?_, ?_, ?_, ?_, ?_⟩
      · exact (U 0).trans ((E4.2 0 (by decide)).trans ((D1.2 0 (by decide)).trans p1))
      · exact (U 1).trans ((E4.2 1 (by decide)).trans ((D2.2 1 (by decide)).trans p2))
      · exact (U 2).trans ((E4.2 2 (by decide)).trans ((g4.2 2 (by decide)).trans p3))
      · exact (U 7).trans ((E5.2 7 (by decide)).trans p5)
      · exact (U 8).trans ((E6.2 8 (by decide)).trans p6)
      · exact (U 9).trans ((E7.2 9 (by decide)).trans p7)
      · exact (U 10).trans ((E8.2 10 (by decide)).trans p8)
      · exact (U 11).trans ((E9.2 11 (by decide)).trans p9)
      · exact (U 12).trans ((E10.2 12 (by decide)).trans p10)
      · exact (U 13).trans ((E11.2 13 (by decide)).trans p11)
      · exact (U 14).trans ((E12.2 14 (by decide)).trans p12)
      · exact (U 15).trans ((E13.2 15 (by decide)).trans p13)
      · exact (U 16).trans ((E14.2 16 (by decide)).trans p14)
      · exact (U 18).trans ((E15.2 18 (by decide)).trans p15)
      · exact (U 19).trans ((E16.2 19 (by decide)).trans p16)
      · exact (U 20).trans ((E17.2 20 (by decide)).trans p17)
      · exact (U 21).trans ((E18.2 21 (by decide)).trans p18)
      · exact (T.eS (by omega)).trans ((E4.eS (by omega)).trans ((E1'.eS (by omega)).trans s1))
      · exact (T.eS (by omega)).trans ((E4.eS (by omega)).trans ((E2'.eS (by omega)).trans s2))
      · rw [P66]; exact a20
      · rw [P66]; exact a21
      · rw [P66]; exact a23
      · rw [P66]; exact a24
      · rw [P66]; exact a25
      · rw [P66]; exact a26
      · exact (T.eS (by omega)).trans ((E4.eS (by omega)).trans ((E2'.eS (by omega)).trans b20))
      · intro j hj; rw [P67]; exact b21 j hj
      · exact (T.eS (by omega)).trans ((E4.eS (by omega)).trans ((E2'.eS (by omega)).trans b22))
      · exact (T.eS (by omega)).trans ((E4.eS (by omega)).trans ((E2'.eS (by omega)).trans b23))
      · exact (T.eS (by omega)).trans ((E4.eS (by omega)).trans ((E2'.eS (by omega)).trans b24))
      · exact (T.eS (by omega)).trans ((E4.eS (by omega)).trans ((E2'.eS (by omega)).trans b25))
      · exact (T.eS (by omega)).trans ((E4.eS (by omega)).trans ((E2'.eS (by omega)).trans b26))
      · exact (T.eS (by omega)).trans ((E4.eS (by omega)).trans ((E3'.eS (by omega)).trans s3))
      · rw [P73]; exact a30
      · rw [P73]; exact a31
      · exact (T.eS (by omega)).trans a18
      · intro j hj; exact (hf j hj).1
      · exact (T.eS (by omega)).trans ((E8.eS (by omega)).trans s8)
      · intro j hj; rw [T.eP (by omega) (by decide), E8.eP (by omega) (by decide)]; exact e8 j hj
      · exact (T.eS (by omega)).trans ((E9.eS (by omega)).trans s9)
      · intro j hj; rw [T.eP (by omega) (by decide), E9.eP (by omega) (by decide)]; exact e9 j hj
      · exact (T.eS (by omega)).trans ((E10.eS (by omega)).trans s10)
      · exact (T.eS (by omega)).trans ((E11.eS (by omega)).trans s11)
      · exact (T.eS (by omega)).trans ((E12.eS (by omega)).trans s12)
      · exact (T.eS (by omega)).trans ((E13.eS (by omega)).trans s13)
      · exact (T.eS (by omega)).trans ((E14.eS (by omega)).trans s14)
      · intro j hj; rw [T.eP (by omega) (by decide), E14.eP (by omega) (by decide)]; exact e14 j hj
      · intro j hj; exact (T.eS (by omega)).trans ((E14.eS (by omega)).trans (i14 j hj))
      · exact (T.eS (by omega)).trans ((E15.eS (by omega)).trans s15)
      · exact (T.eS (by omega)).trans ((E16.eS (by omega)).trans s16)
      · exact (T.eS (by omega)).trans ((E17.eS (by omega)).trans s17)
      · exact (T.eS (by omega)).trans s18
      · exact (td5.f E5.1 (by omega) (fun x h1 h2 z => by have z : x = 64 := z; omega)).f T (by omega) (fun x h1 h2 z => by have z : x = 111 := z; omega)
      · exact (td6.f E6.1 (by omega) (fun x h1 h2 z => by have z : x = 64 := z; omega)).f T (by omega) (fun x h1 h2 z => by have z : x = 111 := z; omega)
      · intro j hj; exact (hf j hj).2
      · intro j hj; exact ((td8 j hj).f E8.1 (by omega) (fun x h1 h2 z => by have z : x = 64 := z; omega)).f T (by omega) (fun x h1 h2 z => by have z : x = 111 := z; omega)
      · intro j hj; exact ((td9 j hj).f E9.1 (by omega) (fun x h1 h2 z => by have z : x = 64 := z; omega)).f T (by omega) (fun x h1 h2 z => by have z : x = 111 := z; omega)
    have q3 : ρf.2.1 64 3 = some 74 := (U 3).trans ((E4.2 3 (by decide)).trans p4)
    have hxf : x0F J ρf 74 := hx4'.f (fun x h1 h2 => ⟨(T.eI (by omega) (fun z => z)).trans ((E4.eI (by omega)).trans (iln x (by omega))), (T.eP (by omega) (by omega)).trans (E4.eP (by omega) (by omega)), (T.eS (by omega)).trans (E4.eS (by omega))⟩)
    obtain ⟨qq, hT⟩ : ∃ qq, cT J ρf 74 qq x_0 := ⟨_, hxf.cT (fun k hk => by unfold tA; omega)⟩
    refine wp_iload1 270 rfl dX0_init_269 ?_
    refine wp_bipush (nI 40) 272 rfl dX0_init_270 (by decide) ?_
    refine wp_icmp_ge 275 294 rfl rfl dX0_init_272 (fun _ => ?_) (fun c => absurd (by decide) c)
    refine wp_aload0 295 rfl dX0_init_294 ?_
    refine wp_getr 298 rfl dX0_init_295 fX0_62_1 (o1 hK) (p1_7 hK) ?_
    refine wp_aload0 299 rfl dX0_init_298 ?_
    refine wp_getr 302 rfl dX0_init_299 fX0_51_1 (o1 hK) q3 ?_
    refine wp_Vv1 305 rfl dX0_init_302 kX5_begins lX0_117 (o6 (k_town hK)) (nl rfl) (nl rfl) (s_cbegins (k_town hK) (by decide) hT tok_0) (fun J2 ρx h => ?_)
    obtain ⟨e0, f2, hR2⟩ := h
    have e0 := e0.symm
    subst e0
    refine wp_vret dX0_init_305 rfl ⟨rfl, ⟨zf, by omega⟩, qq, ?_⟩
    have c2 : ∀ a, a < 79 ∨ 95 ≤ a → J2 a = J a := fun a ha => f2 a (fun z => by
      have := tWs_mem.mp z
      omega)
    have v64 : J2 64 = L4 64 := (c2 64 (by decide)).trans ((T.eI (by omega) (fun z => z)).trans (E4.eI (by omega)))
    have v66 : J2 66 = fun _ => 0 := (c2 66 (by decide)).trans ((T.eI (by omega) (fun z => z)).trans ((E4.eI (by omega)).trans ((iln 66 (by decide)).trans iz2')))
    have v244 : J2 244 = fun _ => 0 := (c2 244 (by decide)).trans ((T.eI (by omega) (fun z => z)).trans ((E12.eI (by omega)).trans iz12))
    refine ⟨⟨hK, q3, hT.kept (fun a ha => c2 a (by unfold tA at ha; omega)), tok_0, wok_beg tok_0, hR2⟩, ⟨by rw [v64]; exact il64 5 (by decide), Nat.zero_le _, 0, by decide, by rw [v64]; exact il64 6 (by decide), fun i r hi => by cases hi⟩, ⟨by rw [v64]; exact il64 17 (by decide), Nat.zero_le _, fun i dd p v hi => by cases hi⟩, fun s hs => ⟨fun _ => by rw [v244]; rfl, fun r hr => by cases hr⟩, ⟨by rw [v66]; rfl, Nat.zero_le _, fun j hj => absurd hj (Nat.not_lt_zero _)⟩, by rw [v64]; exact il4⟩
  · intro J ρJ T zJ yJ hJ
    have cJ : ρJ.2.2.1 64 = (1, 0) := (T.eS (by omega)).trans c18
    have aJ : ρJ.2.2.1 111 = (107, 40) := (T.eS (by omega)).trans a18
    have qJ : ρJ.2.1 64 9 = some 111 := by rw [T.eP (by omega) (by decide)]; exact q9
    refine wp_iload1 270 rfl dX0_init_269 ?_
    refine wp_bipush (nI 40) 272 rfl dX0_init_270 (by decide) ?_
    refine wp_icmp_ge 275 294 rfl rfl dX0_init_272 (fun c => absurd c (nI_ge hj (by decide))) (fun _ => ?_)
    refine wp_aload0 276 rfl dX0_init_275 ?_
    refine wp_getr 279 rfl dX0_init_276 fX0_69_1 cJ qJ ?_
    refine wp_iload1 280 rfl dX0_init_279 ?_
    refine ka_town (M := 40) (n := 258 + 16 * j) 283 284 287 288 rfl rfl rfl rfl dX0_init_280 dX0_init_283 dX0_init_284 dX0_init_287 aJ hj (by decide) (by omega) (by omega) (nl rfl) (fun K ρK hK zK tK eK => ?_)
    refine wp_iincN1 291 rfl dX0_init_288 (by decide) rfl ?_
    refine wp_goto 269 rfl dX0_init_291 ?_
    refine ih K ρK (T.tr hK.1 (fun _ _ z => z) (fun _ _ z => z)) (by omega) (by omega) (fun i hi => ?_)
    by_cases e : i = j
    · subst e
      exact ⟨eK, tK⟩
    · obtain ⟨e1, t1⟩ := hJ i (by omega)
      exact ⟨(hK.2 i (fun z => e (List.mem_singleton.mp z))).trans e1, t1.f hK.1 (by omega) (fun x h1 h2 z => by have z : x = 111 := z; omega)⟩
end K3

