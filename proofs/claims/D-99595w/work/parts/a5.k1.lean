/-! ===== constructors: what is made and told to its owner ===== -/
set_option maxRecDepth 100000
/-- all old cells are kept but a's references at K -/
def gP (a : Nat) (K : List Nat) (I : sm_I) (ρ : sm_R) (I1 : sm_I) (ρ1 : sm_R) : Prop := gF pNo (fun x => x = a) I ρ I1 ρ1 ∧ ∀ j, j ∉ K → ρ1.2.1 a j = ρ.2.1 a j
section K1
variable {a : Nat} {K K' : List Nat} {I I1 I2 : sm_I} {ρ ρ1 ρ2 : sm_R}
theorem gP.tr (h : gP a K I ρ I1 ρ1) (h2 : gP a K' I1 ρ1 I2 ρ2) : gP a (K ++ K') I ρ I2 ρ2 := ⟨h.1.tr h2.1 (fun _ _ z => z) (fun _ _ z => z), fun j hj => (h2.2 j (fun z => hj (List.mem_append_right _ z))).trans (h.2 j (fun z => hj (List.mem_append_left _ z)))⟩
theorem gP.of (h : gF pNo pNo I ρ I1 ρ1) (ha : a < ρ.2.2.2.1 + 64) : gP a K I ρ I1 ρ1 := ⟨h.wk (fun _ _ z => z) (fun _ _ z => z.elim), fun j _ => by rw [h.eP ha (fun z => z)]⟩
theorem gP.p {k b : Nat} : gP a [k] I ρ I (ρ.1, sm_up ρ.2.1 a k (some b), ρ.2.2) := ⟨gF.p, fun j hj => by
  show sm_up ρ.2.1 a k (some b) a j = _
  rw [sm_up_eq]
  unfold va_up
  rw [if_neg (fun e => hj (by rw [e]; exact List.mem_singleton.mpr rfl))]⟩
theorem gP.at {k b : Nat} : (ρ.1, sm_up ρ.2.1 a k (some b), ρ.2.2).2.1 a k = some b := by
  show sm_up ρ.2.1 a k (some b) a k = _
  rw [sm_up_eq]
  exact if_pos rfl
theorem gP.nxl (h : gP a K I ρ I1 ρ1) : ρ.2.2.2.1 ≤ ρ1.2.2.2.1 := h.1.1.1
theorem gP.eS (h : gP a K I ρ I1 ρ1) {x : Nat} (hx : x < ρ.2.2.2.1 + 64) : ρ1.2.2.1 x = ρ.2.2.1 x := h.1.eS hx
theorem gP.eI (h : gP a K I ρ I1 ρ1) {x : Nat} (hx : x < ρ.2.2.2.1 + 64) : I1 x = I x := h.1.eI hx (fun z => z)
theorem gP.eP (h : gP a K I ρ I1 ρ1) {x : Nat} (hx : x < ρ.2.2.2.1 + 64) (hn : ¬ x = a) : ρ1.2.1 x = ρ.2.1 x := h.1.eP hx hn
/-- an array -/
def gA (a k n t N : Nat) (I : sm_I) (ρ : sm_R) (I1 : sm_I) (ρ1 : sm_R) : Prop := gP a [k] I ρ I1 ρ1 ∧ (ρ1.2.2.2.1 = ρ.2.2.2.1 + 1 ∧ ρ1.2.2.2.2 = ρ.2.2.2.2 + N) ∧ ρ1.2.2.1 n = (t, N) ∧ (I1 n = fun _ => 0) ∧ ρ1.2.1 a k = some n
theorem gA.of {k n t N : Nat} (ha : a < n) (hn : ρ.2.2.2.1 + 64 = n) : gA a k n t N I ρ (sm_zI I n) ((sm_nR ρ t N N).1, sm_up (sm_nR ρ t N N).2.1 a k (some n), (sm_nR ρ t N N).2.2) := by
  have fN : gF pNo pNo I ρ (sm_zI I (ρ.2.2.2.1 + 64)) (sm_nR ρ t N N) := gF.nw _ _ _
  rw [hn] at fN
  have sN : (sm_nR ρ t N N).2.2.1 n = (t, N) := by rw [← hn]; exact sm_nR_at
  exact ⟨(gP.of (K := []) fN (by omega)).tr gP.p, ⟨rfl, rfl⟩, sN, sm_zI_eq _ _, gP.at⟩
/-- rows of ints -/
def gM (a k n N M : Nat) (I : sm_I) (ρ : sm_R) (I1 : sm_I) (ρ1 : sm_R) : Prop := gP a [k] I ρ I1 ρ1 ∧ (ρ1.2.2.2.1 = ρ.2.2.2.1 + 1 + N ∧ ρ1.2.2.2.2 = ρ.2.2.2.2 + N + N * M) ∧ ρ1.2.2.1 n = (110, N) ∧ (∀ j, j < N → ρ1.2.1 n j = some (n + 1 + j)) ∧ (∀ j, j < N → ρ1.2.2.1 (n + 1 + j) = (100, M)) ∧ ρ1.2.1 a k = some n
theorem gF.nm {A B : Nat → Prop} (N M : Nat) : gF A B I ρ (sm_mI I (ρ.2.2.2.1 + 64) N) (sm_mR ρ N M) :=
  ⟨⟨by show ρ.2.2.2.1 ≤ ρ.2.2.2.1 + 1 + N; omega, by show ρ.2.2.2.2 ≤ ρ.2.2.2.2 + N + N * M; omega, fun a ha => by
    have ha : ρ.2.2.2.1 + 1 + N + 64 ≤ a := ha
    exact (if_neg (by omega)).trans (if_neg (by omega))⟩, fun a ha => ⟨(if_neg (by omega)).trans (if_neg (by omega)), if_neg (by omega)⟩, fun a ha _ => if_neg (by omega), fun a ha _ => (if_neg (by omega)).trans (if_neg (by omega))⟩
theorem gM.of {k n N M : Nat} (ha : a < n) (hn : ρ.2.2.2.1 + 64 = n) : gM a k n N M I ρ (sm_mI I n N) ((sm_mR ρ N M).1, sm_up (sm_mR ρ N M).2.1 a k (some n), (sm_mR ρ N M).2.2) := by
  have fN : gF pNo pNo I ρ (sm_mI I (ρ.2.2.2.1 + 64) N) (sm_mR ρ N M) := gF.nm _ _
  rw [hn] at fN
  refine ⟨(gP.of (K := []) fN (by omega)).tr gP.p, ⟨rfl, rfl⟩, if_pos hn.symm, fun j hj => ?_, fun j hj => (if_neg (by omega)).trans (if_pos (by omega)), gP.at⟩
  show sm_up (sm_mR ρ N M).2.1 a k (some n) n j = _
  rw [sm_up_ne _ _ _ (by omega)]
  show (if n = ρ.2.2.2.1 + 64 then (fun j => if j < N then some (ρ.2.2.2.1 + 65 + j) else none) else _) j = _
  rw [if_pos hn.symm, if_pos hj]
  congr 1
  omega
end K1
section K1b
variable {G : sm_G} {X : sm_X} {d pc : Nat} {lv st : List Value} {I : sm_I} {ρ : sm_R} {Q : sm_O → sm_I → sm_R → Prop}
theorem wp_gA {atype : ArrayType} {ix t N f tt nn o n : Nat} {ty fty : FieldType} {z : Int32} (n1 n2 : Nat) (hn1 : pc + 2 = n1) (hn2 : n1 + 3 = n2) (hd1 : decode X.2.1 pc = .ok (.newarray atype, 2)) (hd2 : decode X.2.1 n1 = .ok (.putfield ix, 3)) (hty : newarray.typeOf atype = ty) (hat : sm_at[t]? = some ty) (ht : t < 5) (hq : Cond.arrayClass ty ∈ lw_all) (hz : z = nI N) (hN : N < 1000000) (hini : X.2.2.2.2.1 = "<init>") (hfp : sm_FP X.1 ix tt f 2 fty true) (hs : ρ.2.2.1 o = (tt, nn)) (hnf : ∀ q : Nat, narrow fty (.ref q) = .ref q ∧ fits fty (.ref q) = true) (ho : o < n) (hn : ρ.2.2.2.1 + 64 = n)
    (k : ∀ I1 ρ1, gA o f n (t + 100) N I ρ I1 ρ1 → sm_V G X d n2 lv st I1 ρ1 Q) : sm_V G X d pc lv (.int z :: .ref o :: st) I ρ Q := by
  refine wp_newa n1 hn1 hd1 hty hat ht hq hz hN n hn ?_
  have hs' : (sm_nR ρ (t + 100) N N).2.2.1 o = (tt, nn) := by
    have : (sm_nR ρ (t + 100) N N).2.2.1 o = ρ.2.2.1 o := if_neg (by omega)
    rw [this]
    exact hs
  exact wp_putrF n2 hn2 hd2 hini hfp hs' hnf (k _ _ (gA.of ho hn))
theorem wp_gQ {ix ic t N f tt nn o n : Nat} {C : String} {fty : FieldType} {z : Int32} (n1 n2 : Nat) (hn1 : pc + 3 = n1) (hn2 : n1 + 3 = n2) (hd1 : decode X.2.1 pc = .ok (.anewarray ic, 3)) (hd2 : decode X.2.1 n1 = .ok (.putfield ix, 3)) (hcl : Cond.classLink X.1 ic C ∈ lw_all) (hao : Cond.arrayOver (.object C) ∈ lw_tbl) (hat : sm_at[t]? = some (.object C)) (ht : 4 < t) (hz : z = nI N) (hN : N < 1000000) (hini : X.2.2.2.2.1 = "<init>") (hfp : sm_FP X.1 ix tt f 2 fty true) (hs : ρ.2.2.1 o = (tt, nn)) (hnf : ∀ q : Nat, narrow fty (.ref q) = .ref q ∧ fits fty (.ref q) = true) (ho : o < n) (hn : ρ.2.2.2.1 + 64 = n)
    (k : ∀ I1 ρ1, gA o f n (t + 100) N I ρ I1 ρ1 → sm_V G X d n2 lv st I1 ρ1 Q) : sm_V G X d pc lv (.int z :: .ref o :: st) I ρ Q := by
  refine wp_newq n1 hn1 hd1 hcl hao hat ht hz hN n hn ?_
  have hs' : (sm_nR ρ (t + 100) N N).2.2.1 o = (tt, nn) := by
    have : (sm_nR ρ (t + 100) N N).2.2.1 o = ρ.2.2.1 o := if_neg (by omega)
    rw [this]
    exact hs
  exact wp_putrF n2 hn2 hd2 hini hfp hs' hnf (k _ _ (gA.of ho hn))
theorem wp_gM {ix ic N M f tt nn o n : Nat} {fty : FieldType} {y z : Int32} (n1 n2 : Nat) (hn1 : pc + 4 = n1) (hn2 : n1 + 3 = n2) (hd1 : decode X.2.1 pc = .ok (.multianewarray ic 2, 4)) (hd2 : decode X.2.1 n1 = .ok (.putfield ix, 3)) (hcl : Cond.classLink X.1 ic "[[I" ∈ lw_all) (hac : Cond.arrayClass .int ∈ lw_all) (hy : y = nI N) (hz : z = nI M) (hN : N < 1000) (hM : M < 1000) (hini : X.2.2.2.2.1 = "<init>") (hfp : sm_FP X.1 ix tt f 2 fty true) (hs : ρ.2.2.1 o = (tt, nn)) (hnf : ∀ q : Nat, narrow fty (.ref q) = .ref q ∧ fits fty (.ref q) = true) (ho : o < n) (hn : ρ.2.2.2.1 + 64 = n)
    (k : ∀ I1 ρ1, gM o f n N M I ρ I1 ρ1 → sm_V G X d n2 lv st I1 ρ1 Q) : sm_V G X d pc lv (.int z :: .int y :: .ref o :: st) I ρ Q := by
  refine wp_newm n1 hn1 hd1 hcl hac hy hz hN hM n hn ?_
  have hs' : (sm_mR ρ N M).2.2.1 o = (tt, nn) := by
    have : (sm_mR ρ N M).2.2.1 o = ρ.2.2.1 o := (if_neg (by omega)).trans (if_neg (by omega))
    rw [this]
    exact hs
  exact wp_putrF n2 hn2 hd2 hini hfp hs' hnf (k _ _ (gM.of ho hn))
end K1b
section K1c
variable {G : sm_G} {d : Nat} {I : sm_I} {ρ : sm_R}
theorem s_skyinit {a : Nat} : sm_M G xX7_init (d + 1) [.ref a] I ρ (sm_Qe none I ρ) := by
  show sm_V G xX7_init (d + 1) 0 [.ref a] [] I ρ _
  refine wp_aload0 1 rfl dX7_init_0 ?_
  refine wp_objInit 4 rfl dX7_init_1 q479 (nl rfl) ?_
  refine wp_vret dX7_init_4 rfl ?_
  exact ⟨rfl, rfl, rfl⟩
theorem s_drawninit {a : Nat} : sm_M G xX8_init (d + 2) [.ref a] I ρ (sm_Qe none I ρ) := by
  show sm_V G xX8_init (d + 2) 0 [.ref a] [] I ρ _
  refine wp_aload0 1 rfl dX8_init_0 ?_
  refine wp_INe0 4 rfl dX8_init_1 kX7_init lX8_3 rfl (nl rfl) (nl rfl) (s_skyinit) ?_
  refine wp_vret dX8_init_4 rfl ?_
  exact ⟨rfl, rfl, rfl⟩
theorem s_stillinit {a : Nat} : sm_M G xX9_init (d + 2) [.ref a] I ρ (sm_Qe none I ρ) := by
  show sm_V G xX9_init (d + 2) 0 [.ref a] [] I ρ _
  refine wp_aload0 1 rfl dX9_init_0 ?_
  refine wp_INe0 4 rfl dX9_init_1 kX7_init lX9_1 rfl (nl rfl) (nl rfl) (s_skyinit) ?_
  refine wp_vret dX9_init_4 rfl ?_
  exact ⟨rfl, rfl, rfl⟩
theorem s_prinit {a x y : Nat} (hs : ρ.2.2.1 a = (4, 0)) : sm_M G xX3_init (d + 1) [.ref a, .ref x, .ref y] I ρ (sm_Qe none I (ρ.1, sm_up (sm_up ρ.2.1 a 0 (some x)) a 1 (some y), ρ.2.2)) := by
  show sm_V G xX3_init (d + 1) 0 [.ref a, .ref x, .ref y] [] I ρ _
  refine wp_aload0 1 rfl dX3_init_0 ?_
  refine wp_objInit 4 rfl dX3_init_1 q300 (nl rfl) ?_
  refine wp_aload0 5 rfl dX3_init_4 ?_
  refine wp_aload1 6 rfl dX3_init_5 ?_
  refine wp_putrF 9 rfl dX3_init_6 rfl pX3_9_4 hs (fun q => ⟨rfl, rfl⟩) ?_
  refine wp_aload0 10 rfl dX3_init_9 ?_
  refine wp_aload2 11 rfl dX3_init_10 ?_
  refine wp_putrF 14 rfl dX3_init_11 rfl pX3_15_4 hs (fun q => ⟨rfl, rfl⟩) ?_
  refine wp_vret dX3_init_14 rfl ?_
  exact ⟨rfl, rfl, rfl⟩
theorem s_akinit {a : Nat} (hs : ρ.2.2.1 a = (7, 0)) (ha : ρ.2.2.2.1 + 64 = a + 1) : sm_M G xX6_init (d + 1) [.ref a] I ρ (sm_Qv (fun I1 ρ1 => gA a 0 (a + 1) 100 9 I ρ I1 ρ1)) := by
  show sm_V G xX6_init (d + 1) 0 [.ref a] [] I ρ _
  refine wp_aload0 1 rfl dX6_init_0 ?_
  refine wp_objInit 4 rfl dX6_init_1 q409 (nl rfl) ?_
  refine wp_aload0 5 rfl dX6_init_4 ?_
  refine wp_bipush (nI 9) 7 rfl dX6_init_5 (by decide) ?_
  refine wp_gA (t := 0) 9 12 rfl rfl dX6_init_7 dX6_init_9 rfl rfl (by decide) q420 rfl (by decide) rfl pX6_7_7 hs (fun q => ⟨rfl, rfl⟩) (by omega) ha (fun I1 ρ1 h => ?_)
  refine wp_vret dX6_init_12 rfl ?_
  exact ⟨rfl, h⟩
end K1c
