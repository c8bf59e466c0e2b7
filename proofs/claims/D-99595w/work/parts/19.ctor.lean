/-! ===== constructors: an object's arrays, made one behind another ===== -/
set_option maxRecDepth 100000
def cx (o c0 : Nat) (I0 : sm_I) (ρ0 : sm_R) (g : Nat → Int32) (L : List (Nat × Nat × Nat)) (I : sm_I) (ρ : sm_R) : Prop :=
  (ρ.2.2.2.1 + 64 = c0 + L.length ∧ ρ.2.2.2.2 = ρ0.2.2.2.2 + (L.map (fun e => e.2.2)).sum) ∧
  (∀ i e, L[i]? = some e → ρ.2.1 o e.1 = some (c0 + i) ∧ ρ.2.2.1 (c0 + i) = (e.2.1, e.2.2) ∧ (I (c0 + i) = fun _ => 0) ∧ (ρ.1 (c0 + i) = fun _ => 0) ∧ (ρ.2.1 (c0 + i) = fun _ => none)) ∧
  (∀ a, a < c0 → a ≠ o → I a = I0 a ∧ ρ.1 a = ρ0.1 a ∧ ρ.2.1 a = ρ0.2.1 a ∧ ρ.2.2.1 a = ρ0.2.2.1 a) ∧
  (I o = g ∧ ρ.1 o = ρ0.1 o ∧ ρ.2.2.1 o = ρ0.2.2.1 o ∧ ∀ f, f ∉ L.map Prod.fst → ρ.2.1 o f = ρ0.2.1 o f)
theorem cx_0 {o c0 : Nat} {I : sm_I} {ρ : sm_R} (h : ρ.2.2.2.1 + 64 = c0) : cx o c0 I ρ (I o) [] I ρ := ⟨⟨h, rfl⟩, (fun i e h => by cases h), fun _ _ _ => ⟨rfl, rfl, rfl, rfl⟩, rfl, rfl, rfl, fun _ _ => rfl⟩
theorem cx_add {o c0 : Nat} {I0 : sm_I} {ρ0 : sm_R} {g : Nat → Int32} {L : List (Nat × Nat × Nat)} {I : sm_I} {ρ : sm_R} (h : cx o c0 I0 ρ0 g L I ρ) (ho : o < c0) (f t n : Nat) (hf : f ∉ L.map Prod.fst) :
    cx o c0 I0 ρ0 g (L ++ [(f, t, n)]) (sm_zI I (c0 + L.length)) ((sm_nR ρ t n n).1, sm_up (sm_nR ρ t n n).2.1 o f (some (c0 + L.length)), (sm_nR ρ t n n).2.2) := by
  obtain ⟨⟨h1, h2⟩, h3, h4, h5, h6, h7, h8⟩ := h
  have nP : ∀ a, ¬ a = c0 + L.length → (sm_nR ρ t n n).2.1 a = ρ.2.1 a := fun a ha => if_neg (by rw [h1]; exact ha)
  have nS : ∀ a, ¬ a = c0 + L.length → (sm_nR ρ t n n).2.2.1 a = ρ.2.2.1 a := fun a ha => if_neg (by rw [h1]; exact ha)
  have nL : ∀ a, ¬ a = c0 + L.length → (sm_nR ρ t n n).1 a = ρ.1 a := fun a ha => if_neg (by rw [h1]; exact ha)
  have eP : (sm_nR ρ t n n).2.1 (c0 + L.length) = fun _ => none := if_pos h1.symm
  have eS : (sm_nR ρ t n n).2.2.1 (c0 + L.length) = (t, n) := if_pos h1.symm
  have eL : (sm_nR ρ t n n).1 (c0 + L.length) = fun _ => 0 := if_pos h1.symm
  have uo : ∀ j, ¬ j = f → sm_up (sm_nR ρ t n n).2.1 o f (some (c0 + L.length)) o j = ρ.2.1 o j := fun j hj => by
    rw [sm_up_eq]
    unfold va_up
    rw [if_neg hj, nP o (by omega)]
  refine ⟨⟨?_, ?_⟩, fun i e hi => ?_, fun a ha hao => ?_, ?_, ?_, ?_, fun j hj => ?_⟩
  · show ρ.2.2.2.1 + 1 + 64 = c0 + (L ++ [(f, t, n)]).length
    rw [List.length_append, List.length_singleton]
    omega
  · show ρ.2.2.2.2 + n = _
    rw [List.map_append, List.sum_append, h2]
    simp
    omega
  · by_cases hl : i < L.length
    · rw [List.getElem?_append_left hl] at hi
      obtain ⟨k1, k2, k3, k4, k5⟩ := h3 i e hi
      have hef : ¬ e.1 = f := fun q => hf (by rw [← q]; exact List.mem_map_of_mem (List.mem_of_getElem? hi))
      refine ⟨(uo _ hef).trans k1, (nS _ (by omega)).trans k2, by rw [sm_zI_ne _ (by omega)]; exact k3, (nL _ (by omega)).trans k4, ?_⟩
      show sm_up (sm_nR ρ t n n).2.1 o f (some (c0 + L.length)) (c0 + i) = _
      rw [sm_up_ne _ _ _ (by omega), nP _ (by omega)]
      exact k5
    · rw [List.getElem?_append_right (by omega)] at hi
      have hz : i - L.length < 1 := (List.getElem?_eq_some_iff.mp hi).1
      obtain rfl : i = L.length := by omega
      rw [Nat.sub_self] at hi
      cases hi
      refine ⟨?_, eS, sm_zI_eq I _, eL, ?_⟩
      · show sm_up (sm_nR ρ t n n).2.1 o f (some (c0 + L.length)) o f = _
        rw [sm_up_eq]
        exact if_pos rfl
      · show sm_up (sm_nR ρ t n n).2.1 o f (some (c0 + L.length)) (c0 + L.length) = _
        rw [sm_up_ne _ _ _ (by omega)]
        exact eP
  · obtain ⟨k1, k2, k3, k4⟩ := h4 a ha hao
    refine ⟨by rw [sm_zI_ne _ (by omega)]; exact k1, (nL _ (by omega)).trans k2, ?_, (nS _ (by omega)).trans k4⟩
    show sm_up (sm_nR ρ t n n).2.1 o f (some (c0 + L.length)) a = _
    rw [sm_up_ne _ _ _ hao, nP _ (by omega)]
    exact k3
  · rw [sm_zI_ne _ (by omega)]
    exact h5
  · exact (nL _ (by omega)).trans h6
  · exact (nS _ (by omega)).trans h7
  · rw [List.map_append] at hj
    have hj1 : ¬ j = f := fun q => hj (List.mem_append_right _ (by rw [q]; exact List.mem_cons_self))
    have hj2 : j ∉ L.map Prod.fst := fun q => hj (List.mem_append_left _ q)
    exact (uo j hj1).trans (h8 j hj2)
theorem cx_i {o c0 : Nat} {I0 : sm_I} {ρ0 : sm_R} {g : Nat → Int32} {L : List (Nat × Nat × Nat)} {I : sm_I} {ρ : sm_R} (h : cx o c0 I0 ρ0 g L I ρ) (ho : o < c0) (f : Nat) (v : Int32) : cx o c0 I0 ρ0 (upd g f v) L (sm_u I o f v) ρ := by
  obtain ⟨h1, h3, h4, h5, h6, h7, h8⟩ := h
  refine ⟨h1, fun i e hi => ?_, fun a ha hao => ?_, ?_, h6, h7, h8⟩
  · obtain ⟨k1, k2, k3, k4, k5⟩ := h3 i e hi
    exact ⟨k1, k2, by rw [sm_u_ne _ _ _ (by omega)]; exact k3, k4, k5⟩
  · rw [sm_u_ne _ _ _ hao]
    exact h4 a ha hao
  · rw [sm_u_eq, h5]
section WPX
variable {G : sm_G} {X : sm_X} {d pc : Nat} {lv st : List Value} {I : sm_I} {ρ : sm_R} {Q : sm_O → sm_I → sm_R → Prop}
theorem wp_cx {atype : ArrayType} {ix t N f tt nn o c0 : Nat} {ty fty : FieldType} {z : Int32} {I0 : sm_I} {ρ0 : sm_R} {g : Nat → Int32} {L : List (Nat × Nat × Nat)} (n1 n2 : Nat) (hn1 : pc + 2 = n1) (hn2 : n1 + 3 = n2) (hd1 : decode X.2.1 pc = .ok (.newarray atype, 2)) (hd2 : decode X.2.1 n1 = .ok (.putfield ix, 3)) (hty : newarray.typeOf atype = ty) (hat : sm_at[t]? = some ty) (ht : t < 5) (hq : Cond.arrayClass ty ∈ lw_all) (hz : z = nI N) (hN : N < 1000000) (hini : X.2.2.2.2.1 = "<init>") (hfp : sm_FP X.1 ix tt f 2 fty true) (hs : ρ0.2.2.1 o = (tt, nn)) (hnf : ∀ q : Nat, narrow fty (.ref q) = .ref q ∧ fits fty (.ref q) = true) (h : cx o c0 I0 ρ0 g L I ρ) (ho : o < c0) (hf : f ∉ L.map Prod.fst)
    (k : ∀ I1 ρ1, cx o c0 I0 ρ0 g (L ++ [(f, t + 100, N)]) I1 ρ1 → sm_V G X d n2 lv st I1 ρ1 Q) : sm_V G X d pc lv (.int z :: .ref o :: st) I ρ Q := by
  refine wp_newa n1 hn1 hd1 hty hat ht hq hz hN (c0 + L.length) h.1.1 ?_
  have hs' : (sm_nR ρ (t + 100) N N).2.2.1 o = (tt, nn) := by
    have : (sm_nR ρ (t + 100) N N).2.2.1 o = ρ.2.2.1 o := if_neg (by have := h.1.1; omega)
    rw [this, h.2.2.2.2.2.1]
    exact hs
  exact wp_putrF n2 hn2 hd2 hini hfp hs' hnf (k _ _ (cx_add h ho f (t + 100) N hf))
theorem wp_cxq {ix ic t N f tt nn o c0 : Nat} {C : String} {fty : FieldType} {z : Int32} {I0 : sm_I} {ρ0 : sm_R} {g : Nat → Int32} {L : List (Nat × Nat × Nat)} (n1 n2 : Nat) (hn1 : pc + 3 = n1) (hn2 : n1 + 3 = n2) (hd1 : decode X.2.1 pc = .ok (.anewarray ic, 3)) (hd2 : decode X.2.1 n1 = .ok (.putfield ix, 3)) (hcl : Cond.classLink X.1 ic C ∈ lw_all) (hao : Cond.arrayOver (.object C) ∈ lw_tbl) (hat : sm_at[t]? = some (.object C)) (ht : 4 < t) (hz : z = nI N) (hN : N < 1000000) (hini : X.2.2.2.2.1 = "<init>") (hfp : sm_FP X.1 ix tt f 2 fty true) (hs : ρ0.2.2.1 o = (tt, nn)) (hnf : ∀ q : Nat, narrow fty (.ref q) = .ref q ∧ fits fty (.ref q) = true) (h : cx o c0 I0 ρ0 g L I ρ) (ho : o < c0) (hf : f ∉ L.map Prod.fst)
    (k : ∀ I1 ρ1, cx o c0 I0 ρ0 g (L ++ [(f, t + 100, N)]) I1 ρ1 → sm_V G X d n2 lv st I1 ρ1 Q) : sm_V G X d pc lv (.int z :: .ref o :: st) I ρ Q := by
  refine wp_newq n1 hn1 hd1 hcl hao hat ht hz hN (c0 + L.length) h.1.1 ?_
  have hs' : (sm_nR ρ (t + 100) N N).2.2.1 o = (tt, nn) := by
    have : (sm_nR ρ (t + 100) N N).2.2.1 o = ρ.2.2.1 o := if_neg (by have := h.1.1; omega)
    rw [this, h.2.2.2.2.2.1]
    exact hs
  exact wp_putrF n2 hn2 hd2 hini hfp hs' hnf (k _ _ (cx_add h ho f (t + 100) N hf))
end WPX
