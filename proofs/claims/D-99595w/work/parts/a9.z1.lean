/-! ===== the law's entry: classes and arrays ===== -/
set_option maxRecDepth 100000
section Z1
variable {s : State} {args : Array Value}
theorem st_prim {ty : FieldType} (h : (Cond.arrayClass ty).before args s = true) (hn : ∀ C, ty ≠ .object C) : ∃ cA, ArrOfT s cA ty ∧ va_RA s cA ty := by
  obtain ⟨c, k, comp, f1, f2, f3⟩ := Cond.arrayClass_spec h
  refine ⟨c, fun n z => ⟨(fun k h => by cases h), k, f2, comp, f3⟩, ?_⟩
  cases ty with
  | object C => exact absurd rfl (hn C)
  | _ => exact f1
theorem st_obj {C : String} (h : (Cond.arrayOver (.object C)).before args s = true) : ∃ cA, ArrOfT s cA (.object C) ∧ va_RA s cA (.object C) := by
  obtain ⟨comp, c, k, f1, -, f2, f3, f4⟩ := Cond.arrayOver_spec h
  exact ⟨c, fun n z => ⟨(fun k h => by cases h), k, f2, comp, f3⟩, k, comp, f2, f3, f1, f4⟩
theorem st_ints (h : (Cond.arrayOver (.array .int)).before args s = true) : ∃ cA, ArrOfT s cA (.array .int) ∧ va_RA s cA (.array .int) := by
  obtain ⟨comp, c, k, f1, f2, f3, f4⟩ := Cond.arrayOver_specA h
  exact ⟨c, fun n z => ⟨(fun k h => by cases h), k, f2, comp, f3⟩, f4⟩
theorem st_arr (hts : ∀ w ∈ lw_tbl, w.before args s = true) : ∃ dA : Nat → ClassId, ∀ k ty, sm_at[k]? = some ty → ArrOfT s (dA k) ty ∧ va_RA s (dA k) ty := by
  have H : ∀ k : Nat, ∃ cA, ∀ ty, sm_at[k]? = some ty → ArrOfT s cA ty ∧ va_RA s cA ty := fun k => by
    have one : ∀ {ty : FieldType}, sm_at[k]? = some ty → (∃ cA, ArrOfT s cA ty ∧ va_RA s cA ty) → ∃ cA, ∀ ty, sm_at[k]? = some ty → ArrOfT s cA ty ∧ va_RA s cA ty := fun e ⟨cA, h⟩ => ⟨cA, fun t ht => by cases e.symm.trans ht; exact h⟩
    match k with
    | 0 => exact one rfl (st_prim (hts _ (lw_all_tbl q420)) (fun _ h => by cases h))
    | 1 => exact one rfl (st_prim (hts _ (lw_all_tbl q234)) (fun _ h => by cases h))
    | 2 => exact one rfl (st_prim (hts _ (lw_all_tbl q294)) (fun _ h => by cases h))
    | 3 => exact one rfl (st_prim (hts _ (lw_all_tbl q579)) (fun _ h => by cases h))
    | 4 => exact one rfl (st_prim (hts _ (lw_all_tbl q1714)) (fun _ h => by cases h))
    | 5 => exact one rfl (st_obj (hts _ q1081))
    | 6 => exact one rfl (st_obj (hts _ q242))
    | 7 => exact one rfl (st_obj (hts _ q470))
    | 8 => exact one rfl (st_obj (hts _ q711))
    | 9 => exact one rfl (st_obj (hts _ q356))
    | 10 => exact one rfl (st_ints (hts _ q403))
    | k + 11 => exact ⟨0, fun ty h => by cases h⟩
  exact ⟨fun k => (H k).choose, fun k => (H k).choose_spec⟩
theorem st_nw {own : String} {ix t N : Nat} (hts : ∀ w ∈ lw_tbl, w.before args s = true) (h : sm_NW own ix t N) {q : vw_C} (hq : sm_cl[t]? = some q) : ∃ D : ClassId × (Nat → Nat), u_Kn s q.1 q.2.1 q.2.2 D.1 D.2 := by
  obtain ⟨C, T, ty, hc, hin, -, hi, -⟩ := h
  cases hc.symm.trans hq
  obtain ⟨cC, iS, h⟩ := u_known (ws := lw_all) (fun w hw => hts w (lw_all_tbl hw)) hin (hts _ (lw_all_tbl hi))
  exact ⟨(cC, iS), h⟩
theorem st_cls (hts : ∀ w ∈ lw_tbl, w.before args s = true) : ∃ D : va_G, ∀ (c : Nat) (q : vw_C), sm_cl[c]? = some q → u_Kn s q.1 q.2.1 q.2.2 (D.1 c) (D.2 c) := by
  have H : ∀ k : Nat, ∃ D : ClassId × (Nat → Nat), ∀ q, sm_cl[k]? = some q → u_Kn s q.1 q.2.1 q.2.2 D.1 D.2 := fun k => by
    have one : ∀ {q : vw_C}, sm_cl[k]? = some q → (∃ D : ClassId × (Nat → Nat), u_Kn s q.1 q.2.1 q.2.2 D.1 D.2) → ∃ D : ClassId × (Nat → Nat), ∀ q, sm_cl[k]? = some q → u_Kn s q.1 q.2.1 q.2.2 D.1 D.2 := fun e ⟨D, h⟩ => ⟨D, fun t ht => by cases e.symm.trans ht; exact h⟩
    match k with
    | 0 => exact one rfl (st_nw (t := 1) hts nL_7 rfl)
    | 1 => exact one rfl (st_nw hts nL_7 rfl)
    | 2 => exact one rfl (st_nw hts nX0_25 rfl)
    | 3 => exact one rfl (st_nw hts nX0_32 rfl)
    | 4 => exact one rfl (st_nw hts nX0_39 rfl)
    | 5 => exact one rfl (st_nw hts nX0_48 rfl)
    | 6 => exact one rfl (st_nw hts nX0_59 rfl)
    | 7 => exact one rfl (st_nw hts nX5_35 rfl)
    | 8 => exact one rfl (st_nw hts nX0_79 rfl)
    | 9 => exact one rfl (st_nw hts nX0_86 rfl)
    | 10 => exact one rfl (st_nw hts nL_10 rfl)
    | 11 => exact one rfl (st_nw hts nX3_190 rfl)
    | 12 => exact one rfl (st_nw hts nX3_224 rfl)
    | 13 => exact one rfl (st_nw hts nX3_228 rfl)
    | 14 => exact one rfl (st_nw hts nX3_216 rfl)
    | 15 => exact one rfl (st_nw hts nX3_129 rfl)
    | 16 => exact one rfl (st_nw hts nX3_149 rfl)
    | 17 => exact one rfl (st_nw hts nX3_155 rfl)
    | 18 => exact one rfl (st_nw hts nX4_9 rfl)
    | 19 => exact one rfl (st_nw hts nX2_9 rfl)
    | 20 => exact one rfl (st_nw hts nX2_113 rfl)
    | k + 21 => exact ⟨(0, fun _ => 0), fun q h => by cases h⟩
  exact ⟨(fun k => (H k).choose.1, fun k => (H k).choose.2), fun k => (H k).choose_spec⟩
theorem st_good {l : Launch} {H : Heap} {D : va_G} {dA : Nat → ClassId} {K : Nat → Nat} (hts : ∀ w ∈ lw_tbl, w.before args s = true) (hD : ∀ (c : Nat) (q : vw_C), sm_cl[c]? = some q → u_Kn s q.1 q.2.1 q.2.2 (D.1 c) (D.2 c)) (hA : ∀ k ty, sm_at[k]? = some ty → ArrOfT s (dA k) ty ∧ va_RA s (dA k) ty) : sm_Good (l, H, D, dA, K) s := by
  refine ⟨⟨hD, fun k q hk => ?_⟩, fun own i y h w => va_Nw.of rfl (hts _ w), fun C T w => va_Nw.of rfl (hts _ w), fun C w => va_AO.of (hts _ w), fun x w => va_Nw.of rfl (hts _ w), hts _ q403, fun y w => va_Nw.of rfl (hts _ w)⟩
  unfold sm_tys at hk
  rw [List.getElem?_mapIdx] at hk
  obtain ⟨ty, h1, h2⟩ := Option.map_eq_some_iff.mp hk
  subst h2
  exact hA k ty h1
end Z1
