/-! ===== the law's entry: constants ===== -/
set_option maxRecDepth 100000
theorem st_len : ∀ i : Fin 22, sm_len.getD i.val 0 ≤ 6 := by decide
theorem st_strs (i : Nat) (q : String × Nat × String) (hq : sm_strs[i]? = some q) : i < 22 ∧ Cond.stringRef q.1 q.2.1 q.2.2 ∈ lw_tbl := by
  match i, hq with
  | 0, hq => cases hq; exact ⟨by decide, q243⟩
  | 1, hq => cases hq; exact ⟨by decide, q244⟩
  | 2, hq => cases hq; exact ⟨by decide, q245⟩
  | 3, hq => cases hq; exact ⟨by decide, q246⟩
  | 4, hq => cases hq; exact ⟨by decide, q247⟩
  | 5, hq => cases hq; exact ⟨by decide, q248⟩
  | 6, hq => cases hq; exact ⟨by decide, q249⟩
  | 7, hq => cases hq; exact ⟨by decide, q250⟩
  | 8, hq => cases hq; exact ⟨by decide, q251⟩
  | 9, hq => cases hq; exact ⟨by decide, q252⟩
  | 10, hq => cases hq; exact ⟨by decide, q253⟩
  | 11, hq => cases hq; exact ⟨by decide, q254⟩
  | 12, hq => cases hq; exact ⟨by decide, q255⟩
  | 13, hq => cases hq; exact ⟨by decide, q256⟩
  | 14, hq => cases hq; exact ⟨by decide, q257⟩
  | 15, hq => cases hq; exact ⟨by decide, q258⟩
  | 16, hq => cases hq; exact ⟨by decide, q259⟩
  | 17, hq => cases hq; exact ⟨by decide, q260⟩
  | 18, hq => cases hq; exact ⟨by decide, q261⟩
  | 19, hq => cases hq; exact ⟨by decide, q262⟩
  | 20, hq => cases hq; exact ⟨by decide, q263⟩
  | 21, hq => cases hq; exact ⟨by decide, q203⟩
  | i + 22, hq => cases hq
/-- a static that may be null, as two numbers -/
theorem st_nul {C n d : String} {A : Nat → Prop} {U : State} {H : Heap} (h : va_Zq C n d A U H) : ∃ a f : Nat, va_Z C n d (if f = 0 then .null else .ref a) A U H := by
  rcases h with h | ⟨t, h⟩
  · exact ⟨0, 0, h⟩
  · exact ⟨t, 1, h⟩
theorem st_i32 (x : Int32) : (UInt32.ofNat x.toUInt32.toNat).toInt32 = x := by
  rw [UInt32.ofNat_toNat]
  rfl
theorem st_cst {l : Launch} {s : State} {b L : Nat} {xs : Nat → Int32} (hfl : l.stackTraces = false) (hts : ∀ w ∈ lw_tbl, w.before #[Value.ref b] s = true) (hgv : (Jvm.Cond.and given_1 narrow_1).before #[Value.ref b] s = true) (hX : va_X b L xs s s.heap) (hb : b < s.heap.size) : ∃ K : Nat → Nat, (K 49 = L ∧ K 48 = b) ∧ ∀ D dA, sm_Cst (l, s.heap, D, dA, K) s := by
  have hs : ∀ c ∈ lf_N, c.before #[Value.ref b] s = true := flat_of_before _ hgv
  have hA : ∀ a : Nat, a < s.heap.size → ¬ (fun q : Nat => s.heap.size ≤ q) a := fun a h z => Nat.not_lt.mpr z h
  obtain ⟨adK, adV, hS, hE⟩ := vk_Sof (N := 22) (tm := tmS) (len := sm_len) (byt := sm_byt) (A := fun q : Nat => s.heap.size ≤ q) (fun i hi => Nat.lt_of_le_of_lt (st_len ⟨i, hi⟩) (by decide)) (fun i hi => hs _ (lf_ex ⟨i, hi⟩)) (fun i hi => hs _ (lf_co ⟨i, hi⟩)) (fun i hi => hs _ (lf_ar ⟨i, hi⟩)) (fun i hi => hs _ (lf_le ⟨i, hi⟩)) (fun i hi j hj => hs _ (lf_el ⟨i, hi⟩ ⟨j, by have : sm_len.getD i 0 ≤ 6 := st_len ⟨i, hi⟩; omega⟩ hj)) (fun i j hi hj hn => by
    rcases Nat.lt_or_gt_of_ne hn with h | h
    · rcases lf_lt i j h hj with z | z
      · exact Or.inl (hs _ z)
      · exact Or.inr (hs _ z)
    · rcases lf_lt j i h hi with z | z
      · exact Or.inr (hs _ z)
      · exact Or.inl (hs _ z)) hA
  obtain ⟨a5, f5, z5⟩ := st_nul (va_Zqof (hts _ q188) (hts _ (lw_all_tbl q116)) (hs _ lf_1) hA)
  obtain ⟨a6, f6, z6⟩ := st_nul (va_Zqof (hts _ q190) (hts _ (lw_all_tbl q116)) (hs _ lf_2) hA)
  obtain ⟨a7, f7, z7⟩ := st_nul (va_Zqof (hts _ q641) (hts _ (lw_all_tbl q132)) (hs _ lf_3) hA)
  have zc := va_Zof (hts _ q625) (hts _ (lw_all_tbl q134)) (va_eqt (hs _ lf_6)) hA
  obtain ⟨t, ht, hT⟩ := va_Tof (ty := .object "java/lang/Object") (N := 0) (f := fun _ => .null) (by decide) (hs _ lf_4) (va_eqt (hs _ lf_5)) (fun j hj => absurd hj (Nat.not_lt_zero _)) hA
  have ze := va_Zref (hts _ q342) (hts _ (lw_all_tbl q125)) ht hA
  refine ⟨fun k => if k < 22 then adK k else if k < 44 then adV (k - 22) else if k = 44 then t else if k = 45 then a5 else if k = 46 then a6 else if k = 47 then a7 else if k = 48 then b else if k = 49 then L else if k = 55 then f5 else if k = 56 then f6 else if k = 57 then f7 else (xs (k - 100)).toUInt32.toNat, ⟨rfl, rfl⟩, fun D dA => ⟨hfl, Nat.le_refl _, ⟨fun i hi => ?_, fun i j hi hj e => ?_⟩, fun i q hq => ?_, zc, ⟨ze, hT⟩, ⟨z5, z6, z7⟩, ?_, hb⟩⟩
  · have e1 : (if i < 22 then adK i else if i < 44 then adV (i - 22) else if i = 44 then t else if i = 45 then a5 else if i = 46 then a6 else if i = 47 then a7 else if i = 48 then b else if i = 49 then L else if i = 55 then f5 else if i = 56 then f6 else if i = 57 then f7 else (xs (i - 100)).toUInt32.toNat) = adK i := if_pos hi
    have e2 : (if 22 + i < 22 then adK (22 + i) else if 22 + i < 44 then adV (22 + i - 22) else if 22 + i = 44 then t else if 22 + i = 45 then a5 else if 22 + i = 46 then a6 else if 22 + i = 47 then a7 else if 22 + i = 48 then b else if 22 + i = 49 then L else if 22 + i = 55 then f5 else if 22 + i = 56 then f6 else if 22 + i = 57 then f7 else (xs (22 + i - 100)).toUInt32.toNat) = adV i := by
      rw [if_neg (by omega), if_pos (by omega), show 22 + i - 22 = i by omega]
    have := hS.1 i hi
    rw [← e1, ← e2] at this
    exact this
  · have e : (if i < 22 then adK i else _) = (if j < 22 then adK j else _) := e
    rw [if_pos hi, if_pos hj] at e
    exact hS.2 i j hi hj e
  · obtain ⟨hi, hw⟩ := st_strs i q hq
    have hh := hE i hi
    unfold tmS at hh
    have eq : sm_strs.getD i ("", 0, "") = q := by
      rw [List.getD_eq_getElem?_getD, hq]
      rfl
    rw [eq] at hh
    have e1 : (if i < 22 then adK i else _) = adK i := if_pos hi
    have hr : vk_R q.1 q.2.1 q.2.2 (adK i) s := vk_R.of (hts _ hw) hh
    show vk_R q.1 q.2.1 q.2.2 (if i < 22 then adK i else _) s
    rw [e1]
    exact hr
  · obtain ⟨scr, h1, h2, h3, h4, h5⟩ := hX
    refine ⟨scr, h1, h2, h3, h4, fun j hj => ?_⟩
    rw [h5 j hj]
    have : sm_xs (l, s.heap, D, dA, fun k => if k < 22 then adK k else if k < 44 then adV (k - 22) else if k = 44 then t else if k = 45 then a5 else if k = 46 then a6 else if k = 47 then a7 else if k = 48 then b else if k = 49 then L else if k = 55 then f5 else if k = 56 then f6 else if k = 57 then f7 else (xs (k - 100)).toUInt32.toNat) j = xs j := by
      unfold sm_xs
      show (UInt32.ofNat (if 100 + j < 22 then _ else _)).toInt32 = _
      rw [if_neg (by omega), if_neg (by omega), if_neg (by omega), if_neg (by omega), if_neg (by omega), if_neg (by omega), if_neg (by omega), if_neg (by omega), if_neg (by omega), if_neg (by omega), if_neg (by omega), show 100 + j - 100 = j by omega]
      exact st_i32 _
    rw [this]
