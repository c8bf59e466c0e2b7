/-! ===== the law's entry: constants ===== -/
set_option maxRecDepth 100000
theorem st_len : ∀ i : Fin 22, sm_len.getD i.val 0 ≤ 6 := by decide
theorem st_strs (i : Nat) (q : String × Nat × String) (hq : sm_strs[i]? = some q) : i < 22 ∧ Cond.stringRef q.1 q.2.1 q.2.2 ∈ lw_tbl := by
  match i, hq with
  | 0, hq => cases hq; exact ⟨by decide, q243⟩
  | 1, hq => cases hq; exact ⟨by decide, q244⟩
  | 2, hq => cases hq; exact ⟨by decide, q245⟩
  | 3, hq => cases hq; exact ⟨by decide, q246⟩
  | 4, hq => cases hq; exact ⟨by decide, q247⟩
  | 5, hq => cases hq; exact ⟨by decide, q248⟩
  | 6, hq => cases hq; exact ⟨by decide, q249⟩
  | 7, hq => cases hq; exact ⟨by decide, q250⟩
  | 8, hq => cases hq; exact ⟨by decide, q251⟩
  | 9, hq => cases hq; exact ⟨by decide, q252⟩
  | 10, hq => cases hq; exact ⟨by decide, q253⟩
  | 11, hq => cases hq; exact ⟨by decide, q254⟩
  | 12, hq => cases hq; exact ⟨by decide, q255⟩
  | 13, hq => cases hq; exact ⟨by decide, q256⟩
  | 14, hq => cases hq; exact ⟨by decide, q257⟩
  | 15, hq => cases hq; exact ⟨by decide, q258⟩
  | 16, hq => cases hq; exact ⟨by decide, q259⟩
  | 17, hq => cases hq; exact ⟨by decide, q260⟩
  | 18, hq => cases hq; exact ⟨by decide, q261⟩
  | 19, hq => cases hq; exact ⟨by decide, q262⟩
  | 20, hq => cases hq; exact ⟨by decide, q263⟩
  | 21, hq => cases hq; exact ⟨by decide, q203⟩
  | i + 22, hq => cases hq
/-- a static that may be null, as two numbers -/
theorem st_nul {C n d : String} {A : Nat → Prop} {U : State} {H : Heap} (h : va_Zq C n d A U H) : ∃ a f : Nat, va_Z C n d (if f = 0 then .null else .ref a) A U H := by
  rcases h with h | ⟨t, h⟩
  · exact ⟨0, 0, h⟩
  · exact ⟨t, 1, h⟩
theorem st_i32 (x : Int32) : (UInt32.ofNat x.toUInt32.toNat).toInt32 = x := by
  rw [UInt32.ofNat_toNat]
  rfl
theorem st_cst {l : Launch} {s : State} {b L : Nat} {xs : Nat → Int32} (hfl : l.stackTraces = false) (hts : ∀ w ∈ lw_tbl, w.before #[Value.ref b] s = true) (hgv : (Jvm.Cond.and given_1 narrow_1).before #[Value.ref b] s = true) (hX : va_X b L xs s s.heap) (hb : b < s.heap.size) : ∃ K : Nat → Nat, (K 49 = L ∧ K 48 = b) ∧ ∀ D dA, sm_Cst (l, s.heap, D, dA, K) s := by
  have hs : ∀ c ∈ lf_N, c.before #[Value.ref b] s = true := flat_of_before _ hgv
  have hA : ∀ a : Nat, a < s.heap.size → ¬ (fun q : Nat => s.heap.size ≤ q) a := fun a h z => Nat.not_lt.mpr z h
  obtain ⟨adK, adV, hS, hE⟩ := vk_Sof (N := 22) (tm := tmS) (len := sm_len) (byt := sm_byt) (A := fun q : Nat => s.heap.size ≤ q) (fun i hi => Nat.lt_of_le_of_lt (st_len ⟨i, hi⟩) (by decide)) (fun i hi => hs _ (lf_ex ⟨i, hi⟩)) (fun i hi => hs _ (lf_co ⟨i, hi⟩)) (fun i hi => hs _ (lf_ar ⟨i, hi⟩)) (fun i hi => hs _ (lf_le ⟨i, hi⟩)) (fun i hi j hj => hs _ (lf_el ⟨i, hi⟩ ⟨j, by have : sm_len.getD i 0 ≤ 6 := st_len ⟨i, hi⟩; omega⟩ hj)) (fun i j hi hj hn => by
    rcases Nat.lt_or_gt_of_ne hn with h | h
    · rcases lf_lt i j h hj with z | z
      · exact Or.inl (hs _ z)
      · exact Or.inr (hs _ z)
    · rcases lf_lt j i h hi with z | z
      · exact Or.inr (hs _ z)
      · exact Or.inl (hs _ z)) hA
  obtain ⟨a5, f5, z5⟩ := st_nul (va_Zqof (hts _ q188) (hts _ (lw_all_tbl q116)) (hs _ lf_1) hA)
  obtain ⟨a6, f6, z6⟩ := st_nul (va_Zqof (hts _ q190) (hts _ (lw_all_tbl q116)) (hs _ lf_2) hA)
  obtain ⟨a7, f7, z7⟩ := st_nul (va_Zqof (hts _ q641) (hts _ (lw_all_tbl q132)) (hs _ lf_3) hA)
  have zc := va_Zof (hts _ q625) (hts _ (lw_all_tbl q134)) (va_eqt (hs _ lf_6)) hA
  obtain ⟨t, ht, hT⟩ := va_Tof (ty := .object "java/lang/Object") (N := 0) (f := fun _ => .null) (by decide) (hs _ lf_4) (va_eqt (hs _ lf_5)) (fun j hj => absurd hj (Nat.not_lt_zero _)) hA
  have ze := va_Zref (hts _ q342) (hts _ (lw_all_tbl q125)) ht hA
  obtain ⟨K, k1, k2, k44, ⟨k45, k46, k47⟩, ⟨k48, k49⟩, ⟨k55, k56, k57⟩, kx⟩ : ∃ K : Nat → Nat, (∀ i, i < 22 → K i = adK i) ∧ (∀ i, i < 22 → K (22 + i) = adV i) ∧ K 44 = t ∧ (K 45 = a5 ∧ K 46 = a6 ∧ K 47 = a7) ∧ (K 48 = b ∧ K 49 = L) ∧ (K 55 = f5 ∧ K 56 = f6 ∧ K 57 = f7) ∧ ∀ j, K (100 + j) = (xs j).toUInt32.toNat := by
    refine ⟨fun k => if k < 22 then adK k else if k < 44 then adV (k - 22) else if k = 44 then t else if k = 45 then a5 else if k = 46 then a6 else if k = 47 then a7 else if k = 48 then b else if k = 49 then L else if k = 55 then f5 else if k = 56 then f6 else if k = 57 then f7 else (xs (k - 100)).toUInt32.toNat, fun i hi => if_pos hi, fun i hi => ?_, rfl, ⟨rfl, rfl, rfl⟩, ⟨rfl, rfl⟩, ⟨rfl, rfl, rfl⟩, fun j => ?_⟩
    · show (if 22 + i < 22 then _ else _) = _
      rw [if_neg (by omega), if_pos (by omega), show 22 + i - 22 = i by omega]
    · show (if 100 + j < 22 then _ else _) = _
      rw [if_neg (by omega), if_neg (by omega), if_neg (by omega), if_neg (by omega), if_neg (by omega), if_neg (by omega), if_neg (by omega), if_neg (by omega), if_neg (by omega), if_neg (by omega), if_neg (by omega), show 100 + j - 100 = j by omega]
  refine ⟨K, ⟨k49, k48⟩, fun D dA => ⟨hfl, Nat.le_refl _, ⟨fun i hi => ?_, fun i j hi hj e => ?_⟩, fun i q hq => ?_, zc, ⟨?_, ?_⟩, ⟨?_, ?_, ?_⟩, ?_, ?_⟩⟩
  · show va_O "java/lang/String" (K i) _ s s.heap ∧ va_OF "java/lang/String" "coder" "B" (.int 0) (K i) _ s s.heap ∧ va_OF "java/lang/String" "value" "[B" (.ref (K (22 + i))) (K i) _ s s.heap ∧ va_T .byte (K (22 + i)) _ _ _ s s.heap
    rw [k1 i hi, k2 i hi]
    exact hS.1 i hi
  · have e : K i = K j := e
    rw [k1 i hi, k1 j hj] at e
    exact hS.2 i j hi hj e
  · obtain ⟨hi, hw⟩ := st_strs i q hq
    have hh := hE i hi
    unfold tmS at hh
    have eq : sm_strs.getD i ("", 0, "") = q := by
      rw [List.getD_eq_getElem?_getD, hq]
      rfl
    rw [eq] at hh
    show vk_R q.1 q.2.1 q.2.2 (K i) s
    rw [k1 i hi]
    exact vk_R.of (hts _ hw) hh
  · show va_Z _ _ _ (.ref (K 44)) _ s s.heap
    rw [k44]
    exact ze
  · show va_T _ (K 44) 0 _ _ s s.heap
    rw [k44]
    exact hT
  · show va_Z _ _ _ (if K 55 = 0 then .null else .ref (K 45)) _ s s.heap
    rw [k55, k45]
    exact z5
  · show va_Z _ _ _ (if K 56 = 0 then .null else .ref (K 46)) _ s s.heap
    rw [k56, k46]
    exact z6
  · show va_Z _ _ _ (if K 57 = 0 then .null else .ref (K 47)) _ s s.heap
    rw [k57, k47]
    exact z7
  · obtain ⟨scr, h1, h2, h3, h4, h5⟩ := hX
    refine ⟨scr, ?_, h2, h3, ?_, fun j hj => ?_⟩
    · show s.heap[K 48]? = _
      rw [k48]
      exact h1
    · show scr.slots.size = K 49
      rw [k49]
      exact h4
    · have hj : j < K 49 := hj
      rw [k49] at hj
      rw [h5 j hj]
      have : sm_xs (l, s.heap, D, dA, K) j = xs j := by
        show (UInt32.ofNat (K (100 + j))).toInt32 = _
        rw [kx j]
        exact st_i32 _
      rw [this]
  · show K 48 < _
    rw [k48]
    exact hb
