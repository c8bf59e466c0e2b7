/-! ===== rows stay rows; a town's cells, one by one ===== -/
set_option maxRecDepth 100000
def tWs (b : Nat) : List Nat := (List.range 16).map (fun k => b + k)
theorem tWs_mem {b a : Nat} : a ∈ tWs b ↔ b ≤ a ∧ a < b + 16 := by
  unfold tWs
  rw [List.mem_map]
  constructor
  · rintro ⟨k, hk, rfl⟩
    rw [List.mem_range] at hk
    omega
  · intro h
    exact ⟨a - b, List.mem_range.mpr (by omega), by omega⟩
theorem tW_s {b : Nat} (hb : 79 ≤ b ∧ b ≤ 882) : tW (tWs b) := fun a ha => by
  have := tWs_mem.mp ha
  omega
theorem cf.s {W : List Nat} {I I1 : sm_I} {b : Nat} (h : cf W I I1) (hW : ∀ a ∈ W, b ≤ a ∧ a < b + 16) : cf (tWs b) I I1 := h.wk (fun a ha => tWs_mem.mpr (hW a ha))
theorem cf.su {I : sm_I} {b a k : Nat} {v : Int32} (h : b ≤ a ∧ a < b + 16) : cf (tWs b) I (sm_u I a k v) := cf.u (tWs_mem.mpr h)
theorem upd_comm {f : Nat → Int32} {i j : Nat} {x y : Int32} (h : ¬ i = j) : upd (upd f i x) j y = upd (upd f j y) i x := by
  funext k
  unfold upd
  by_cases h1 : k = j
  · rw [if_pos h1, if_neg (by omega)]
    simp [h1]
  · rw [if_neg h1]
    by_cases h2 : k = i
    · simp [h2]
    · simp [h2, h1]
theorem r_fcs_upd {F w : Nat → Int32} {d n i : Nat} {v : Int32} (h : i < 4 * d ∨ 4 * d + n ≤ i) : r_fcs F (upd w i v) d n = upd (r_fcs F w d n) i v := by
  funext j
  by_cases e : j = i
  · subst e
    rw [r_fcs_out _ _ h, pk_us, pk_us]
  · rw [pk_un e]
    unfold r_fcs
    by_cases c : 4 * d ≤ j ∧ j < 4 * d + n
    · rw [if_pos c, if_pos c]
    · rw [if_neg c, if_neg c, pk_un e]
section C7
variable {I : sm_I} {b : Nat} {w : Nat → Int32} {s v : Int32} {dd k : Nat}
theorem tR.face (h : tR I b w s) (hd : dd < 6) (hk : k < 4) (v : Int32) : tR (sm_u I (b + 2 + dd) k v) b (upd w (4 * dd + k) v) s := by
  obtain ⟨h1, h2, h3, h4, h5, h6, h7⟩ := h
  have sb : sm_u I (b + 2 + dd) k v b = I b := sm_u_ne _ _ _ (by omega)
  have sk : ∀ j, 8 ≤ j → sm_u I (b + 2 + dd) k v (b + j) = I (b + j) := fun j hj => sm_u_ne _ _ _ (by omega)
  refine ⟨fun d' k' hd' hk' => ?_, fun d' hd' => ?_, fun c hc => ?_, ?_, ?_, ?_, ?_⟩
  · by_cases e : d' = dd
    · subst e
      rw [sm_u_eq]
      by_cases e2 : k' = k
      · subst e2
        rw [pk_us, pk_us]
      · rw [pk_un e2, pk_un (by omega)]
        exact h1 d' k' hd' hk'
    · rw [sm_u_ne _ _ _ (by omega), pk_un (by omega)]
      exact h1 d' k' hd' hk'
  · rw [sk 8 (by omega), sk 9 (by omega), sk 10 (by omega), sk 11 (by omega), pk_un (by omega), pk_un (by omega), pk_un (by omega), pk_un (by omega)]
    exact h2 d' hd'
  · rw [sk 12 (by omega), pk_un (by omega)]
    exact h3 c hc
  · rw [sb, h4]
    exact z_set_congr (fun i hi => by rw [pk_un (by omega)])
  · rw [sb, h5]
    exact z_set_congr (fun i hi => by rw [pk_un (by omega)])
  · rw [sb, pk_un (by omega)]
    exact h6
  · rw [sb]
    exact h7
/-- one of the rows by doors -/
theorem tR.row {o j : Nat} (h : tR I b w s) (ho : (o = 8 ∧ j = 24) ∨ (o = 9 ∧ j = 30) ∨ (o = 10 ∧ j = 36) ∨ (o = 11 ∧ j = 42)) (hd : dd < 6) (v : Int32) : tR (sm_u I (b + o) dd v) b (upd w (j + dd) v) s := by
  obtain ⟨h1, h2, h3, h4, h5, h6, h7⟩ := h
  have sb : sm_u I (b + o) dd v b = I b := sm_u_ne _ _ _ (by omega)
  refine ⟨fun d' k' hd' hk' => ?_, fun d' hd' => ?_, fun c hc => ?_, ?_, ?_, ?_, ?_⟩
  · rw [sm_u_ne _ _ _ (by omega), pk_un (by omega)]
    exact h1 d' k' hd' hk'
  · obtain ⟨k1, k2, k3, k4⟩ := h2 d' hd'
    have one : ∀ o' j', ((o' = 8 ∧ j' = 24) ∨ (o' = 9 ∧ j' = 30) ∨ (o' = 10 ∧ j' = 36) ∨ (o' = 11 ∧ j' = 42)) → I (b + o') d' = w (j' + d') → sm_u I (b + o) dd v (b + o') d' = upd w (j + dd) v (j' + d') := fun o' j' ho' he => by
      by_cases e : o' = o
      · subst e
        rw [sm_u_eq]
        by_cases e2 : d' = dd
        · subst e2
          rw [pk_us, show j' + d' = j + d' by omega, pk_us]
        · rw [pk_un e2, pk_un (by omega)]
          exact he
      · rw [sm_u_ne _ _ _ (by omega), pk_un (by omega)]
        exact he
    exact ⟨one 8 24 (by omega) k1, one 9 30 (by omega) k2, one 10 36 (by omega) k3, one 11 42 (by omega) k4⟩
  · rw [sm_u_ne _ _ _ (by omega), pk_un (by omega)]
    exact h3 c hc
  · rw [sb, h4]
    exact z_set_congr (fun i hi => by rw [pk_un (by omega)])
  · rw [sb, h5]
    exact z_set_congr (fun i hi => by rw [pk_un (by omega)])
  · rw [sb, pk_un (by omega)]
    exact h6
  · rw [sb]
    exact h7
theorem tR.lifted {c : Nat} (h : tR I b w s) (hc : c < 5) (v : Int32) : tR (sm_u I (b + 12) c v) b (upd w (64 + c) v) s := by
  obtain ⟨h1, h2, h3, h4, h5, h6, h7⟩ := h
  have sb : sm_u I (b + 12) c v b = I b := sm_u_ne _ _ _ (by omega)
  refine ⟨fun d' k' hd' hk' => ?_, fun d' hd' => ?_, fun c' hc' => ?_, ?_, ?_, ?_, ?_⟩
  · rw [sm_u_ne _ _ _ (by omega), pk_un (by omega)]
    exact h1 d' k' hd' hk'
  · rw [sm_u_ne _ _ _ (by omega), sm_u_ne _ _ _ (by omega), sm_u_ne _ _ _ (by omega), sm_u_ne _ _ _ (by omega), pk_un (by omega), pk_un (by omega), pk_un (by omega), pk_un (by omega)]
    exact h2 d' hd'
  · rw [sm_u_eq]
    by_cases e : c' = c
    · subst e
      rw [pk_us, pk_us]
    · rw [pk_un e, pk_un (by omega)]
      exact h3 c' hc'
  · rw [sb, h4]
    exact z_set_congr (fun i hi => by rw [pk_un (by omega)])
  · rw [sb, h5]
    exact z_set_congr (fun i hi => by rw [pk_un (by omega)])
  · rw [sb, pk_un (by omega)]
    exact h6
  · rw [sb]
    exact h7
/-- the town's own numbers: what its sets and the day come to -/
theorem tR.own {w' : Nat → Int32} {f : Nat} (h : tR I b w s) (hw : ∀ j, j < 48 ∨ (64 ≤ j ∧ j < 69) → w' j = w j) (h6 : upd (I b) f v 6 = z_set (fun r => w' (54 + r) = nI 1) 10) (h7 : upd (I b) f v 7 = z_set (fun d => w' (48 + d) = nI 1) 6) (h8 : upd (I b) f v 8 = w' 69) {s' : Int32} (h9 : upd (I b) f v 9 = s') : tR (sm_u I b f v) b w' s' := by
  obtain ⟨h1, h2, h3, h4⟩ := h
  refine ⟨fun d' k' hd' hk' => ?_, fun d' hd' => ?_, fun c' hc' => ?_, ?_⟩
  · rw [sm_u_ne _ _ _ (by omega), hw _ (by omega)]
    exact h1 d' k' hd' hk'
  · rw [sm_u_ne _ _ _ (by omega), sm_u_ne _ _ _ (by omega), sm_u_ne _ _ _ (by omega), sm_u_ne _ _ _ (by omega), hw _ (by omega), hw _ (by omega), hw _ (by omega), hw _ (by omega)]
    exact h2 d' hd'
  · rw [sm_u_ne _ _ _ (by omega), hw _ (by omega)]
    exact h3 c' hc'
  · rw [sm_u_eq]
    exact ⟨h6, h7, h8, h9⟩
theorem tR.scr {W : List Nat} {J : sm_I} (h : tR I b w s) (hf : cf W I J) (hW : ∀ a ∈ W, b + 13 ≤ a) : tR J b w s := h.kept hf (fun a h1 h2 q => by
  have := hW a q
  omega)
/-- lifted today -/
theorem tR.today (h : tR I b w s) (hd : dd < 6) : tR (sm_u I b 7 (I b 7 ||| nI 1 <<< (nI dd &&& 31))) b (upd w (48 + dd) (nI 1)) s := by
  refine h.own (fun j hj => pk_un (by omega)) ?_ ?_ ?_ ?_
  · rw [pk_un (by decide), h.2.2.2.1]
    exact z_set_congr (fun i hi => by rw [pk_un (by omega)])
  · rw [pk_us, h.2.2.2.2.1]
    refine z_set_or _ _ (by decide) hd (fun i hi => ?_) ?_
    · rw [pk_un (by omega)]
    · rw [pk_us]
  · rw [pk_un (by decide), pk_un (by omega)]
    exact h.2.2.2.2.2.1
  · rw [pk_un (by decide)]
    exact h.2.2.2.2.2.2
/-! rows stay rows -/
theorem wok_f (h : wok w) {j : Nat} (hj : j < 24) {f : Nat} (hf : f ≤ 99) : wok (upd w j (nI f)) := by
  obtain ⟨h1, h2, h3, h4⟩ := h
  refine ⟨fun i hi => ?_, fun d hd => ?_, fun r hr => ?_, w70_upd h4 (by omega) _⟩
  · by_cases e : i = j
    · exact ⟨f, hf, by rw [e, pk_us]⟩
    · rw [pk_un e]
      exact h1 i hi
  · rw [pk_un (by omega), pk_un (by omega), pk_un (by omega)]
    exact h2 d hd
  · rw [pk_un (by omega)]
    exact h3 r hr
theorem wok_any (h : wok w) {j : Nat} (hj : (24 ≤ j ∧ j < 30) ∨ (36 ≤ j ∧ j < 42) ∨ (64 ≤ j ∧ j < 70)) (v : Int32) : wok (upd w j v) := by
  obtain ⟨h1, h2, h3, h4⟩ := h
  refine ⟨fun i hi => ?_, fun d hd => ?_, fun r hr => ?_, w70_upd h4 (by omega) _⟩
  · rw [pk_un (by omega)]
    exact h1 i hi
  · rw [pk_un (by omega), pk_un (by omega), pk_un (by omega)]
    exact h2 d hd
  · rw [pk_un (by omega)]
    exact h3 r hr
theorem wok_i (h : wok w) (hd : dd < 6) {f : Nat} (hf : f ≤ 999) : wok (upd w (30 + dd) (nI f)) := by
  obtain ⟨h1, h2, h3, h4⟩ := h
  refine ⟨fun i hi => ?_, fun d hd' => ?_, fun r hr => ?_, w70_upd h4 (by omega) _⟩
  · rw [pk_un (by omega)]
    exact h1 i hi
  · obtain ⟨k1, k2, k3⟩ := h2 d hd'
    refine ⟨?_, by rw [pk_un (by omega)]; exact k2, by rw [pk_un (by omega)]; exact k3⟩
    by_cases e : d = dd
    · exact ⟨f, hf, by rw [e, pk_us]⟩
    · rw [pk_un (by omega)]
      exact k1
  · rw [pk_un (by omega)]
    exact h3 r hr
theorem wok_m (h : wok w) (hd : dd < 6) {f : Nat} (hf : f ≤ 999999) : wok (upd w (42 + dd) (nI f)) := by
  obtain ⟨h1, h2, h3, h4⟩ := h
  refine ⟨fun i hi => ?_, fun d hd' => ?_, fun r hr => ?_, w70_upd h4 (by omega) _⟩
  · rw [pk_un (by omega)]
    exact h1 i hi
  · obtain ⟨k1, k2, k3⟩ := h2 d hd'
    refine ⟨by rw [pk_un (by omega)]; exact k1, ?_, by rw [pk_un (by omega)]; exact k3⟩
    by_cases e : d = dd
    · exact ⟨f, hf, by rw [e, pk_us]⟩
    · rw [pk_un (by omega)]
      exact k2
  · rw [pk_un (by omega)]
    exact h3 r hr
theorem wok_t (h : wok w) (hd : dd < 6) {v : Int32} (hv : v = nI 0 ∨ v = nI 1) : wok (upd w (48 + dd) v) := by
  obtain ⟨h1, h2, h3, h4⟩ := h
  refine ⟨fun i hi => ?_, fun d hd' => ?_, fun r hr => ?_, w70_upd h4 (by omega) _⟩
  · rw [pk_un (by omega)]
    exact h1 i hi
  · obtain ⟨k1, k2, k3⟩ := h2 d hd'
    refine ⟨by rw [pk_un (by omega)]; exact k1, by rw [pk_un (by omega)]; exact k2, ?_⟩
    by_cases e : d = dd
    · rw [e, pk_us]
      exact hv
    · rw [pk_un (by omega)]
      exact k3
  · rw [pk_un (by omega)]
    exact h3 r hr
theorem wok_k (h : wok w) {r : Nat} (hr : r < 10) {v : Int32} (hv : v = nI 0 ∨ v = nI 1) : wok (upd w (54 + r) v) := by
  obtain ⟨h1, h2, h3, h4⟩ := h
  refine ⟨fun i hi => ?_, fun d hd' => ?_, fun r' hr' => ?_, w70_upd h4 (by omega) _⟩
  · rw [pk_un (by omega)]
    exact h1 i hi
  · rw [pk_un (by omega), pk_un (by omega), pk_un (by omega)]
    exact h2 d hd'
  · by_cases e : r' = r
    · rw [e, pk_us]
      exact hv
    · rw [pk_un (by omega)]
      exact h3 r' hr'
theorem wok_fcs (h : wok w) (hd : dd < 6) {F : Nat → Int32} (hF : ∀ p, p < 4 → ∃ f, f ≤ 99 ∧ F p = nI f) : ∀ n, n ≤ 4 → wok (r_fcs F w dd n)
  | 0, _ => by rw [r_fcs_0]; exact h
  | n + 1, hn => by
    rw [← r_fcs_s]
    obtain ⟨f, h1, h2⟩ := hF n (by omega)
    rw [h2]
    exact wok_f (wok_fcs h hd hF n (by omega)) (by omega) h1
theorem z_tow_n {a c g : Nat} (ha : a ≤ 99) (hc : c ≤ 99) (hg : g ≤ if a < c then c - a else a - c) : ∃ f, f ≤ 99 ∧ z_tow (nI a) (nI c) (nI g) = nI f := by
  unfold z_tow
  by_cases h : a < c
  · rw [if_pos h] at hg
    rw [if_pos (nI_lt h (by omega)), nI_add]
    exact ⟨a + g, by omega, rfl⟩
  · rw [if_neg h] at hg
    rw [if_neg (nI_nlt (by omega) (by omega)), pk_sub (by omega)]
    exact ⟨a - g, by omega, rfl⟩
/-- so much towards another's part, by a law -/
theorem z_go {x y : Int32} {v : Int32} (hx : ∃ f, f ≤ 99 ∧ x = nI f) (hy : ∃ f, f ≤ 99 ∧ y = nI f) : (∃ f, f ≤ 99 ∧ z_tow x y (z_within v (nI 0) (z_off x y)) = nI f) ∧ (x = y → z_within v (nI 0) (z_off x y) = 0) := by
  obtain ⟨a, ha, rfl⟩ := hx
  obtain ⟨c, hc, rfl⟩ := hy
  rw [z_off_n (by omega) (by omega)]
  have hm : (if a < c then c - a else a - c) < 1000000 := by
    by_cases h : a < c
    · rw [if_pos h]; omega
    · rw [if_neg h]; omega
  obtain ⟨g, hg, e⟩ := z_within_n v hm
  rw [e]
  refine ⟨z_tow_n ha hc hg, fun h => ?_⟩
  have hac : a = c := (nI_eq (by omega) (by omega)).mp h
  rw [hac, if_neg (Nat.lt_irrefl _), Nat.sub_self] at hg
  rw [show g = 0 by omega]
  rfl
end C7
