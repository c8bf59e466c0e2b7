/-! ===== rows of sm_V: new cells, casts, statics, natives, throws ===== -/
set_option maxRecDepth 100000
def sm_zI (I : sm_I) (a : Nat) : sm_I := fun b => if b = a then fun _ => 0 else I b
def sm_nR (ρ : sm_R) (t n sl : Nat) : sm_R := (fun b => if b = ρ.2.2.2.1 + 64 then fun _ => 0 else ρ.1 b, fun b => if b = ρ.2.2.2.1 + 64 then fun _ => none else ρ.2.1 b, fun b => if b = ρ.2.2.2.1 + 64 then (t, n) else ρ.2.2.1 b, ρ.2.2.2.1 + 1, ρ.2.2.2.2 + sl)
theorem sm_zI_eq (I : sm_I) (a : Nat) : sm_zI I a a = fun _ => 0 := if_pos rfl
theorem sm_zI_ne (I : sm_I) {a b : Nat} (h : b ≠ a) : sm_zI I a b = I b := if_neg h
theorem sm_nR_ent {G : sm_G} {I : sm_I} {ρ : sm_R} {t n sl b : Nat} (h : b < ρ.2.2.2.1 + 64) : sm_ent G (sm_zI I (ρ.2.2.2.1 + 64)) (sm_nR ρ t n sl) b = sm_ent G I ρ b := by
  have hne : b ≠ ρ.2.2.2.1 + 64 := by omega
  have e1 : (sm_nR ρ t n sl).2.2.1 b = ρ.2.2.1 b := if_neg hne
  have e2 : (sm_nR ρ t n sl).2.1 b = ρ.2.1 b := if_neg hne
  have e3 : (sm_nR ρ t n sl).1 b = ρ.1 b := if_neg hne
  unfold sm_ent
  rw [e1, e2, e3, sm_zI_ne I hne]
/-- a grid of ints: outer cell, inner cells -/
def sm_mI (I : sm_I) (a N : Nat) : sm_I := fun b => if a ≤ b ∧ b ≤ a + N then fun _ => 0 else I b
def sm_mR (ρ : sm_R) (N M : Nat) : sm_R := (fun b => if ρ.2.2.2.1 + 64 ≤ b ∧ b ≤ ρ.2.2.2.1 + 64 + N then fun _ => 0 else ρ.1 b, fun b => if b = ρ.2.2.2.1 + 64 then (fun j => if j < N then some (ρ.2.2.2.1 + 65 + j) else none) else if ρ.2.2.2.1 + 64 < b ∧ b ≤ ρ.2.2.2.1 + 64 + N then fun _ => none else ρ.2.1 b,
  fun b => if b = ρ.2.2.2.1 + 64 then (110, N) else if ρ.2.2.2.1 + 64 < b ∧ b ≤ ρ.2.2.2.1 + 64 + N then (100, M) else ρ.2.2.1 b, ρ.2.2.2.1 + 1 + N, ρ.2.2.2.2 + N + N * M)
theorem sm_mR_ent {G : sm_G} {I : sm_I} {ρ : sm_R} {N M b : Nat} (h : b < ρ.2.2.2.1 + 64) : sm_ent G (sm_mI I (ρ.2.2.2.1 + 64) N) (sm_mR ρ N M) b = sm_ent G I ρ b := by
  have e1 : (sm_mR ρ N M).2.2.1 b = ρ.2.2.1 b := by
    show (if b = ρ.2.2.2.1 + 64 then (110, N) else if ρ.2.2.2.1 + 64 < b ∧ b ≤ ρ.2.2.2.1 + 64 + N then (100, M) else ρ.2.2.1 b) = _
    rw [if_neg (by omega), if_neg (by omega)]
  have e2 : (sm_mR ρ N M).2.1 b = ρ.2.1 b := by
    show (if b = ρ.2.2.2.1 + 64 then (fun j => if j < N then some (ρ.2.2.2.1 + 65 + j) else none) else if ρ.2.2.2.1 + 64 < b ∧ b ≤ ρ.2.2.2.1 + 64 + N then fun _ => none else ρ.2.1 b) = _
    rw [if_neg (by omega), if_neg (by omega)]
  have e3 : (sm_mR ρ N M).1 b = ρ.1 b := if_neg (by omega)
  have e4 : sm_mI I (ρ.2.2.2.1 + 64) N b = I b := if_neg (by omega)
  unfold sm_ent
  rw [e1, e2, e3, e4]
theorem sm_ws_app {G : sm_G} {I I' : sm_I} {ρ ρ' : sm_R} (hn : ∀ b, b < ρ.2.2.2.1 + 64 → sm_ent G I' ρ' b = sm_ent G I ρ b) : ∀ k : Nat, (List.range (ρ.2.2.2.1 + k)).map (fun j => (G.2.1.size + j, sm_ent G I' ρ' (j + 64))) = sm_ws G I ρ ++ (List.range k).map (fun j => (G.2.1.size + (ρ.2.2.2.1 + j), sm_ent G I' ρ' (ρ.2.2.2.1 + j + 64)))
  | 0 => by
    rw [Nat.add_zero, List.range_zero, List.map_nil, List.append_nil]
    unfold sm_ws
    apply List.map_congr_left
    intro j hj
    rw [List.mem_range] at hj
    rw [hn (j + 64) (by omega)]
  | k + 1 => by
    rw [show ρ.2.2.2.1 + (k + 1) = (ρ.2.2.2.1 + k) + 1 by omega, List.range_succ, List.map_append, sm_ws_app hn k, List.range_succ (n := k), List.map_append, List.append_assoc]
    rfl
theorem sm_outer (c : ClassId) (N h0 : Nat) : ∀ i, Jvm.Free.Multi.outerC c N h0 i = { cls := c, slots := (Jvm.Free.Multi.outerC c N h0 i).slots, vm := .none }
  | 0 => rfl
  | i + 1 => by
    have ih := sm_outer c N h0 i
    show (Jvm.Free.Multi.outerC c N h0 i).setSlot i _ = { cls := c, slots := ((Jvm.Free.Multi.outerC c N h0 i).setSlot i _).slots, vm := .none }
    generalize Jvm.Free.Multi.outerC c N h0 i = C at ih
    cases C with
    | mk a b m h v =>
      cases ih
      rfl
/-- the default of a field's type, by its kind -/
def sm_dv (ty : FieldType) (κ : Nat) : Bool := match defaultValue ty with
  | .int x => x == 0 && κ == 0
  | .null => κ == 2
  | _ => false
def sm_NW (own : String) (ix t N : Nat) : Prop := ∃ (C : String) (T : u_T) (ty : Nat → FieldType), sm_cl[t]? = some (C, T, N) ∧ (∀ w ∈ u_ws C T N, w ∈ lw_all) ∧ Cond.classLink own ix C ∈ lw_all ∧ Cond.instantiable C N ∈ lw_all ∧ Cond.initialized C ∈ lw_all ∧ t ≠ 0 ∧ t < 100 ∧ (∀ k, k < N → parseFieldDescriptor (T k).2.2.1 = some (ty k)) ∧ (List.range N).all (fun j => sm_dv (ty j) ((sm_kinds.getD t []).getD j 9)) = true
section WPN
variable {G : sm_G} {X : sm_X} {d pc : Nat} {lv st : List Value} {I : sm_I} {ρ : sm_R} {Q : sm_O → sm_I → sm_R → Prop}
theorem sm_mkN {pc' k sl : Nat} {st' : List Value} {I1 : sm_I} {ρ1 : sm_R} (hz : ρ1.2.2.2.1 = ρ.2.2.2.1 + k) (hsl : ρ1.2.2.2.2 = ρ.2.2.2.2 + sl) (hent : ∀ b, b < ρ.2.2.2.1 + 64 → sm_ent G I1 ρ1 b = sm_ent G I ρ b) (hin : ∀ b, (ρ1.2.2.1 b).1 ≠ 0 → (ρ.2.2.1 b).1 ≠ 0 ∨ ρ.2.2.2.1 + 64 ≤ b ∧ b < ρ.2.2.2.1 + k + 64)
    (h : ∀ (p : Program) (e : Env) (R : Room) (s : State) (m : MethodId) (args : Array Value) (below : List Frame) (meth : Method) (c : Code) (H : Heap) (locs : List Loc) (cells slots : Nat) (ls : Array Slot) (QQ : State → Prop), sm_Fr G X p s m args meth c → sm_Rep G I ρ H → cells + k ≤ R.cells → slots + sl ≤ R.slots →
      (∀ (H1 : Heap), (∀ j, j < k → va_at G.2.2.1 sm_cl (H.size + j, sm_ent G I1 ρ1 (ρ.2.2.2.1 + j + 64)) H1) → H1.size = H.size + k → (∀ q, q < H.size → H1[q]? = H[q]?) → W p G.1 e R s m args below meth c H1 locs (cells + k) (slots + sl) QQ (F0 m pc' ls (st'.map (sm_cv G)))) → W p G.1 e R s m args below meth c H locs cells slots QQ (F0 m pc ls (st.map (sm_cv G))))
    (kk : sm_V G X d pc' lv st' I1 ρ1 Q) : sm_V G X d pc lv st I ρ Q := by
  obtain ⟨o, I', ρ', h1, h2, h3, h4⟩ := kk
  rw [hz] at h2
  rw [hsl] at h3
  refine ⟨o, I', ρ', h1, by omega, by omega, fun p e R s m args below meth c H locs cells slots mc ms ls F a1 a2 a3 a4 a5 a6 a7 a8 a9 => h p e R s m args below meth c H locs cells slots ls _ F a7 (by omega) (by omega) (fun H1 e1 z1 o1 => ?_)⟩
  have hk : ∀ (k : Nat) (x : Nat × va_E), (sm_ws G I ρ)[k]? = some x → H1[x.1]? = H[x.1]? := fun k x hx => o1 x.1 ((a7.1 k x hx).lt)
  refine h4 p e R s m args below meth c H1 locs (cells + k) (slots + sl) mc ms ls F a1 a2 (by rw [hz]; omega) a4 (by rw [hsl]; omega) a6 ⟨?_, ?_, ?_, ?_⟩ ⟨Nat.le_trans a8.1 (by omega), fun x h1 h2 => (o1 x (Nat.lt_of_lt_of_le h1 a8.1)).trans (a8.2.1 x h1 h2), a8.2.2⟩ a9
  · show va_P _ _ ((List.range ρ1.2.2.2.1).map _) _
    rw [hz, sm_ws_app hent k]
    refine (a7.1.kept hk).app (fun j x hx => ?_)
    rw [List.getElem?_map] at hx
    obtain ⟨y, hy, rfl⟩ := Option.map_eq_some_iff.mp hx
    obtain ⟨hy1, hy2⟩ := List.getElem?_eq_some_iff.mp hy
    rw [List.getElem_range] at hy2
    subst hy2
    rw [List.length_range] at hy1
    have := e1 j hy1
    rw [a7.2.1, Nat.add_assoc] at this
    exact this
  · rw [z1, a7.2.1, hz]
    omega
  · exact fun q hq => (o1 q (by rw [a7.2.1]; omega)).trans (a7.2.2.1 q hq)
  · intro b hb
    rw [hz]
    rcases hin b hb with h | h
    · have := a7.2.2.2 b h
      omega
    · omega
theorem sm_ad_new {H : Heap} (RP : sm_Rep G I ρ H) : sm_ad G (ρ.2.2.2.1 + 64) = H.size := by
  unfold sm_ad
  rw [if_neg (by omega), RP.2.1]
  congr 1
theorem sm_mk {pc' t n sl : Nat} {st' : List Value}
    (h : ∀ (p : Program) (e : Env) (R : Room) (s : State) (m : MethodId) (args : Array Value) (below : List Frame) (meth : Method) (c : Code) (H : Heap) (locs : List Loc) (cells slots : Nat) (ls : Array Slot) (QQ : State → Prop), sm_Fr G X p s m args meth c → sm_Rep G I ρ H → cells + 1 ≤ R.cells → slots + sl ≤ R.slots →
      (∀ (H1 : Heap), va_at G.2.2.1 sm_cl (H.size, sm_ent G (sm_zI I (ρ.2.2.2.1 + 64)) (sm_nR ρ t n sl) (ρ.2.2.2.1 + 64)) H1 → H1.size = H.size + 1 → (∀ q, q < H.size → H1[q]? = H[q]?) → W p G.1 e R s m args below meth c H1 locs (cells + 1) (slots + sl) QQ (F0 m pc' ls (.ref H.size :: st'.map (sm_cv G)))) → W p G.1 e R s m args below meth c H locs cells slots QQ (F0 m pc ls (st.map (sm_cv G))))
    (kk : sm_V G X d pc' lv (.ref (ρ.2.2.2.1 + 64) :: st') (sm_zI I (ρ.2.2.2.1 + 64)) (sm_nR ρ t n sl) Q) : sm_V G X d pc lv st I ρ Q := by
  refine sm_mkN (k := 1) (sl := sl) rfl rfl (fun b hb => sm_nR_ent hb) (fun b hb => ?_) (fun p e R s m args below meth c H locs cells slots ls QQ F RP hc1 hs1 k => ?_) kk
  · by_cases he : b = ρ.2.2.2.1 + 64
    · omega
    · have : (sm_nR ρ t n sl).2.2.1 b = ρ.2.2.1 b := if_neg he
      rw [this] at hb
      exact Or.inl hb
  · refine h p e R s m args below meth c H locs cells slots ls QQ F RP hc1 hs1 (fun H1 e1 z1 o1 => ?_)
    have := k H1 (fun j hj => by
      obtain rfl : j = 0 := by omega
      exact e1) z1 o1
    rw [List.map_cons, sm_cv_ref, sm_ad_new RP] at this
    exact this
theorem sm_nR_at {t n sl : Nat} : (sm_nR ρ t n sl).2.2.1 (ρ.2.2.2.1 + 64) = (t, n) := if_pos rfl
theorem wp_new {ix t N : Nat} (n : Nat) (hn : pc + 3 = n) (hd : decode X.2.1 pc = .ok (.new ix, 3)) (hw : sm_NW X.1 ix t N) (a : Nat) (ha : ρ.2.2.2.1 + 64 = a) (k : sm_V G X d n lv (.ref a :: st) (sm_zI I a) (sm_nR ρ t 0 N) Q) : sm_V G X d pc lv st I ρ Q := by
  subst hn
  subst ha
  obtain ⟨C, T, ty, hc, hin, hcl, hinst, hini, ht0, ht, hty, hall⟩ := hw
  refine sm_mk (fun p e R s m args below meth c H locs cells slots ls QQ F RP hc1 hs1 k => ?_) k
  obtain ⟨hx, hb, hml, hr, hnm, hex, hlk, hown, hts, hgood, hcst⟩ := F
  have hKn := hgood.1.1 t _ hc
  refine W.newcK hx hb hown (hts _ hcl) (hts _ hinst) (hts _ hini) rfl hd hc1 hs1 hKn.2.1 rfl fun H1 kC hkC e1 z1 o1 => ?_
  refine k H1 ?_ z1 o1
  rw [sm_ent_obj sm_nR_at ht]
  refine ⟨_, hc, (u_born ty hts hin hKn hkC e1 hty).to (fun j hj => ?_)⟩
  have h9 := List.all_eq_true.mp hall j (List.mem_range.mpr hj)
  unfold vp_V
  rw [List.getD_eq_getElem?_getD]
  cases hkk : (sm_kinds.getD t [])[j]? with
  | none =>
    rw [List.getD_eq_getElem?_getD, hkk] at h9
    unfold sm_dv at h9
    cases hdv : defaultValue (ty j) <;> rw [hdv] at h9 <;> simp at h9
  | some κ =>
    rw [sm_fl_at hkk]
    rw [List.getD_eq_getElem?_getD, hkk] at h9
    have p1 : sm_zI I (ρ.2.2.2.1 + 64) (ρ.2.2.2.1 + 64) j = 0 := by rw [sm_zI_eq]
    have p2 : (sm_nR ρ t 0 N).2.1 (ρ.2.2.2.1 + 64) j = none := by
      show (if ρ.2.2.2.1 + 64 = ρ.2.2.2.1 + 64 then fun _ => none else ρ.2.1 (ρ.2.2.2.1 + 64)) j = none
      rw [if_pos rfl]
    rw [p1, p2]
    unfold sm_dv at h9
    simp only [Option.getD_some] at h9 ⊢
    unfold sm_val
    cases hdv : defaultValue (ty j) <;> rw [hdv] at h9 <;> simp at h9
    · obtain ⟨h10, h11⟩ := h9
      subst h10
      subst h11
      rfl
    · subst h9
      rfl
/-- an array of numbers -/
theorem wp_newa {atype : ArrayType} {t N : Nat} {ty : FieldType} {z : Int32} (n : Nat) (hn : pc + 2 = n) (hd : decode X.2.1 pc = .ok (.newarray atype, 2)) (hty : newarray.typeOf atype = ty) (hat : sm_at[t]? = some ty) (ht : t < 5) (hq : Cond.arrayClass ty ∈ lw_all) (hz : z = nI N) (hN : N < 1000000) (a : Nat) (ha : ρ.2.2.2.1 + 64 = a) (k : sm_V G X d n lv (.ref a :: st) (sm_zI I a) (sm_nR ρ (t + 100) N N) Q) : sm_V G X d pc lv (.int z :: st) I ρ Q := by
  subst hn
  subst ha
  subst hz
  subst hty
  refine sm_mk (fun p e R s m args below meth c H locs cells slots ls QQ F RP hc1 hs1 k => ?_) k
  obtain ⟨hx, hb, hml, hr, hnm, hex, hlk, hown, hts, hgood, hcst⟩ := F
  have hneg : ¬ nI N < 0 := nI_pos (by omega)
  refine va_newaK hx hb (hts _ hq) rfl hd rfl hneg (nI_clamp (by omega)) ?_ hc1 hs1 rfl fun H1 cA e1 z1 o1 hAr hNm => ?_
  · have : componentBytes (newarray.typeOf atype) ≤ 8 := by cases atype <;> decide
    have := Nat.mul_le_mul_left N this
    omega
  · have hra := (hgood.1.2 t _ (sm_ty_at hat)).2
    have hcA : G.2.2.2.1 t = cA := by
      have : s.vm.findClass ("[" ++ (newarray.typeOf atype).toString) = some (G.2.2.2.1 t) := by
        cases atype <;> exact hra
      exact Option.some.inj (this.symm.trans hNm)
    refine k H1 ?_ z1 o1
    have p1 : sm_zI I (ρ.2.2.2.1 + 64) (ρ.2.2.2.1 + 64) = fun _ => 0 := sm_zI_eq I _
    have p2 : (sm_nR ρ (t + 100) N N).1 (ρ.2.2.2.1 + 64) = fun _ => 0 := if_pos rfl
    rcases Nat.lt_or_ge t 4 with h4 | h4
    · rw [sm_ent_i sm_nR_at h4, p1]
      show H1[H.size]? = some (vp_cell _ _)
      rw [vp_cell_i, hcA, e1]
      obtain rfl | rfl | rfl | rfl : t = 0 ∨ t = 1 ∨ t = 2 ∨ t = 3 := by omega
      · rw [← Option.some.inj hat]; rfl
      · rw [← Option.some.inj hat]; rfl
      · rw [← Option.some.inj hat]; rfl
      · rw [← Option.some.inj hat]; rfl
    · obtain rfl : t = 4 := by omega
      rw [sm_ent_l sm_nR_at, p2]
      show H1[H.size]? = some (vp_cell _ _)
      rw [vp_cell_l, hcA, e1, ← Option.some.inj hat]
      rfl
/-- an array of references -/
theorem wp_newq {ix t N : Nat} {C : String} {z : Int32} (n : Nat) (hn : pc + 3 = n) (hd : decode X.2.1 pc = .ok (.anewarray ix, 3)) (hcl : Cond.classLink X.1 ix C ∈ lw_all) (hao : Cond.arrayOver (.object C) ∈ lw_tbl) (hat : sm_at[t]? = some (.object C)) (ht : 4 < t) (hz : z = nI N) (hN : N < 1000000) (a : Nat) (ha : ρ.2.2.2.1 + 64 = a) (k : sm_V G X d n lv (.ref a :: st) (sm_zI I a) (sm_nR ρ (t + 100) N N) Q) : sm_V G X d pc lv (.int z :: st) I ρ Q := by
  subst hn
  subst ha
  subst hz
  refine sm_mk (fun p e R s m args below meth c H locs cells slots ls QQ F RP hc1 hs1 k => ?_) k
  obtain ⟨hx, hb, hml, hr, hnm, hex, hlk, hown, hts, hgood, hcst⟩ := F
  have hneg : ¬ nI N < 0 := nI_pos (by omega)
  have hcl9 : (nI N).toNatClampNeg = N := nI_clamp (by omega)
  refine W.anew hx hb hown (hts _ hcl) (va_AO.use (hgood.2.2.2.1 _ hao)) rfl hd rfl hneg (by rw [hcl9]; omega) hc1 (by rw [hcl9]; exact hs1) fun cA kA comp f1 f2 f3 f4 => ?_
  rw [hcl9]
  generalize hH1 : H.push ({ cls := cA, slots := Array.replicate N .null, vm := .none } : Cell) = H1
  have z1 : H1.size = H.size + 1 := by rw [← hH1, Array.size_push]
  have e1 : H1[H.size]? = some (arrV cA N (fun _ => .null)) := by rw [← hH1, Array.getElem?_push_size, ← arrV_new]
  have o1 : ∀ q : Nat, q < H.size → H1[q]? = H[q]? := fun q hq => by rw [← hH1, Array.getElem?_push, if_neg (Nat.ne_of_lt hq)]
  obtain ⟨kA2, comp2, g1, g2, g3, g4⟩ := (hgood.1.2 t _ (sm_ty_at hat)).2
  have hcA : G.2.2.2.1 t = cA := Option.some.inj (g4.symm.trans f1)
  refine k H1 ?_ z1 o1
  rw [sm_ent_p sm_nR_at ht]
  show H1[H.size]? = some (vp_cell _ _)
  rw [vp_cell_q, hcA, e1]
  congr 2
  funext j
  show _ = va_rf (((if ρ.2.2.2.1 + 64 = ρ.2.2.2.1 + 64 then fun _ => none else ρ.2.1 (ρ.2.2.2.1 + 64)) j).map (sm_ad G))
  rw [if_pos rfl]
  rfl
/-- a grid of ints -/
theorem wp_newm {ix N M : Nat} {y z : Int32} (n : Nat) (hn : pc + 4 = n) (hd : decode X.2.1 pc = .ok (.multianewarray ix 2, 4)) (hcl : Cond.classLink X.1 ix "[[I" ∈ lw_all) (hac : Cond.arrayClass .int ∈ lw_all) (hy : y = nI N) (hz : z = nI M) (hN : N < 1000) (hM : M < 1000) (a : Nat) (ha : ρ.2.2.2.1 + 64 = a) (kk : sm_V G X d n lv (.ref a :: st) (sm_mI I a N) (sm_mR ρ N M) Q) : sm_V G X d pc lv (.int z :: .int y :: st) I ρ Q := by
  subst hn
  subst ha
  subst hy
  subst hz
  refine sm_mkN (k := 1 + N) (sl := N + N * M) (Nat.add_assoc _ _ _) (Nat.add_assoc _ _ _) (fun b hb => sm_mR_ent hb) (fun b hb => ?_) (fun p e R s m args below meth c H locs cells slots ls QQ F RP hc1 hs1 k => ?_) kk
  · by_cases h1 : ρ.2.2.2.1 + 64 ≤ b ∧ b ≤ ρ.2.2.2.1 + 64 + N
    · omega
    · have : (sm_mR ρ N M).2.2.1 b = ρ.2.2.1 b := by
        show (if b = ρ.2.2.2.1 + 64 then (110, N) else if ρ.2.2.2.1 + 64 < b ∧ b ≤ ρ.2.2.2.1 + 64 + N then (100, M) else ρ.2.2.1 b) = _
        rw [if_neg (by omega), if_neg (by omega)]
      rw [this] at hb
      exact Or.inl hb
  · obtain ⟨hx, hb, hml, hr, hnm, hex, hlk, hown, hts, hgood, hcst⟩ := F
    have nN : ¬ nI N < 0 := nI_pos (by omega)
    have nM : ¬ nI M < 0 := nI_pos (by omega)
    have cN : (nI N).toNatClampNeg = N := nI_clamp (by omega)
    have cM : (nI M).toNatClampNeg = M := nI_clamp (by omega)
    intro T hT XX
    obtain ⟨vm₁, cA, comp, hW, hfA, hfC, -, -, X1, step⟩ := XX.multianewarray2F hx (ty := .int) hown (hts _ hcl) (sm_AI.use hgood.2.2.2.2.2.1) (hts _ hac) (g := F0 m pc ls (.int (nI M) :: .int (nI N) :: st.map (sm_cv G))) rfl (by rw [hb]; exact hd) rfl nN nM (by rw [cN]; omega) (by rw [cM]; show M * 4 ≤ _; omega) (by rw [cM]; omega) rfl rfl (by rw [cN]; omega) (by rw [cN, cM]; omega)
    rw [cN, cM] at X1 step
    obtain ⟨f1, f2, f3, f4⟩ := Jvm.Free.Multi.fill_facts (T.setVm vm₁) cA comp N M (defaultValue .int) N
    have f5 := fun (x : Nat) (hx : x < (T.setVm vm₁).heap.size) => Jvm.Free.Multi.fill_old (T.setVm vm₁) cA comp N M (defaultValue .int) hx N
    have f6 := Jvm.Free.Multi.fill_inner (T.setVm vm₁) cA comp N M (defaultValue .int) N
    have hh : (T.setVm vm₁).heap = H := hT
    rw [hh] at f1 f2 f5 f6
    have hcA : G.2.2.2.1 10 = cA := Option.some.inj ((hgood.1.2 10 _ (sm_ty_at (ty := .array .int) rfl)).2.symm.trans hfA)
    have hcB : G.2.2.2.1 0 = comp := Option.some.inj ((hgood.1.2 0 _ (sm_ty_at (ty := .int) rfl)).2.symm.trans hfC)
    have hadj : ∀ j, sm_ad G (ρ.2.2.2.1 + 65 + j) = H.size + 1 + j := fun j => by
      unfold sm_ad
      rw [if_neg (by omega), RP.2.1]
      omega
    have w := k (Jvm.Free.Multi.fill (T.setVm vm₁) cA comp N M (defaultValue .int) N).heap (fun j hj => ?_) (by rw [f1, Nat.add_assoc]) (fun q hq => f5 q hq)
    · rw [List.map_cons, sm_cv_ref, sm_ad_new RP] at w
      have w9 := w (Jvm.Free.Multi.fill (T.setVm vm₁) cA comp N M (defaultValue .int) N) rfl (by rw [← Nat.add_assoc, ← Nat.add_assoc]; exact X1)
      obtain ⟨t, s1, s2⟩ := w9
      refine ⟨t, step t ?_, s2⟩
      rw [hT]
      exact s1
    · match j, hj with
      | 0, hj =>
        have sh : (sm_mR ρ N M).2.2.1 (ρ.2.2.2.1 + 0 + 64) = (10 + 100, N) := if_pos rfl
        rw [sm_ent_p (t := 10) sh (by decide)]
        show (Jvm.Free.Multi.fill (T.setVm vm₁) cA comp N M (defaultValue .int) N).heap[H.size + 0]? = some (vp_cell _ _)
        rw [Nat.add_zero, f2, vp_cell_q, hcA]
        obtain ⟨o1, o2, o3⟩ := Jvm.Free.Multi.outerC_facts cA N H.size N
        have o4 := Jvm.Free.Multi.outerC_slot cA N H.size N
        congr 1
        have hslots : (Jvm.Free.Multi.outerC cA N H.size N).slots = (arrV cA N (fun j => va_rf (((sm_mR ρ N M).2.1 (ρ.2.2.2.1 + 0 + 64) j).map (sm_ad G)))).slots := by
          apply Array.ext_getElem?
          intro i
          by_cases hi : i < N
          · rw [o4 i hi, if_pos hi, arrV_read _ _ hi]
            show _ = some (va_rf (((if ρ.2.2.2.1 + 0 + 64 = ρ.2.2.2.1 + 64 then (fun j => if j < N then some (ρ.2.2.2.1 + 65 + j) else none) else _) i).map (sm_ad G)))
            rw [if_pos rfl, if_pos hi, Option.map_some, hadj]
            rfl
          · rw [Array.getElem?_eq_none (by rw [o3]; omega), Array.getElem?_eq_none (by rw [arrV_size]; omega)]
        rw [sm_outer cA N H.size N, hslots]
        rfl
      | j + 1, hj =>
        have sh : (sm_mR ρ N M).2.2.1 (ρ.2.2.2.1 + (j + 1) + 64) = (0 + 100, M) := by
          show (if ρ.2.2.2.1 + (j + 1) + 64 = ρ.2.2.2.1 + 64 then (110, N) else if ρ.2.2.2.1 + 64 < ρ.2.2.2.1 + (j + 1) + 64 ∧ ρ.2.2.2.1 + (j + 1) + 64 ≤ ρ.2.2.2.1 + 64 + N then (100, M) else _) = _
          rw [if_neg (by omega), if_pos (by omega)]
        rw [sm_ent_i (t := 0) sh (by decide)]
        have p1 : sm_mI I (ρ.2.2.2.1 + 64) N (ρ.2.2.2.1 + (j + 1) + 64) = fun _ => 0 := if_pos (by omega)
        rw [p1]
        show (Jvm.Free.Multi.fill (T.setVm vm₁) cA comp N M (defaultValue .int) N).heap[H.size + (j + 1)]? = some (vp_cell _ _)
        rw [show H.size + (j + 1) = H.size + 1 + j by omega, f6 j (by omega), vp_cell_i, hcB, ← arrV_new]
        rfl
/-- an instruction that needs room -/
theorem sm_pureR {pc' : Nat} {lv' st' : List Value}
    (h : ∀ (p : Program) (e : Env) (R : Room) (s : State) (m : MethodId) (args : Array Value) (below : List Frame) (meth : Method) (c : Code) (H : Heap) (locs : List Loc) (cells slots : Nat) (ls : Array Slot) (QQ : State → Prop), sm_Fr G X p s m args meth c → sm_Lv G X.2.2.1 ls lv → d + 1 ≤ R.frames → 60 * (d + 1) ≤ R.locals → cells ≤ R.cells → slots ≤ R.slots → sm_Rep G I ρ H → va_S (sm_A G) s.heap H locs →
      (∀ ls' : Array Slot, sm_Lv G X.2.2.1 ls' lv' → W p G.1 e R s m args below meth c H locs cells slots QQ (F0 m pc' ls' (st'.map (sm_cv G)))) → W p G.1 e R s m args below meth c H locs cells slots QQ (F0 m pc ls (st.map (sm_cv G))))
    (k : sm_V G X (d + 1) pc' lv' st' I ρ Q) : sm_V G X (d + 1) pc lv st I ρ Q := by
  obtain ⟨o, I', ρ', h1, h2, h3, h4⟩ := k
  exact ⟨o, I', ρ', h1, h2, h3, fun p e R s m args below meth c H locs cells slots mc ms ls F a1 a2 a3 a4 a5 a6 a7 a8 a9 => h p e R s m args below meth c H locs cells slots ls _ F a9 a1 a2 (by omega) (by omega) a7 a8 (fun ls' L' => h4 p e R s m args below meth c H locs cells slots mc ms ls' F a1 a2 a3 a4 a5 a6 a7 a8 L')⟩
theorem sm_hrs {rest : List Value} (hrs : (rest.map fun v => v.category).sum ≤ 8) : ((rest.map (sm_cv G)).map fun v => v.category).sum ≤ 8 := by
  rw [sm_cats]
  exact hrs
theorem wp_objInit {ix a : Nat} {rest : List Value} (n : Nat) (hn : pc + 3 = n) (hd : decode X.2.1 pc = .ok (.invokespecial ix, 3)) (hl : Cond.methodLink X.1 ix Lib.objectInit ∈ lw_all) (hrs : (rest.map fun v => v.category).sum ≤ 8) (k : sm_V G X (d + 1) n lv rest I ρ Q) : sm_V G X (d + 1) pc lv (.ref a :: rest) I ρ Q := by
  subst hn
  refine sm_pureR (fun p e R s m args below meth c H locs cells slots ls QQ F L r1 r2 r3 r4 RP S k => ?_) k
  obtain ⟨hx, hb, hml, hr, hnm, hex, hlk, hown, hts, hgood, hcst⟩ := F
  have h8 := sm_hrs (G := G) hrs
  exact W.objInit hx hb hown (hts _ hl) (hts _ q159) (hts _ q160) rfl (by rw [hml]; exact L.1) rfl hd (by omega) (by show 2 * 0 + _ + 12 ≤ _; omega) (k _ L)
theorem wp_mmax {ix : Nat} {x y : Int32} {rest : List Value} (n : Nat) (hn : pc + 3 = n) (hd : decode X.2.1 pc = .ok (.invokestatic ix, 3)) (hl : Cond.methodLink X.1 ix Lib.Math.max.name ∈ lw_all) (hrs : (rest.map fun v => v.category).sum ≤ 8) (k : sm_V G X (d + 1) n lv (.int (if x < y then y else x) :: rest) I ρ Q) : sm_V G X (d + 1) pc lv (.int y :: .int x :: rest) I ρ Q := by
  subst hn
  refine sm_pureR (fun p e R s m args below meth c H locs cells slots ls QQ F L r1 r2 r3 r4 RP S k => ?_) k
  obtain ⟨hx, hb, hml, hr, hnm, hex, hlk, hown, hts, hgood, hcst⟩ := F
  have h8 := sm_hrs (G := G) hrs
  exact va_mmax hx hb (by rw [hml]; exact L.1.symm) hown (hts _ hl) (hts _ q868) (hts _ q147) (hts _ q869) (by omega) (by omega) r3 r4 hd (k _ L)
theorem wp_mmin {ix : Nat} {x y : Int32} {rest : List Value} (n : Nat) (hn : pc + 3 = n) (hd : decode X.2.1 pc = .ok (.invokestatic ix, 3)) (hl : Cond.methodLink X.1 ix Lib.Math.min.name ∈ lw_all) (hrs : (rest.map fun v => v.category).sum ≤ 8) (k : sm_V G X (d + 1) n lv (.int (if y < x then y else x) :: rest) I ρ Q) : sm_V G X (d + 1) pc lv (.int y :: .int x :: rest) I ρ Q := by
  subst hn
  refine sm_pureR (fun p e R s m args below meth c H locs cells slots ls QQ F L r1 r2 r3 r4 RP S k => ?_) k
  obtain ⟨hx, hb, hml, hr, hnm, hex, hlk, hown, hts, hgood, hcst⟩ := F
  have h8 := sm_hrs (G := G) hrs
  exact va_mmin hx hb (by rw [hml]; exact L.1.symm) hown (hts _ hl) (hts _ q886) (hts _ q147) (hts _ q887) (by omega) (by omega) r3 r4 hd (k _ L)
theorem wp_mabs {ix : Nat} {x : Int32} {rest : List Value} (n : Nat) (hn : pc + 3 = n) (hd : decode X.2.1 pc = .ok (.invokestatic ix, 3)) (hl : Cond.methodLink X.1 ix Lib.Math.abs.name ∈ lw_all) (hrs : (rest.map fun v => v.category).sum ≤ 8) (k : sm_V G X (d + 1) n lv (.int (if 0 ≤ x then x else 0 - x) :: rest) I ρ Q) : sm_V G X (d + 1) pc lv (.int x :: rest) I ρ Q := by
  subst hn
  refine sm_pureR (fun p e R s m args below meth c H locs cells slots ls QQ F L r1 r2 r3 r4 RP S k => ?_) k
  obtain ⟨hx, hb, hml, hr, hnm, hex, hlk, hown, hts, hgood, hcst⟩ := F
  have h8 := sm_hrs (G := G) hrs
  exact va_mabs hx hb (by rw [hml]; exact L.1.symm) hown (hts _ hl) (hts _ q1163) (hts _ q147) (hts _ q1164) (by omega) (by omega) r3 r4 hd (k _ L)
/-- arraycopy of ints or bytes -/
theorem wp_copy {ix a b n0 n1 t : Nat} {ty : FieldType} {sp dp z : Nat} {v1 v2 v3 : Int32} {rest : List Value} (n : Nat) (hn : pc + 3 = n) (hd : decode X.2.1 pc = .ok (.invokestatic ix, 3)) (hl : Cond.methodLink X.1 ix arraycopyName ∈ lw_all) (hrs : (rest.map fun v => v.category).sum ≤ 8) (ht : t < 4) (hty : sm_at[t]? = some ty) (hprim : refKind ty = false) (hsa : ρ.2.2.1 a = (t + 100, n0)) (hsb : ρ.2.2.1 b = (t + 100, n1)) (e1 : v1 = nI sp) (e2 : v2 = nI dp) (e3 : v3 = nI z) (hz : sp < 1000000 ∧ dp < 1000000 ∧ z < 1000000) (h0 : sp + z ≤ n0) (h1 : dp + z ≤ n1) (hf : ∀ i, i < z → fits ty (.int (I a (sp + i))) = true)
    (k : sm_V G X (d + 1) n lv rest (fun q => if q = b then va_cpy (I a) (I b) sp dp z else I q) ρ Q) : sm_V G X (d + 1) pc lv (.int v3 :: .int v2 :: .ref b :: .int v1 :: .ref a :: rest) I ρ Q := by
  subst hn
  subst e1
  subst e2
  subst e3
  obtain ⟨o, I', ρ', q1, q2, q3, q4⟩ := k
  refine ⟨o, I', ρ', q1, q2, q3, fun p e R s m args below meth c H locs cells slots mc ms ls F a1 a2 a3 a4 a5 a6 a7 a8 a9 => ?_⟩
  have F' := F
  obtain ⟨hx, hb, hml, hr, hnm, hex, hlk, hown, hts, hgood, hcst⟩ := F
  have h8 := sm_hrs (G := G) hrs
  have neg : ∀ w, w < 1000000 → ¬ nI w < 0 := fun w hw => nI_pos (by omega)
  have k1 : (nI sp).toNatClampNeg = sp := nI_clamp (by omega)
  have k2 : (nI dp).toNatClampNeg = dp := nI_clamp (by omega)
  have k3 : (nI z).toNatClampNeg = z := nI_clamp (by omega)
  have hDD := sm_ws_D G I ρ
  have hata := (sm_ws_at (G := G) (I := I) a7.2.2.2 hsa (by omega)).trans (by rw [sm_ent_i hsa ht])
  have hatb := (sm_ws_at (G := G) (I := I) a7.2.2.2 hsb (by omega)).trans (by rw [sm_ent_i hsb ht])
  have nat1 : nativeFrameWords "java/lang/System" "arraycopy" 5 + 11 ≤ 50 := by decide
  intro T hT XX
  have hc0 : H[sm_ad G a]? = some (vp_cell (G.2.2.2.1 t) (n0, .inl (I a))) := a7.1 _ _ hata
  have hc1 : H[sm_ad G b]? = some (vp_cell (G.2.2.2.1 t) (n1, .inl (I b))) := a7.1 _ _ hatb
  obtain ⟨-, kk0, hk0, cm0, hkk0⟩ := (hgood.1.2 t _ (sm_ty_at hty)).1 n0 (fun j => .int (I a j))
  have nn : ∀ w : Int32, ¬ w < 0 → w.toInt = (w.toNatClampNeg : Int) := by
    intro w hw
    have hz0 : (0 : Int) ≤ w.toInt := by
      have := Int32.not_lt.mp hw
      simpa using Int32.le_iff_toInt_le.mp this
    show w.toInt = ((w.toInt.toNat : Nat) : Int)
    omega
  obtain ⟨vm', X', step⟩ := XX.arraycopy hx hown (hts _ hl) (hts _ q890) (hts _ q889) (hts _ q149) (src := sm_ad G a) (dst := sm_ad G b) (cs := vp_cell (G.2.2.2.1 t) (n0, .inl (I a))) (cd := vp_cell (G.2.2.2.1 t) (n1, .inl (I b))) (srcPos := nI sp) (destPos := nI dp) (n := nI z) (by rw [hT]; exact hc0) (by rw [hT]; exact hc1)
    (fun _ h => by cases h) (fun _ h => by cases h) (fun h => by cases h) (fun h => by cases h) hk0 hk0 hkk0 hkk0 (by simp [hprim]) (neg _ hz.1) (neg _ hz.2.1) (neg _ hz.2.2)
    (by rw [nn _ (neg _ hz.1), nn _ (neg _ hz.2.2), k1, k3]; show ¬ _ > ((arrV _ n0 (fun j => .int (I a j))).slots.size : Int); rw [arrV_size]; omega)
    (by rw [nn _ (neg _ hz.2.1), nn _ (neg _ hz.2.2), k2, k3]; show ¬ _ > ((arrV _ n1 (fun j => .int (I b j))).slots.size : Int); rw [arrV_size]; omega)
    (fun vm₁ _ i hi => by
      rw [k3] at hi
      have e : (vp_cell (G.2.2.2.1 t) (n0, .inl (I a))).slots.getD ((nI sp).toNatClampNeg + i) .null = .int (I a (sp + i)) := by
        show (arrV _ n0 (fun j => .int (I a j))).slots.getD _ _ = _
        rw [k1, Array.getD_eq_getD_getElem?, arrV_read _ _ (by omega)]
        rfl
      refine ⟨?_, ?_⟩
      · rw [e]
        exact hf i hi
      · rw [e]
        exact trivial)
    (g := F0 m pc ls (.int (nI z) :: .int (nI dp) :: .ref (sm_ad G b) :: .int (nI sp) :: .ref (sm_ad G a) :: rest.map (sm_cv G))) rfl (by rw [hml]; exact a9.1) (rest := rest.map (sm_cv G)) rfl (by rw [hb]; exact hd) (by omega) (by show 2 * 0 + _ + _ ≤ _; omega)
  have ecp : copied (vp_cell (G.2.2.2.1 t) (n0, .inl (I a))) (vp_cell (G.2.2.2.1 t) (n1, .inl (I b))) (nI sp) (nI dp) (nI z) = vp_cell (G.2.2.2.1 t) (n1, .inl (va_cpy (I a) (I b) sp dp z)) := by
    have := va_copied (fun z => Value.int z) (G.2.2.2.1 t) (G.2.2.2.1 t) (I a) (I b) (n0 := n0) (n1 := n1) (sp := sp) (dp := dp) (n := z) h0
    unfold copied
    rw [k1, k2, k3]
    exact this
  rw [ecp] at X' step
  have hl9 : sm_ad G b < H.size := (Array.getElem?_eq_some_iff.mp hc1).1
  have hheap : ((T.setVm vm').setCell (sm_ad G b) (vp_cell (G.2.2.2.1 t) (n1, .inl (va_cpy (I a) (I b) sp dp z)))).heap = H.setIfInBounds (sm_ad G b) (vp_cell (G.2.2.2.1 t) (n1, .inl (va_cpy (I a) (I b) sp dp z))) := by rw [← hT]; rfl
  have oq : ∀ q : Nat, q ≠ sm_ad G b → (H.setIfInBounds (sm_ad G b) (vp_cell (G.2.2.2.1 t) (n1, .inl (va_cpy (I a) (I b) sp dp z))))[q]? = H[q]? := fun q hq => by simp [Array.getElem?_setIfInBounds, Ne.symm hq]
  have hP' := a7.1.set hDD hatb (e := .inl (G.2.2.2.1 t, n1, .inl (va_cpy (I a) (I b) sp dp z))) (show (H.setIfInBounds (sm_ad G b) (vp_cell (G.2.2.2.1 t) (n1, .inl (va_cpy (I a) (I b) sp dp z))))[sm_ad G b]? = some _ by simp [Array.getElem?_setIfInBounds, hl9]) oq
  rw [sm_ws_set (I' := fun q => if q = b then va_cpy (I a) (I b) sp dp z else I q) (ρ' := ρ) a7.2.2.2 hsb (by omega) rfl (by rw [sm_ent_i hsb ht]; simp) (fun q hq => by
    unfold sm_ent
    simp only [if_neg hq])] at hP'
  have hAb : sm_A G (sm_ad G b) := hDD.2 _ _ hatb
  have hS' : ∀ L : List Loc, (∀ q ∈ L, q.base = sm_ad G b) → va_S (sm_A G) s.heap (H.setIfInBounds (sm_ad G b) (vp_cell (G.2.2.2.1 t) (n1, .inl (va_cpy (I a) (I b) sp dp z)))) (locs ++ L) := fun L hL => ⟨by simp; exact a8.1, fun q g1 g2 => by
      rw [oq q (fun e => g2 (by rw [e]; exact hAb))]
      exact a8.2.1 q g1 g2, fun q hq => by
      rcases List.mem_append.mp hq with h | h
      · exact a8.2.2 q h
      · rw [hL q h]
        exact hAb⟩
  obtain ⟨t9, b1, b2⟩ := q4 p e R s m args below meth c _ _ cells slots mc ms ls F' a1 a2 a3 a4 a5 a6 ⟨hP', by rw [Array.size_setIfInBounds]; exact a7.2.1, sm_base hcst.2.1 a8 (hS' [] (fun _ h => nomatch h)) |> fun h q hq => (h q hq).trans (a7.2.2.1 q hq), a7.2.2.2⟩ (hS' _ (fun q hq => by
      obtain ⟨z, -, hz⟩ := List.mem_map.mp hq
      rw [← hz])) a9 _ hheap X'
  exact ⟨t9, step t9 b1, b2⟩
/-! casts -/
/-- an object of class number t is cast to the class that the entry names -/
def sm_CA (own : String) (ix t : Nat) : Prop := ∃ (C nm : String) (T : u_T) (N : Nat), sm_cl[t]? = some (C, T, N) ∧ t ≠ 0 ∧ t < 100 ∧ Cond.classLink own ix nm ∈ lw_all ∧ (nm = C ∨ Cond.castable C nm ∈ lw_tbl)
theorem wp_cast {ix t a nn : Nat} (n : Nat) (hn : pc + 3 = n) (hd : decode X.2.1 pc = .ok (.checkcast ix, 3)) (hc : sm_CA X.1 ix t) (hs : ρ.2.2.1 a = (t, nn)) (k : sm_V G X d n lv (.ref a :: st) I ρ Q) : sm_V G X d pc lv (.ref a :: st) I ρ Q := by
  subst hn
  obtain ⟨C, nm, T, N, h1, h2, h3, h4, h5⟩ := hc
  refine sm_read (fun p e R s m args below meth c H locs cells slots ls QQ F L RP S k => ?_) k
  obtain ⟨hx, hb, hml, hr, hnm, hex, hlk, hown, hts, hgood, -⟩ := F
  have hrv := sm_recv hgood RP hs h2 h3 h1
  rcases h5 with rfl | h5
  · exact va_castE hx hb hown (hts _ h4) hrv hd (k _ L)
  · exact va_castY hx hb hown (hts _ h4) (hgood.2.2.1 _ _ h5) hrv hd (k _ L)
theorem wp_inst {ix t a nn : Nat} (n : Nat) (hn : pc + 3 = n) (hd : decode X.2.1 pc = .ok (.instanceof ix, 3)) (hc : sm_CA X.1 ix t) (hs : ρ.2.2.1 a = (t, nn)) (k : sm_V G X d n lv (.int 1 :: st) I ρ Q) : sm_V G X d pc lv (.ref a :: st) I ρ Q := by
  subst hn
  obtain ⟨C, nm, T, N, h1, h2, h3, h4, h5⟩ := hc
  refine sm_read (fun p e R s m args below meth c H locs cells slots ls QQ F L RP S k => ?_) k
  obtain ⟨hx, hb, hml, hr, hnm, hex, hlk, hown, hts, hgood, -⟩ := F
  have hrv := sm_recv hgood RP hs h2 h3 h1
  rcases h5 with rfl | h5
  · exact va_instE hx hb hown (hts _ h4) hrv hd (k _ L)
  · exact va_instY hx hb hown (hts _ h4) (hgood.2.2.1 _ _ h5) hrv hd (k _ L)
/-! statics, constants -/
theorem sm_b0 {s : State} {H : Heap} {locs : List Loc} (hg : G.2.1.size ≤ s.heap.size) (RP : sm_Rep G I ρ H) (S : va_S (sm_A G) s.heap H locs) : ∀ a : Nat, a < G.2.1.size → ¬ sm_A G a → s.heap[a]? = G.2.1[a]? := fun a h1 h2 => by
  rw [← RP.2.2.1 a h1, S.2.1 a (by omega) h2]
theorem wp_gets {ix : Nat} {C nm ds : String} {v : Value} (n : Nat) (hn : pc + 3 = n) (hd : decode X.2.1 pc = .ok (.getstatic ix, 3)) (hl : Cond.fieldLink X.1 ix C nm ds ∈ lw_all) (hZ : ∀ s, sm_K2 G s → va_Z C nm ds (sm_cv G v) (sm_A G) s G.2.1) (k : sm_V G X d n lv (v :: st) I ρ Q) : sm_V G X d pc lv st I ρ Q := by
  subst hn
  refine sm_read (fun p e R s m args below meth c H locs cells slots ls QQ F L RP S k => ?_) k
  obtain ⟨hx, hb, hml, hr, hnm, hex, hlk, hown, hts, hgood, hcst⟩ := F
  exact va_gets hx hb ((hZ s hcst.2.2).kept (sm_b0 hcst.2.1 RP S)) S hown (hts _ hl) (fun x h => h) hd (k _ L)
theorem wp_getsN {ix j : Nat} {C nm ds : String} (n : Nat) (hn : pc + 3 = n) (hd : decode X.2.1 pc = .ok (.getstatic ix, 3)) (hl : Cond.fieldLink X.1 ix C nm ds ∈ lw_all) (hj : j < 64) (hZ : ∀ s, sm_K2 G s → va_Z C nm ds (sm_nv G j) (sm_A G) s G.2.1) (k1 : sm_V G X d n lv (.null :: st) I ρ Q) (k2 : sm_V G X d n lv (.ref j :: st) I ρ Q) : sm_V G X d pc lv st I ρ Q := by
  by_cases h0 : G.2.2.2.2 (j + 10) = 0
  · exact wp_gets (v := .null) n hn hd hl (fun s hs => by
      have := hZ s hs
      unfold sm_nv at this
      rw [if_pos h0] at this
      exact this) k1
  · exact wp_gets (v := .ref j) n hn hd hl (fun s hs => by
      have := hZ s hs
      unfold sm_nv at this
      rw [if_neg h0] at this
      rw [sm_cv_ref]
      unfold sm_ad
      rw [if_pos hj]
      exact this) k2
theorem wp_ldcS {ix i : Nat} {tx : String} (n : Nat) (hn : pc + 2 = n) (hd : decode X.2.1 pc = .ok (.ldc ix, 2)) (hi : sm_strs[i]? = some (X.1, ix, tx)) (h64 : i < 64) (k : sm_V G X d n lv (.ref i :: st) I ρ Q) : sm_V G X d pc lv st I ρ Q := by
  subst hn
  refine sm_read (fun p e R s m args below meth c H locs cells slots ls QQ F L RP S k => ?_) k
  obtain ⟨hx, hb, hml, hr, hnm, hex, hlk, hown, hts, hgood, hcst⟩ := F
  have h9 := hcst.2.2.2.1 i _ hi
  refine va_ldcS hx hb hown h9 hd ?_
  have := k _ L
  rw [List.map_cons, sm_cv_ref] at this
  unfold sm_ad at this
  rw [if_pos h64] at this
  exact this
/-- of a String constant: its coder, its bytes -/
theorem wp_ccoder {ix i : Nat} (n : Nat) (hn : pc + 3 = n) (hd : decode X.2.1 pc = .ok (.getfield ix, 3)) (hl : Cond.fieldLink X.1 ix "java/lang/String" "coder" "B" ∈ lw_all) (hi : i < 22) (k : sm_V G X d n lv (.int 0 :: st) I ρ Q) : sm_V G X d pc lv (.ref i :: st) I ρ Q := by
  subst hn
  refine sm_read (fun p e R s m args below meth c H locs cells slots ls QQ F L RP S k => ?_) k
  obtain ⟨hx, hb, hml, hr, hnm, hex, hlk, hown, hts, hgood, hcst⟩ := F
  have h9 := ((hcst.2.2.1.1 i hi).2.1).kept (sm_b0 hcst.2.1 RP S)
  rw [List.map_cons, sm_cv_ref]
  unfold sm_ad
  rw [if_pos (by omega)]
  exact vk_getf hx hb h9 S hown (hts _ hl) (fun x h => h) hd (k _ L)
theorem wp_cvalue {ix i : Nat} (n : Nat) (hn : pc + 3 = n) (hd : decode X.2.1 pc = .ok (.getfield ix, 3)) (hl : Cond.fieldLink X.1 ix "java/lang/String" "value" "[B" ∈ lw_all) (hi : i < 22) (k : sm_V G X d n lv (.ref (22 + i) :: st) I ρ Q) : sm_V G X d pc lv (.ref i :: st) I ρ Q := by
  subst hn
  refine sm_read (fun p e R s m args below meth c H locs cells slots ls QQ F L RP S k => ?_) k
  obtain ⟨hx, hb, hml, hr, hnm, hex, hlk, hown, hts, hgood, hcst⟩ := F
  have h9 := ((hcst.2.2.1.1 i hi).2.2.1).kept (sm_b0 hcst.2.1 RP S)
  have k9 := k _ L
  rw [List.map_cons, sm_cv_ref] at k9 ⊢
  unfold sm_ad at k9 ⊢
  rw [if_pos (by omega)] at k9 ⊢
  exact vk_getf hx hb h9 S hown (hts _ hl) (fun x h => h) hd k9
theorem wp_clen {i : Nat} (n : Nat) (hn : pc + 1 = n) (hd : decode X.2.1 pc = .ok (.arraylength, 1)) (hi : i < 22) (k : sm_V G X d n lv (.int (nI (sm_len.getD i 0)) :: st) I ρ Q) : sm_V G X d pc lv (.ref (22 + i) :: st) I ρ Q := by
  subst hn
  refine sm_read (fun p e R s m args below meth c H locs cells slots ls QQ F L RP S k => ?_) k
  obtain ⟨hx, hb, hml, hr, hnm, hex, hlk, hown, hts, hgood, hcst⟩ := F
  obtain ⟨scr, h1, h2, h3, h4, h5, h6, h7⟩ := (hcst.2.2.1.1 i hi).2.2.2
  rw [List.map_cons, sm_cv_ref]
  unfold sm_ad
  rw [if_pos (by omega)]
  exact W.alen (n := nI (sm_len.getD i 0)) hx hb (by rw [RP.2.2.1 _ (Nat.not_le.mp h7)]; exact h1) h2 h5 rfl rfl hd (k _ L)
theorem wp_cbald {i j : Nat} {v : Int32} (n : Nat) (hn : pc + 1 = n) (hd : decode X.2.1 pc = .ok (.baload, 1)) (hi : i < 22) (hv : v = nI j) (hj : j < sm_len.getD i 0) (hl : sm_len.getD i 0 ≤ 8) (k : sm_V G X d n lv (.int ((sm_byt.getD i []).getD j 0) :: st) I ρ Q) : sm_V G X d pc lv (.int v :: .ref (22 + i) :: st) I ρ Q := by
  subst hn
  subst hv
  refine sm_read (fun p e R s m args below meth c H locs cells slots ls QQ F L RP S k => ?_) k
  obtain ⟨hx, hb, hml, hr, hnm, hex, hlk, hown, hts, hgood, hcst⟩ := F
  obtain ⟨scr, h1, h2, h3, h4, h5, h6, h7⟩ := (hcst.2.2.1.1 i hi).2.2.2
  rw [List.map_cons, List.map_cons, sm_cv_int, sm_cv_ref]
  unfold sm_ad
  rw [if_pos (by omega)]
  have hneg : ¬ nI j < 0 := nI_pos (by omega)
  have hc9 : (nI j).toNatClampNeg = j := nI_clamp (by omega)
  exact W.bald (v := .int ((sm_byt.getD i []).getD j 0)) hx hb (by rw [RP.2.2.1 _ (Nat.not_le.mp h7)]; exact h1) h2 h3 (by rw [hc9]; intro q; rcases q with q | q; exact hneg q; omega) (by rw [hc9]; exact h6 j hj) rfl rfl hd (k _ L)
theorem wp_elen (n : Nat) (hn : pc + 1 = n) (hd : decode X.2.1 pc = .ok (.arraylength, 1)) (k : sm_V G X d n lv (.int (nI 0) :: st) I ρ Q) : sm_V G X d pc lv (.ref 44 :: st) I ρ Q := by
  subst hn
  refine sm_read (fun p e R s m args below meth c H locs cells slots ls QQ F L RP S k => ?_) k
  obtain ⟨hx, hb, hml, hr, hnm, hex, hlk, hown, hts, hgood, hcst⟩ := F
  obtain ⟨scr, h1, h2, h3, h4, h5, h6, h7⟩ := hcst.2.2.2.2.2.1.2
  exact W.alen (n := nI 0) hx hb (by show H[G.2.2.2.2 44]? = _; rw [RP.2.2.1 _ (Nat.not_le.mp h7)]; exact h1) h2 h5 rfl rfl hd (k _ L)
/-- the script -/
theorem wp_slen (n : Nat) (hn : pc + 1 = n) (hd : decode X.2.1 pc = .ok (.arraylength, 1)) (k : sm_V G X d n lv (.int (nI (G.2.2.2.2 49)) :: st) I ρ Q) : sm_V G X d pc lv (.ref 48 :: st) I ρ Q := by
  subst hn
  refine sm_read (fun p e R s m args below meth c H locs cells slots ls QQ F L RP S k => ?_) k
  obtain ⟨hx, hb, hml, hr, hnm, hex, hlk, hown, hts, hgood, hcst⟩ := F
  obtain ⟨⟨scr, h1, h2, h3, h4, h5⟩, h7⟩ := hcst.2.2.2.2.2.2.2
  exact W.alen (n := nI (G.2.2.2.2 49)) hx hb (by show H[G.2.2.2.2 48]? = _; rw [RP.2.2.1 _ h7]; exact h1) h2 (by rw [h4]; rfl) rfl rfl hd (k _ L)
theorem wp_sld {j : Nat} {v : Int32} (n : Nat) (hn : pc + 1 = n) (hd : decode X.2.1 pc = .ok (.iaload, 1)) (hv : v = nI j) (hj : j < G.2.2.2.2 49) (hl : G.2.2.2.2 49 < 2147483648) (k : sm_V G X d n lv (.int (sm_xs G j) :: st) I ρ Q) : sm_V G X d pc lv (.int v :: .ref 48 :: st) I ρ Q := by
  subst hn
  subst hv
  refine sm_read (fun p e R s m args below meth c H locs cells slots ls QQ F L RP S k => ?_) k
  obtain ⟨hx, hb, hml, hr, hnm, hex, hlk, hown, hts, hgood, hcst⟩ := F
  obtain ⟨⟨scr, h1, h2, h3, h4, h5⟩, h7⟩ := hcst.2.2.2.2.2.2.2
  have hc9 : (nI j).toNatClampNeg = j := nI_clamp (by omega)
  exact W.iald (v := .int (sm_xs G j)) hx hb (by show H[G.2.2.2.2 48]? = _; rw [RP.2.2.1 _ h7]; exact h1) h2 h3 (by rw [h4]; exact vp_in_nI hj hl) (by rw [hc9]; exact h5 j hj) rfl rfl hd (k _ L)
/-! two references -/
theorem wp_acmpS_eq {off : Int} {a : Nat} (t : Nat) (ht : (pc : Int) + off = (t : Int)) (hd : decode X.2.1 pc = .ok (.if_acmp .eq off, 3)) (k : sm_V G X d t lv st I ρ Q) : sm_V G X d pc lv (.ref a :: .ref a :: st) I ρ Q :=
  sm_pure (fun _ _ _ _ _ _ _ _ _ _ _ _ _ _ _ F L k => lv_acmp_eq (rx := some (sm_ad G a)) (ry := some (sm_ad G a)) F.1 F.2.1 hd ht (fun _ => k _ L) (fun h => absurd rfl h)) k
theorem wp_acmpS_ne {off : Int} {a : Nat} (n t : Nat) (hn : pc + 3 = n) (ht : (pc : Int) + off = (t : Int)) (hd : decode X.2.1 pc = .ok (.if_acmp .ne off, 3)) (k : sm_V G X d n lv st I ρ Q) : sm_V G X d pc lv (.ref a :: .ref a :: st) I ρ Q := by
  subst hn
  exact sm_pure (fun _ _ _ _ _ _ _ _ _ _ _ _ _ _ _ F L k => lv_acmp_ne (rx := some (sm_ad G a)) (ry := some (sm_ad G a)) F.1 F.2.1 hd ht (fun h => absurd rfl h) (fun _ => k _ L)) k
theorem sm_ad_inj {a b : Nat} (ha : 64 ≤ a) (hb : 64 ≤ b) (h : ¬ a = b) : ¬ some (sm_ad G a) = some (sm_ad G b) := fun e => by
  have e := Option.some.inj e
  unfold sm_ad at e
  rw [if_neg (by omega), if_neg (by omega)] at e
  omega
theorem wp_acmpD_ne {off : Int} {a b : Nat} (n t : Nat) (hn : pc + 3 = n) (ht : (pc : Int) + off = (t : Int)) (hd : decode X.2.1 pc = .ok (.if_acmp .ne off, 3)) (ha : 64 ≤ a) (hb : 64 ≤ b) (h : ¬ a = b) (k : sm_V G X d t lv st I ρ Q) : sm_V G X d pc lv (.ref b :: .ref a :: st) I ρ Q :=
  sm_pure (fun _ _ _ _ _ _ _ _ _ _ _ _ _ _ _ F L k => lv_acmp_ne (rx := some (sm_ad G a)) (ry := some (sm_ad G b)) F.1 F.2.1 hd ht (fun _ => k _ L) (fun e => absurd e (sm_ad_inj ha hb h))) k
/-! what is thrown -/
theorem wp_athrow {b : Nat} (hd : decode X.2.1 pc = .ok (.athrow, 1)) (k : sm_VX G X d pc lv b I ρ Q) : sm_V G X d pc lv (.ref b :: st) I ρ Q := by
  obtain ⟨o, I', ρ', h1, h2, h3, h4⟩ := k
  exact ⟨o, I', ρ', h1, h2, h3, fun p e R s m args below meth c H locs cells slots mc ms ls F a1 a2 a3 a4 a5 a6 a7 a8 a9 => vy_athrow F.1 F.2.1 hd (h4 p e R s m args below meth c H locs cells slots mc ms ls (st.map (sm_cv G)) F a1 a2 a3 a4 a5 a6 a7 a8 a9)⟩
theorem sm_fcell {s : State} {H : Heap} {b n : Nat} (hgood : sm_Good G s) (RP : sm_Rep G I ρ H) (hs : ρ.2.2.1 b = (2, n)) : ∃ ce : Cell, H[sm_ad G b]? = some ce ∧ ce.vm = .none ∧ s.vm.findClass RX1 = some ce.cls := by
  have hat := (sm_ws_at (G := G) (I := I) RP.2.2.2 hs (by decide)).trans (by rw [sm_ent_obj hs (by decide)])
  obtain ⟨r, h1, cell, q1, q2, q3, q4⟩ := RP.1 (b - 64) _ hat
  cases h1
  obtain ⟨hSl, hfc, kC, hkC, hkind⟩ := hgood.1.1 2 _ rfl
  exact ⟨cell, q1, q3, by rw [q2]; exact hfc⟩
theorem wp_out {b n : Nat} (hh : X.2.2.2.2.2 = []) (hs : ρ.2.2.1 b = (2, n)) (q : Q (.inr b) I ρ) : sm_VX G X d pc lv b I ρ Q := by
  refine ⟨.inr b, I, ρ, q, Nat.le_refl _, Nat.le_refl _, fun p e R s m args below meth c H locs cells slots mc ms ls rest F a1 a2 a3 a4 a5 a6 a7 a8 a9 => ?_⟩
  obtain ⟨hx, hb, hml, hr2, hnm, hex, hlk, hown, hts, hgood, hcst⟩ := F
  obtain ⟨ce, e1, e2, e3⟩ := sm_fcell hgood a7 hs
  refine vy_out (E := RX1) (ce := ce) (fun x hx => ?_) hlk e1 e2 e3 (fun t ht hv => ⟨⟨b, rfl, rfl, rfl, by rw [hs]⟩, by rw [ht]; exact a7, a8.F ht⟩) a8.2.2 (by omega) (by omega)
  rw [hex, hh] at hx
  cases hx
/-- KnockerFaces.read's one handler -/
theorem wp_catch {b n fr to hp ct : Nat} {nm : String} (hh : X.2.2.2.2.2 = [(fr, to, hp, ct)]) (hcov : fr ≤ pc ∧ pc < to) (hct : ct ≠ 0) (hs : ρ.2.2.1 b = (2, n)) (hl : Cond.classLink X.1 ct nm ∈ lw_all) (hcc : Cond.castable RX1 nm ∈ lw_tbl) (k : sm_V G X d hp lv [.ref b] I ρ Q) : sm_VX G X d pc lv b I ρ Q := by
  obtain ⟨o, I', ρ', h1, h2, h3, h4⟩ := k
  refine ⟨o, I', ρ', h1, h2, h3, fun p e R s m args below meth c H locs cells slots mc ms ls rest F a1 a2 a3 a4 a5 a6 a7 a8 a9 => ?_⟩
  have h5 := h4 p e R s m args below meth c H locs cells slots mc ms ls F a1 a2 a3 a4 a5 a6 a7 a8 a9
  obtain ⟨hx, hb, hml, hr2, hnm, hex, hlk, hown, hts, hgood, hcst⟩ := F
  obtain ⟨ce, e1, e2, e3⟩ := sm_fcell hgood a7 hs
  refine vy_catch (own := X.1) (name := nm) (E := RX1) (ce := ce) hown [] { startPc := fr, endPc := to, handlerPc := hp, catchType := ct } [] (by rw [hex, hh]; rfl) (fun z hz => nomatch hz) (by simp [covers, hcov.1, hcov.2]) hct (hts _ hl) (va_Nw.use (A := args) rfl (hgood.2.2.1 _ _ hcc)) e1 e2 e3 h5
end WPN
section WPA
variable {G : sm_G} {X : sm_X} {d pc : Nat} {lv st : List Value} {I : sm_I} {ρ : sm_R} {Q : sm_O → sm_I → sm_R → Prop}
/-- objects of class number t may stand in an array of E -/
def sm_AS (t : Nat) (E : String) : Prop := ∃ (C : String) (T : u_T) (N : Nat), sm_cl[t]? = some (C, T, N) ∧ t ≠ 0 ∧ t < 100 ∧ (E = C ∨ Cond.castable C E ∈ lw_tbl)
theorem wp_aast {a nn t b tv nb : Nat} {E : String} {i : Int32} (n : Nat) (hn : pc + 1 = n) (hd : decode X.2.1 pc = .ok (.aastore, 1)) (ht : 4 < t) (hty : sm_at[t]? = some (.object E)) (hs : ρ.2.2.1 a = (t + 100, nn)) (j : Nat) (hi : i = nI j) (hj : j < nn ∧ nn < 2147483648) (hv : ρ.2.2.1 b = (tv, nb)) (hc : sm_AS tv E) (k : sm_V G X d n lv st I (ρ.1, sm_up ρ.2.1 a j (some b), ρ.2.2) Q) : sm_V G X d pc lv (.ref b :: .int i :: .ref a :: st) I ρ Q := by
  subst hn
  subst hi
  obtain ⟨C, T, N, h1, h2, h3, h4⟩ := hc
  refine sm_aast ht hty hd hs j hj (fun s H args hgood hts RP => ?_) k
  obtain ⟨cell, c1, c2, c3⟩ := sm_recv hgood RP hv h2 h3 h1
  obtain ⟨kC, hkC, -⟩ := Vm.findClass_spec c3
  refine ⟨cell, c1, c2, ⟨kC, hkC⟩, fun comp hcomp => ?_⟩
  rcases h4 with e | h4
  · subst e
    cases Option.some.inj (c3.symm.trans hcomp)
    exact va_asg _ _
  · obtain ⟨c0, t0, f1, f2, f3⟩ := Cond.castable_spec (va_Nw.use (A := args) rfl (hgood.2.2.1 _ _ h4))
    cases Option.some.inj (c3.symm.trans f1)
    cases Option.some.inj (hcomp.symm.trans f2)
    exact f3
theorem sm_aastC {a nn b : Nat} {i : Int32} (n : Nat) (hn : pc + 1 = n) (hd : decode X.2.1 pc = .ok (.aastore, 1)) (hs : ρ.2.2.1 a = (106, nn)) (j : Nat) (hi : i = nI j) (hj : j < nn ∧ nn < 2147483648) (hb : b < 22) (k : sm_V G X d n lv st I (ρ.1, sm_up ρ.2.1 a j (some b), ρ.2.2) Q) : sm_V G X d pc lv (.ref b :: .int i :: .ref a :: st) I ρ Q := by
  subst hn
  subst hi
  refine sm_write (I1 := I) (ρ1 := (ρ.1, sm_up ρ.2.1 a j (some b), ρ.2.2)) rfl (fun p e R s m args below meth c H locs cells slots ls QQ F RP S k => ?_) k
  obtain ⟨hx, hbb, hml, hr, hnm, hex, hlk, hown, hts, hgood, hcst⟩ := F
  have hat := (sm_ws_at (G := G) (I := I) RP.2.2.2 hs (by omega)).trans (by rw [sm_ent_p (t := 6) hs (by decide)])
  have hDD := sm_ws_D G I ρ
  have hin := vp_in_nI hj.1 hj.2
  have hlt : (nI j).toNatClampNeg < nn := by rw [nI_clamp (by omega)]; exact hj.1
  have h0 : ¬ nI j < 0 := fun q => hin (Or.inl q)
  obtain ⟨cellV, g1, g3, g4⟩ := sm_recvC hcst.2.2 RP hb
  obtain ⟨kC, hkC, -⟩ := Vm.findClass_spec g4
  obtain ⟨kA, comp, k1, k2, k3, -⟩ := (hgood.1.2 6 _ (sm_ty_at (ty := .object "java/lang/String") rfl)).2
  obtain ⟨kE, hkE, -⟩ := Vm.findClass_spec k3
  have hcc : cellV.cls = comp := Option.some.inj (g4.symm.trans k3)
  refine W.aast hx hbb (RP.1 (a - 64) _ hat) (fun q h => by cases h) (fun h => by cases h) k1 k2 rfl hkE ⟨h0, by show _ < (arrV _ _ _).slots.size; rw [arrV_size]; exact hlt⟩ g1 (fun q h => by rw [h] at g3; cases g3) hkC (by rw [hcc]; exact va_asg _ _) rfl rfl hd fun H1 e z oq => ?_
  have hP' := RP.1.set hDD hat (e := .inl (G.2.2.2.1 6, nn, .inr (.inr (.inr (.inr (fun q => (sm_up ρ.2.1 a j (some b) a q).map (sm_ad G))))))) (H1 := H1) (by
    show H1[_]? = some (vp_cell _ _)
    rw [e, nI_clamp (by omega)]
    rw [vp_cell_q, vp_cell_q, arrV_store]
    congr 2
    funext q
    rw [sm_up_eq]
    by_cases hq : q = j
    · subst hq
      simp [updV, va_up, va_rf]
    · simp [updV, va_up, hq]) oq
  rw [sm_ws_set (I' := I) (ρ' := (ρ.1, sm_up ρ.2.1 a j (some b), ρ.2.2)) RP.2.2.2 hs (by omega) rfl (by rw [sm_ent_p (ρ := (ρ.1, sm_up ρ.2.1 a j (some b), ρ.2.2)) (t := 6) hs (by decide)]) (fun q hq => by
    unfold sm_ent
    show (if (ρ.2.2.1 q).1 < 100 then Sum.inr (_, sm_fl G (ρ.2.2.1 q).1 (I q) (sm_up ρ.2.1 a j (some b) q)) else Sum.inl (_, _, if (ρ.2.2.1 q).1 < 104 then _ else if (ρ.2.2.1 q).1 = 104 then _ else Sum.inr (Sum.inr (Sum.inr (Sum.inr (fun i => (sm_up ρ.2.1 a j (some b) q i).map (sm_ad G))))))) = _
    rw [sm_up_ne _ _ _ hq])] at hP'
  have hS' := S.put (k := (nI j).toNatClampNeg) z oq (hDD.2 (a - 64) _ hat)
  exact k H1 _ hP' hS' z (sm_base hcst.2.1 S hS')
end WPA
theorem nX0_25 : sm_NW RX0 25 2 8 := ⟨_, _, tyX1, rfl, in_X1, q161, q162, q119, by decide, by decide, tyX1_ok, by decide +kernel⟩
theorem caX0_25_2 : sm_CA RX0 25 2 := ⟨_, _, _, _, rfl, by decide, by decide, q161, Or.inl rfl⟩
theorem nX0_32 : sm_NW RX0 32 3 8 := ⟨_, _, tyX2, rfl, in_X2, q235, q236, q120, by decide, by decide, tyX2_ok, by decide +kernel⟩
theorem caX0_32_3 : sm_CA RX0 32 3 := ⟨_, _, _, _, rfl, by decide, by decide, q235, Or.inl rfl⟩
theorem nX0_39 : sm_NW RX0 39 4 7 := ⟨_, _, tyX3, rfl, in_X3, q295, q296, q121, by decide, by decide, tyX3_ok, by decide +kernel⟩
theorem caX0_39_4 : sm_CA RX0 39 4 := ⟨_, _, _, _, rfl, by decide, by decide, q295, Or.inl rfl⟩
theorem nX0_48 : sm_NW RX0 48 5 7 := ⟨_, _, tyX4, rfl, in_X4, q323, q324, q122, by decide, by decide, tyX4_ok, by decide +kernel⟩
theorem caX0_48_5 : sm_CA RX0 48 5 := ⟨_, _, _, _, rfl, by decide, by decide, q323, Or.inl rfl⟩
theorem nX0_59 : sm_NW RX0 59 6 12 := ⟨_, _, tyX5, rfl, in_X5, q396, q397, q126, by decide, by decide, tyX5_ok, by decide +kernel⟩
theorem caX0_59_6 : sm_CA RX0 59 6 := ⟨_, _, _, _, rfl, by decide, by decide, q396, Or.inl rfl⟩
theorem nX0_79 : sm_NW RX0 79 8 0 := ⟨_, _, tyX0, rfl, (fun w h => by simp [u_ws] at h), q471, q472, q129, by decide, by decide, (fun k h => absurd h (Nat.not_lt_zero _)), by decide +kernel⟩
theorem caX0_79_8 : sm_CA RX0 79 8 := ⟨_, _, _, _, rfl, by decide, by decide, q471, Or.inl rfl⟩
theorem nX0_86 : sm_NW RX0 86 9 0 := ⟨_, _, tyX0, rfl, (fun w h => by simp [u_ws] at h), q481, q482, q130, by decide, by decide, (fun k h => absurd h (Nat.not_lt_zero _)), by decide +kernel⟩
theorem caX0_86_9 : sm_CA RX0 86 9 := ⟨_, _, _, _, rfl, by decide, by decide, q481, Or.inl rfl⟩
theorem nX0_177 : sm_NW RX0 177 15 2 := ⟨_, _, tyX17, rfl, in_X17, q1170, q806, q143, by decide, by decide, tyX17_ok, by decide +kernel⟩
theorem caX0_177_15 : sm_CA RX0 177 15 := ⟨_, _, _, _, rfl, by decide, by decide, q1170, Or.inl rfl⟩
theorem nX0_215 : sm_NW RX0 215 16 2 := ⟨_, _, tyX18, rfl, in_X18, q1184, q1086, q150, by decide, by decide, tyX18_ok, by decide +kernel⟩
theorem caX0_215_16 : sm_CA RX0 215 16 := ⟨_, _, _, _, rfl, by decide, by decide, q1184, Or.inl rfl⟩
theorem nX0_224 : sm_NW RX0 224 17 4 := ⟨_, _, tyX19, rfl, in_X19, q1193, q1095, q151, by decide, by decide, tyX19_ok, by decide +kernel⟩
theorem caX0_224_17 : sm_CA RX0 224 17 := ⟨_, _, _, _, rfl, by decide, by decide, q1193, Or.inl rfl⟩
theorem caX11_9_12 : sm_CA RX11 9 12 := ⟨_, _, _, _, rfl, by decide, by decide, q710, Or.inr q2190⟩
theorem caX11_9_13 : sm_CA RX11 9 13 := ⟨_, _, _, _, rfl, by decide, by decide, q710, Or.inr q2191⟩
theorem caX11_9_14 : sm_CA RX11 9 14 := ⟨_, _, _, _, rfl, by decide, by decide, q710, Or.inr q2192⟩
theorem nX3_87 : sm_NW RX3 87 5 7 := ⟨_, _, tyX4, rfl, in_X4, q674, q324, q122, by decide, by decide, tyX4_ok, by decide +kernel⟩
theorem caX3_87_5 : sm_CA RX3 87 5 := ⟨_, _, _, _, rfl, by decide, by decide, q674, Or.inl rfl⟩
theorem nX3_129 : sm_NW RX3 129 15 2 := ⟨_, _, tyX17, rfl, in_X17, q805, q806, q143, by decide, by decide, tyX17_ok, by decide +kernel⟩
theorem caX3_129_15 : sm_CA RX3 129 15 := ⟨_, _, _, _, rfl, by decide, by decide, q805, Or.inl rfl⟩
theorem nX3_149 : sm_NW RX3 149 16 2 := ⟨_, _, tyX18, rfl, in_X18, q1085, q1086, q150, by decide, by decide, tyX18_ok, by decide +kernel⟩
theorem caX3_149_16 : sm_CA RX3 149 16 := ⟨_, _, _, _, rfl, by decide, by decide, q1085, Or.inl rfl⟩
theorem nX3_155 : sm_NW RX3 155 17 4 := ⟨_, _, tyX19, rfl, in_X19, q1094, q1095, q151, by decide, by decide, tyX19_ok, by decide +kernel⟩
theorem caX3_155_17 : sm_CA RX3 155 17 := ⟨_, _, _, _, rfl, by decide, by decide, q1094, Or.inl rfl⟩
theorem nX3_190 : sm_NW RX3 190 11 4 := ⟨_, _, tyX11, rfl, in_X11, q704, q705, q137, by decide, by decide, tyX11_ok, by decide +kernel⟩
theorem caX3_190_11 : sm_CA RX3 190 11 := ⟨_, _, _, _, rfl, by decide, by decide, q704, Or.inl rfl⟩
theorem nX3_216 : sm_NW RX3 216 14 3 := ⟨_, _, tyX15, rfl, in_X15, q784, q785, q141, by decide, by decide, tyX15_ok, by decide +kernel⟩
theorem caX3_216_14 : sm_CA RX3 216 14 := ⟨_, _, _, _, rfl, by decide, by decide, q784, Or.inl rfl⟩
theorem nX3_224 : sm_NW RX3 224 12 1 := ⟨_, _, tyX13, rfl, in_X13, q757, q758, q139, by decide, by decide, tyX13_ok, by decide +kernel⟩
theorem caX3_224_12 : sm_CA RX3 224 12 := ⟨_, _, _, _, rfl, by decide, by decide, q757, Or.inl rfl⟩
theorem nX3_228 : sm_NW RX3 228 13 1 := ⟨_, _, tyX14, rfl, in_X14, q774, q775, q140, by decide, by decide, tyX14_ok, by decide +kernel⟩
theorem caX3_228_13 : sm_CA RX3 228 13 := ⟨_, _, _, _, rfl, by decide, by decide, q774, Or.inl rfl⟩
theorem nX4_9 : sm_NW RX4 9 18 3 := ⟨_, _, tyJ5, rfl, in_J5, q329, q330, q125, by decide, by decide, tyJ5_ok, by decide +kernel⟩
theorem caX4_9_18 : sm_CA RX4 9 18 := ⟨_, _, _, _, rfl, by decide, by decide, q329, Or.inl rfl⟩
theorem nX4_24 : sm_NW RX4 24 11 4 := ⟨_, _, tyX11, rfl, in_X11, q355, q705, q137, by decide, by decide, tyX11_ok, by decide +kernel⟩
theorem caX4_24_11 : sm_CA RX4 24 11 := ⟨_, _, _, _, rfl, by decide, by decide, q355, Or.inl rfl⟩
theorem caX4_42_16 : sm_CA RX4 42 16 := ⟨_, _, _, _, rfl, by decide, by decide, q990, Or.inr q2166⟩
theorem caX4_42_15 : sm_CA RX4 42 15 := ⟨_, _, _, _, rfl, by decide, by decide, q990, Or.inr q2167⟩
theorem nX2_9 : sm_NW RX2 9 19 4 := ⟨_, _, tyJ8, rfl, in_J8, q241, q929, q134, by decide, by decide, tyJ8_ok, by decide +kernel⟩
theorem caX2_9_19 : sm_CA RX2 9 19 := ⟨_, _, _, _, rfl, by decide, by decide, q241, Or.inl rfl⟩
theorem nX2_113 : sm_NW RX2 113 20 4 := ⟨_, _, tyJ12, rfl, in_J12, q819, q820, q145, by decide, by decide, tyJ12_ok, by decide +kernel⟩
theorem caX2_113_20 : sm_CA RX2 113 20 := ⟨_, _, _, _, rfl, by decide, by decide, q819, Or.inl rfl⟩
theorem nX5_35 : sm_NW RX5 35 7 2 := ⟨_, _, tyX6, rfl, in_X6, q404, q405, q127, by decide, by decide, tyX6_ok, by decide +kernel⟩
theorem caX5_35_7 : sm_CA RX5 35 7 := ⟨_, _, _, _, rfl, by decide, by decide, q404, Or.inl rfl⟩
theorem nX5_58 : sm_NW RX5 58 15 2 := ⟨_, _, tyX17, rfl, in_X17, q511, q806, q143, by decide, by decide, tyX17_ok, by decide +kernel⟩
theorem caX5_58_15 : sm_CA RX5 58 15 := ⟨_, _, _, _, rfl, by decide, by decide, q511, Or.inl rfl⟩
theorem nX5_123 : sm_NW RX5 123 16 2 := ⟨_, _, tyX18, rfl, in_X18, q1158, q1086, q150, by decide, by decide, tyX18_ok, by decide +kernel⟩
theorem caX5_123_16 : sm_CA RX5 123 16 := ⟨_, _, _, _, rfl, by decide, by decide, q1158, Or.inl rfl⟩
theorem nX5_157 : sm_NW RX5 157 17 4 := ⟨_, _, tyX19, rfl, in_X19, q1313, q1095, q151, by decide, by decide, tyX19_ok, by decide +kernel⟩
theorem caX5_157_17 : sm_CA RX5 157 17 := ⟨_, _, _, _, rfl, by decide, by decide, q1313, Or.inl rfl⟩
theorem nL_7 : sm_NW "KnockerFacesLaw" 7 1 22 := ⟨_, _, tyX0, rfl, in_X0, q153, q154, q115, by decide, by decide, tyX0_ok, by decide +kernel⟩
theorem caL_7_1 : sm_CA "KnockerFacesLaw" 7 1 := ⟨_, _, _, _, rfl, by decide, by decide, q153, Or.inl rfl⟩
theorem nL_10 : sm_NW "KnockerFacesLaw" 10 10 66 := ⟨_, _, tyX10, rfl, in_X10, q1491, q1492, q133, by decide, by decide, tyX10_ok, by decide +kernel⟩
theorem caL_10_10 : sm_CA "KnockerFacesLaw" 10 10 := ⟨_, _, _, _, rfl, by decide, by decide, q1491, Or.inl rfl⟩
theorem nJ8_10 : sm_NW RJ8 10 19 4 := ⟨_, _, tyJ8, rfl, in_J8, q995, q929, q134, by decide, by decide, tyJ8_ok, by decide +kernel⟩
theorem caJ8_10_19 : sm_CA RJ8 10 19 := ⟨_, _, _, _, rfl, by decide, by decide, q995, Or.inl rfl⟩
theorem nJ12_18 : sm_NW RJ12 18 19 4 := ⟨_, _, tyJ8, rfl, in_J8, q928, q929, q134, by decide, by decide, tyJ8_ok, by decide +kernel⟩
theorem caJ12_18_19 : sm_CA RJ12 18 19 := ⟨_, _, _, _, rfl, by decide, by decide, q928, Or.inl rfl⟩
theorem caJ5_7_19 : sm_CA RJ5 7 19 := ⟨_, _, _, _, rfl, by decide, by decide, q1084, Or.inr q2168⟩
theorem caJ5_7_11 : sm_CA RJ5 7 11 := ⟨_, _, _, _, rfl, by decide, by decide, q1084, Or.inr q2169⟩
theorem caJ5_7_6 : sm_CA RJ5 7 6 := ⟨_, _, _, _, rfl, by decide, by decide, q1084, Or.inr q2170⟩
theorem caJ5_7_1 : sm_CA RJ5 7 1 := ⟨_, _, _, _, rfl, by decide, by decide, q1084, Or.inr q2172⟩
theorem caJ5_7_2 : sm_CA RJ5 7 2 := ⟨_, _, _, _, rfl, by decide, by decide, q1084, Or.inr q2173⟩
theorem caJ5_7_3 : sm_CA RJ5 7 3 := ⟨_, _, _, _, rfl, by decide, by decide, q1084, Or.inr q2174⟩
theorem caJ5_7_4 : sm_CA RJ5 7 4 := ⟨_, _, _, _, rfl, by decide, by decide, q1084, Or.inr q2175⟩
theorem caJ5_7_5 : sm_CA RJ5 7 5 := ⟨_, _, _, _, rfl, by decide, by decide, q1084, Or.inr q2176⟩
theorem caJ5_7_18 : sm_CA RJ5 7 18 := ⟨_, _, _, _, rfl, by decide, by decide, q1084, Or.inr q2177⟩
theorem caJ5_7_7 : sm_CA RJ5 7 7 := ⟨_, _, _, _, rfl, by decide, by decide, q1084, Or.inr q2178⟩
theorem caJ5_7_8 : sm_CA RJ5 7 8 := ⟨_, _, _, _, rfl, by decide, by decide, q1084, Or.inr q2179⟩
theorem caJ5_7_9 : sm_CA RJ5 7 9 := ⟨_, _, _, _, rfl, by decide, by decide, q1084, Or.inr q2180⟩
theorem caJ5_7_10 : sm_CA RJ5 7 10 := ⟨_, _, _, _, rfl, by decide, by decide, q1084, Or.inr q2181⟩
theorem caJ5_7_12 : sm_CA RJ5 7 12 := ⟨_, _, _, _, rfl, by decide, by decide, q1084, Or.inr q2182⟩
theorem caJ5_7_13 : sm_CA RJ5 7 13 := ⟨_, _, _, _, rfl, by decide, by decide, q1084, Or.inr q2183⟩
theorem caJ5_7_14 : sm_CA RJ5 7 14 := ⟨_, _, _, _, rfl, by decide, by decide, q1084, Or.inr q2184⟩
theorem caJ5_7_15 : sm_CA RJ5 7 15 := ⟨_, _, _, _, rfl, by decide, by decide, q1084, Or.inr q2185⟩
theorem caJ5_7_20 : sm_CA RJ5 7 20 := ⟨_, _, _, _, rfl, by decide, by decide, q1084, Or.inr q2186⟩
theorem caJ5_7_16 : sm_CA RJ5 7 16 := ⟨_, _, _, _, rfl, by decide, by decide, q1084, Or.inr q2187⟩
theorem caJ5_7_17 : sm_CA RJ5 7 17 := ⟨_, _, _, _, rfl, by decide, by decide, q1084, Or.inr q2188⟩
theorem caJ15_2_19 : sm_CA RJ15 2 19 := ⟨_, _, _, _, rfl, by decide, by decide, q1082, Or.inr q2168⟩
theorem caJ15_2_11 : sm_CA RJ15 2 11 := ⟨_, _, _, _, rfl, by decide, by decide, q1082, Or.inr q2169⟩
theorem caJ15_2_6 : sm_CA RJ15 2 6 := ⟨_, _, _, _, rfl, by decide, by decide, q1082, Or.inr q2170⟩
theorem caJ15_2_1 : sm_CA RJ15 2 1 := ⟨_, _, _, _, rfl, by decide, by decide, q1082, Or.inr q2172⟩
theorem caJ15_2_2 : sm_CA RJ15 2 2 := ⟨_, _, _, _, rfl, by decide, by decide, q1082, Or.inr q2173⟩
theorem caJ15_2_3 : sm_CA RJ15 2 3 := ⟨_, _, _, _, rfl, by decide, by decide, q1082, Or.inr q2174⟩
theorem caJ15_2_4 : sm_CA RJ15 2 4 := ⟨_, _, _, _, rfl, by decide, by decide, q1082, Or.inr q2175⟩
theorem caJ15_2_5 : sm_CA RJ15 2 5 := ⟨_, _, _, _, rfl, by decide, by decide, q1082, Or.inr q2176⟩
theorem caJ15_2_18 : sm_CA RJ15 2 18 := ⟨_, _, _, _, rfl, by decide, by decide, q1082, Or.inr q2177⟩
theorem caJ15_2_7 : sm_CA RJ15 2 7 := ⟨_, _, _, _, rfl, by decide, by decide, q1082, Or.inr q2178⟩
theorem caJ15_2_8 : sm_CA RJ15 2 8 := ⟨_, _, _, _, rfl, by decide, by decide, q1082, Or.inr q2179⟩
theorem caJ15_2_9 : sm_CA RJ15 2 9 := ⟨_, _, _, _, rfl, by decide, by decide, q1082, Or.inr q2180⟩
theorem caJ15_2_10 : sm_CA RJ15 2 10 := ⟨_, _, _, _, rfl, by decide, by decide, q1082, Or.inr q2181⟩
theorem caJ15_2_12 : sm_CA RJ15 2 12 := ⟨_, _, _, _, rfl, by decide, by decide, q1082, Or.inr q2182⟩
theorem caJ15_2_13 : sm_CA RJ15 2 13 := ⟨_, _, _, _, rfl, by decide, by decide, q1082, Or.inr q2183⟩
theorem caJ15_2_14 : sm_CA RJ15 2 14 := ⟨_, _, _, _, rfl, by decide, by decide, q1082, Or.inr q2184⟩
theorem caJ15_2_15 : sm_CA RJ15 2 15 := ⟨_, _, _, _, rfl, by decide, by decide, q1082, Or.inr q2185⟩
theorem caJ15_2_20 : sm_CA RJ15 2 20 := ⟨_, _, _, _, rfl, by decide, by decide, q1082, Or.inr q2186⟩
theorem caJ15_2_16 : sm_CA RJ15 2 16 := ⟨_, _, _, _, rfl, by decide, by decide, q1082, Or.inr q2187⟩
theorem caJ15_2_17 : sm_CA RJ15 2 17 := ⟨_, _, _, _, rfl, by decide, by decide, q1082, Or.inr q2188⟩
