/-! ===== rows of sm_V for instructions that read and write cells; ends ===== -/
set_option maxRecDepth 100000
def sm_u (I : sm_I) (a k : Nat) (v : Int32) : sm_I := fun b => if b = a then upd (I b) k v else I b
def sm_up (P : Nat → Nat → Option Nat) (a k : Nat) (p : Option Nat) : Nat → Nat → Option Nat := fun b => if b = a then va_up (P b) k p else P b
def sm_ul (L : Nat → Nat → Int64) (a k : Nat) (v : Int64) : Nat → Nat → Int64 := fun b => if b = a then vp_updL (L b) k v else L b
theorem sm_u_eq (I : sm_I) (a k : Nat) (v : Int32) : sm_u I a k v a = upd (I a) k v := if_pos rfl
theorem sm_u_ne (I : sm_I) {a b : Nat} (k : Nat) (v : Int32) (h : b ≠ a) : sm_u I a k v b = I b := if_neg h
theorem sm_up_eq (P : Nat → Nat → Option Nat) (a k : Nat) (p : Option Nat) : sm_up P a k p a = va_up (P a) k p := if_pos rfl
theorem sm_up_ne (P : Nat → Nat → Option Nat) {a b : Nat} (k : Nat) (p : Option Nat) (h : b ≠ a) : sm_up P a k p b = P b := if_neg h
theorem sm_ul_eq (L : Nat → Nat → Int64) (a k : Nat) (v : Int64) : sm_ul L a k v a = vp_updL (L a) k v := if_pos rfl
theorem sm_ul_ne (L : Nat → Nat → Int64) {a b : Nat} (k : Nat) (v : Int64) (h : b ≠ a) : sm_ul L a k v b = L b := if_neg h
/-- a field of class number t, place k, kind κ, by the entry ix of its reader -/
def sm_FL (own : String) (ix t k κ : Nat) : Prop := ∃ (C : String) (T : u_T) (N : Nat) (ref : String), sm_cl[t]? = some (C, T, N) ∧ (∀ w ∈ u_ws C T N, w ∈ lw_all) ∧ k < N ∧ (sm_kinds.getD t [])[k]? = some κ ∧ Cond.fieldLink own ix ref (T k).2.1 (T k).2.2.1 ∈ lw_all ∧ ((T k).1 = ref ∨ Cond.sameField ref (T k).1 (T k).2.1 (T k).2.2.1 ∈ lw_all) ∧ t ≠ 0 ∧ t < 100
/-- and to write it: its type, not final -/
def sm_FP (own : String) (ix t k κ : Nat) (ty : FieldType) (fin : Bool) : Prop := ∃ (C : String) (T : u_T) (N : Nat) (ref : String) (ty0 : Nat → FieldType), sm_cl[t]? = some (C, T, N) ∧ (∀ w ∈ u_ws C T N, w ∈ lw_all) ∧ k < N ∧ (sm_kinds.getD t [])[k]? = some κ ∧ Cond.fieldLink own ix ref (T k).2.1 (T k).2.2.1 ∈ lw_all ∧ ((T k).1 = ref ∨ Cond.sameField ref (T k).1 (T k).2.1 (T k).2.2.1 ∈ lw_all) ∧ t ≠ 0 ∧ t < 100 ∧
  (∀ k, k < N → parseFieldDescriptor (T k).2.2.1 = some (ty0 k)) ∧ (∀ a, a < N → ∀ b, b < N → a ≠ b → (T a).2.1 ≠ (T b).2.1) ∧ ty0 k = ty ∧ (T k).2.2.2 = fin ∧ (fin = true → (T k).1 = own)
theorem sm_ent_obj {G : sm_G} {I : sm_I} {ρ : sm_R} {a t n : Nat} (h : ρ.2.2.1 a = (t, n)) (ht : t < 100) : sm_ent G I ρ a = .inr (t, sm_fl G t (I a) (ρ.2.1 a)) := by
  unfold sm_ent
  rw [h]
  exact if_pos ht
theorem sm_fl_at {G : sm_G} {t k κ : Nat} {i : Nat → Int32} {p : Nat → Option Nat} (h : (sm_kinds.getD t [])[k]? = some κ) : (sm_fl G t i p)[k]? = some (sm_val G κ (i k) (p k)) := by
  unfold sm_fl
  rw [List.getElem?_mapIdx, h]
  rfl
theorem sm_fl_len {G : sm_G} {t : Nat} {i : Nat → Int32} {p : Nat → Option Nat} : (sm_fl G t i p).length = (sm_kinds.getD t []).length := by
  unfold sm_fl
  rw [List.length_mapIdx]
theorem sm_fl_seti {G : sm_G} {t k : Nat} {i : Nat → Int32} {p : Nat → Option Nat} {v : Int32} (h : (sm_kinds.getD t [])[k]? = some 0) : (sm_fl G t i p).set k (.int v) = sm_fl G t (upd i k v) p := by
  apply List.ext_getElem?
  intro j
  rw [List.getElem?_set, sm_fl_len]
  unfold sm_fl
  rw [List.getElem?_mapIdx, List.getElem?_mapIdx]
  by_cases hj : k = j
  · subst hj
    rw [if_pos rfl, if_pos (List.getElem?_eq_some_iff.mp h).1, h]
    simp [sm_val, upd]
  · rw [if_neg hj]
    simp [upd, Ne.symm hj]
theorem sm_fl_setp {G : sm_G} {t k : Nat} {i : Nat → Int32} {p : Nat → Option Nat} {v : Option Nat} (h : (sm_kinds.getD t [])[k]? = some 2) : (sm_fl G t i p).set k (va_rf (v.map (sm_ad G))) = sm_fl G t i (va_up p k v) := by
  apply List.ext_getElem?
  intro j
  rw [List.getElem?_set, sm_fl_len]
  unfold sm_fl
  rw [List.getElem?_mapIdx, List.getElem?_mapIdx]
  by_cases hj : k = j
  · subst hj
    rw [if_pos rfl, if_pos (List.getElem?_eq_some_iff.mp h).1, h]
    simp [sm_val, va_up]
  · rw [if_neg hj]
    simp [va_up, Ne.symm hj]
section WP2
variable {G : sm_G} {X : sm_X} {d pc : Nat} {lv st : List Value} {I : sm_I} {ρ : sm_R} {Q : sm_O → sm_I → sm_R → Prop}
/-- an instruction that reads cells -/
theorem sm_read {pc' : Nat} {lv' st' : List Value}
    (h : ∀ (p : Program) (e : Env) (R : Room) (s : State) (m : MethodId) (args : Array Value) (below : List Frame) (meth : Method) (c : Code) (H : Heap) (locs : List Loc) (cells slots : Nat) (ls : Array Slot) (QQ : State → Prop), sm_Fr G X p s m args meth c → sm_Lv G X.2.2.1 ls lv → sm_Rep G I ρ H → va_S (sm_A G) s.heap H locs →
      (∀ ls' : Array Slot, sm_Lv G X.2.2.1 ls' lv' → W p G.1 e R s m args below meth c H locs cells slots QQ (F0 m pc' ls' (st'.map (sm_cv G)))) → W p G.1 e R s m args below meth c H locs cells slots QQ (F0 m pc ls (st.map (sm_cv G))))
    (k : sm_V G X d pc' lv' st' I ρ Q) : sm_V G X d pc lv st I ρ Q := by
  obtain ⟨o, I', ρ', h1, h2, h3, h4⟩ := k
  exact ⟨o, I', ρ', h1, h2, h3, fun p e R s m args below meth c H locs cells slots mc ms ls F a1 a2 a3 a4 a5 a6 a7 a8 a9 => h p e R s m args below meth c H locs cells slots ls _ F a9 a7 a8 (fun ls' L' => h4 p e R s m args below meth c H locs cells slots mc ms ls' F a1 a2 a3 a4 a5 a6 a7 a8 L')⟩
/-- an instruction that writes one cell -/
theorem sm_write {pc' : Nat} {st' : List Value} {I1 : sm_I} {ρ1 : sm_R} (hz : ρ1.2.2 = ρ.2.2)
    (h : ∀ (p : Program) (e : Env) (R : Room) (s : State) (m : MethodId) (args : Array Value) (below : List Frame) (meth : Method) (c : Code) (H : Heap) (locs : List Loc) (cells slots : Nat) (ls : Array Slot) (QQ : State → Prop), sm_Fr G X p s m args meth c → sm_Rep G I ρ H → va_S (sm_A G) s.heap H locs →
      (∀ (H1 : Heap) (locs1 : List Loc), va_P G.2.2.1 sm_cl (sm_ws G I1 ρ1) H1 → va_S (sm_A G) s.heap H1 locs1 → H1.size = H.size → (∀ q : Nat, q < G.2.1.size → H1[q]? = H[q]?) → W p G.1 e R s m args below meth c H1 locs1 cells slots QQ (F0 m pc' ls (st'.map (sm_cv G)))) → W p G.1 e R s m args below meth c H locs cells slots QQ (F0 m pc ls (st.map (sm_cv G))))
    (k : sm_V G X d pc' lv st' I1 ρ1 Q) : sm_V G X d pc lv st I ρ Q := by
  obtain ⟨o, I', ρ', h1, h2, h3, h4⟩ := k
  refine ⟨o, I', ρ', h1, by rw [← hz]; exact h2, by rw [← hz]; exact h3, fun p e R s m args below meth c H locs cells slots mc ms ls F a1 a2 a3 a4 a5 a6 a7 a8 a9 => h p e R s m args below meth c H locs cells slots ls _ F a7 a8 (fun H1 locs1 b1 b2 b3 b4 => h4 p e R s m args below meth c H1 locs1 cells slots mc ms ls F a1 a2 (by rw [hz]; exact a3) a4 (by rw [hz]; exact a5) a6 ⟨b1, by rw [b3, hz]; exact a7.2.1, fun q hq => (b4 q hq).trans (a7.2.2.1 q hq), by intro a; rw [hz]; exact a7.2.2.2 a⟩ b2 a9)⟩
theorem wp_geti {ix t j a nn : Nat} (n : Nat) (hn : pc + 3 = n) (hd : decode X.2.1 pc = .ok (.getfield ix, 3)) (hf : sm_FL X.1 ix t j 0) (hs : ρ.2.2.1 a = (t, nn)) (k : sm_V G X d n lv (.int (I a j) :: st) I ρ Q) : sm_V G X d pc lv (.ref a :: st) I ρ Q := by
  subst hn
  obtain ⟨C, T, N, ref, hc, hin, hk, hκ, hl, hsm, ht0, ht⟩ := hf
  refine sm_read (fun p e R s m args below meth c H locs cells slots ls QQ F L RP S k => ?_) k
  obtain ⟨hx, hb, hml, hr, hnm, hex, hlk, hown, hts, hgood, -⟩ := F
  refine va_get hx hb hts hin hown hgood.1 RP.1 (a - 64) ((sm_ws_at RP.2.2.2 hs ht0).trans (by rw [sm_ent_obj hs ht])) hc j hk (hts _ hl) ?_ (v := .int (I a j)) (sm_fl_at hκ) hd (k _ L)
  rcases hsm with e | h
  · intro x hx; rw [← e]; exact hx
  · exact u_same (hts _ h)
theorem wp_getr {ix t j a nn b : Nat} (n : Nat) (hn : pc + 3 = n) (hd : decode X.2.1 pc = .ok (.getfield ix, 3)) (hf : sm_FL X.1 ix t j 2) (hs : ρ.2.2.1 a = (t, nn)) (hp : ρ.2.1 a j = some b) (k : sm_V G X d n lv (.ref b :: st) I ρ Q) : sm_V G X d pc lv (.ref a :: st) I ρ Q := by
  subst hn
  obtain ⟨C, T, N, ref, hc, hin, hk, hκ, hl, hsm, ht0, ht⟩ := hf
  refine sm_read (fun p e R s m args below meth c H locs cells slots ls QQ F L RP S k => ?_) k
  obtain ⟨hx, hb, hml, hr, hnm, hex, hlk, hown, hts, hgood, -⟩ := F
  refine va_get hx hb hts hin hown hgood.1 RP.1 (a - 64) ((sm_ws_at RP.2.2.2 hs ht0).trans (by rw [sm_ent_obj hs ht])) hc j hk (hts _ hl) ?_ (v := .ref (sm_ad G b)) ((sm_fl_at hκ).trans (by rw [hp]; rfl)) hd (k _ L)
  rcases hsm with e | h
  · intro x hx; rw [← e]; exact hx
  · exact u_same (hts _ h)
theorem wp_getn {ix t j a nn : Nat} (n : Nat) (hn : pc + 3 = n) (hd : decode X.2.1 pc = .ok (.getfield ix, 3)) (hf : sm_FL X.1 ix t j 2) (hs : ρ.2.2.1 a = (t, nn)) (hp : ρ.2.1 a j = none) (k : sm_V G X d n lv (.null :: st) I ρ Q) : sm_V G X d pc lv (.ref a :: st) I ρ Q := by
  subst hn
  obtain ⟨C, T, N, ref, hc, hin, hk, hκ, hl, hsm, ht0, ht⟩ := hf
  refine sm_read (fun p e R s m args below meth c H locs cells slots ls QQ F L RP S k => ?_) k
  obtain ⟨hx, hb, hml, hr, hnm, hex, hlk, hown, hts, hgood, -⟩ := F
  refine va_get hx hb hts hin hown hgood.1 RP.1 (a - 64) ((sm_ws_at RP.2.2.2 hs ht0).trans (by rw [sm_ent_obj hs ht])) hc j hk (hts _ hl) ?_ (v := .null) ((sm_fl_at hκ).trans (by rw [hp]; rfl)) hd (k _ L)
  rcases hsm with e | h
  · intro x hx; rw [← e]; exact hx
  · exact u_same (hts _ h)
theorem sm_base {s0 H H1 : Heap} {locs locs1 : List Loc} (hg : G.2.1.size ≤ s0.size) (h : va_S (sm_A G) s0 H locs) (h1 : va_S (sm_A G) s0 H1 locs1) : ∀ q : Nat, q < G.2.1.size → H1[q]? = H[q]? := by
  intro q hq
  have n : ¬ sm_A G q := fun z => by
    have z : G.2.1.size ≤ q := z
    omega
  rw [h.2.1 q (by omega) n, h1.2.1 q (by omega) n]
/-- a field's new value, any kind -/
theorem sm_putV {I1 : sm_I} {ρ1 : sm_R} {ix t j a nn κ : Nat} {ty : FieldType} {v : Value} (hz : ρ1.2.2 = ρ.2.2) (hd : decode X.2.1 pc = .ok (.putfield ix, 3)) (hf : sm_FP X.1 ix t j κ ty false) (hs : ρ.2.2.1 a = (t, nn)) (hn2 : narrow ty (sm_cv G v) = sm_cv G v) (hft : fits ty (sm_cv G v) = true)
    (he : (sm_fl G t (I a) (ρ.2.1 a)).set j (sm_cv G v) = sm_fl G t (I1 a) (ρ1.2.1 a)) (ho : ∀ b, b ≠ a → I1 b = I b ∧ ρ1.1 b = ρ.1 b ∧ ρ1.2.1 b = ρ.2.1 b)
    (k : sm_V G X d (pc + 3) lv st I1 ρ1 Q) : sm_V G X d pc lv (v :: .ref a :: st) I ρ Q := by
  obtain ⟨C, T, N, ref, ty0, hc, hin, hk, hκ, hl, hsm, ht0, ht, hty, hnm, htk, hfin, -⟩ := hf
  refine sm_write hz (fun p e R s m args below meth c H locs cells slots ls QQ F RP S k => ?_) k
  obtain ⟨hx, hb, hml, hr, hnm2, hex, hlk, hown, hts, hgood, hcst⟩ := F
  have hK := hgood.1
  have hap := va_apart (own := X.1) hts hin ty0 hty hnm hK hc
  have hat := (sm_ws_at (G := G) (I := I) RP.2.2.2 hs ht0).trans (by rw [sm_ent_obj hs ht])
  obtain ⟨r, h1, cell, q1, q2, q3, q4⟩ := RP.1 (a - 64) _ hat
  have hr9 : r = (C, T, N) := Option.some.inj (h1.symm.trans hc)
  subst hr9
  obtain ⟨hSl, hfc, kC, hkC, hkind⟩ := hK.1 t _ hc
  obtain ⟨cf, kf, fi, f, hi, hsl⟩ := hSl j hk
  have hlay := hts _ (hin _ (u_in_lay hk))
  unfold u_lay at hlay
  rw [if_neg (by rw [hfin]; decide)] at hlay
  have hst := (u_facts hfc hkC (u_lays hts hin hk) hi).1
  have h6 := u_store hfc hkC hkind hlay hi ((hty j hk).trans (by rw [htk])) hn2 hft
  have hsame : s.fieldFound? ref (T j).2.1 (T j).2.2.1 = some (cf, kf, fi, f) := by
    rcases hsm with e | h
    · rw [← e]; exact hi
    · exact u_same (hts _ h) _ hi
  have hjl : j < (sm_fl G t (I a) (ρ.2.1 a)).length := by rw [sm_fl_len]; exact (List.getElem?_eq_some_iff.mp hκ).1
  have hDD := sm_ws_D G I ρ
  refine W.putK hx hb (f := f) ⟨hown, hts _ hl, ⟨_, _, _, hsame⟩, hst⟩ (by rw [q2]; exact h6) q1 q3 (by rw [hsl]; exact k2_hasslot (q4 j hk)) rfl rfl hd fun H' e1 e2 e3 => ?_
  rw [hsl] at e1
  have hP' := RP.1.set hDD hat (e := .inr (t, (sm_fl G t (I a) (ρ.2.1 a)).set j (sm_cv G v))) ⟨_, hc, t_OB.to (V := updV (vp_V (sm_fl G t (I a) (ρ.2.1 a))) j (sm_cv G v)) ⟨_, e1, q2, q3, t_set q4 hap hk (sm_cv G v)⟩ (fun q _ => vp_updV_set hjl (sm_cv G v) q)⟩ e3
  have hz1 : ρ1.2.2.1 = ρ.2.2.1 := by rw [hz]
  rw [sm_ws_set (I' := I1) (ρ' := ρ1) RP.2.2.2 hs ht0 (by rw [hz]) (by rw [sm_ent_obj (by rw [hz]; exact hs) ht, he]) (fun b hb => by
    obtain ⟨o1, o2, o3⟩ := ho b hb
    unfold sm_ent
    rw [hz1, o1, o2, o3])] at hP'
  have hS' := S.put (k := f.slot) e2 e3 (hDD.2 (a - 64) _ hat)
  exact k H' _ hP' hS' e2 (sm_base hcst.2.1 S hS')
theorem wp_puti {ix t j a nn : Nat} {ty : FieldType} {v : Int32} (n : Nat) (hn : pc + 3 = n) (hd : decode X.2.1 pc = .ok (.putfield ix, 3)) (hf : sm_FP X.1 ix t j 0 ty false) (hs : ρ.2.2.1 a = (t, nn)) (hnf : narrow ty (.int v) = .int v ∧ fits ty (.int v) = true) (k : sm_V G X d n lv st (sm_u I a j v) ρ Q) : sm_V G X d pc lv (.int v :: .ref a :: st) I ρ Q := by
  subst hn
  have hκ := hf.choose_spec.choose_spec.choose_spec.choose_spec.choose_spec.2.2.2.1
  exact sm_putV (v := .int v) rfl hd hf hs hnf.1 hnf.2 (by rw [sm_u_eq]; exact sm_fl_seti hκ) (fun b hb => ⟨sm_u_ne I _ _ hb, rfl, rfl⟩) k
theorem wp_putr {ix t j a nn b : Nat} {ty : FieldType} (n : Nat) (hn : pc + 3 = n) (hd : decode X.2.1 pc = .ok (.putfield ix, 3)) (hf : sm_FP X.1 ix t j 2 ty false) (hs : ρ.2.2.1 a = (t, nn)) (hnf : ∀ q : Nat, narrow ty (.ref q) = .ref q ∧ fits ty (.ref q) = true) (k : sm_V G X d n lv st I (ρ.1, sm_up ρ.2.1 a j (some b), ρ.2.2) Q) : sm_V G X d pc lv (.ref b :: .ref a :: st) I ρ Q := by
  subst hn
  have hκ := hf.choose_spec.choose_spec.choose_spec.choose_spec.choose_spec.2.2.2.1
  exact sm_putV (v := .ref b) (ρ1 := (ρ.1, sm_up ρ.2.1 a j (some b), ρ.2.2)) rfl hd hf hs (hnf _).1 (hnf _).2 (by show _ = sm_fl G t (I a) (sm_up ρ.2.1 a j (some b) a); rw [sm_up_eq, ← sm_fl_setp hκ]; rfl) (fun b hb => ⟨rfl, rfl, sm_up_ne _ _ _ hb⟩) k
/-- a final field, in the constructor -/
theorem sm_putVF {I1 : sm_I} {ρ1 : sm_R} {ix t j a nn κ : Nat} {ty : FieldType} {v : Value} (hz : ρ1.2.2 = ρ.2.2) (hd : decode X.2.1 pc = .ok (.putfield ix, 3)) (hini : X.2.2.2.2.1 = "<init>") (hf : sm_FP X.1 ix t j κ ty true) (hs : ρ.2.2.1 a = (t, nn)) (hn2 : narrow ty (sm_cv G v) = sm_cv G v) (hft : fits ty (sm_cv G v) = true)
    (he : (sm_fl G t (I a) (ρ.2.1 a)).set j (sm_cv G v) = sm_fl G t (I1 a) (ρ1.2.1 a)) (ho : ∀ b, b ≠ a → I1 b = I b ∧ ρ1.1 b = ρ.1 b ∧ ρ1.2.1 b = ρ.2.1 b)
    (k : sm_V G X d (pc + 3) lv st I1 ρ1 Q) : sm_V G X d pc lv (v :: .ref a :: st) I ρ Q := by
  obtain ⟨C, T, N, ref, ty0, hc, hin, hk, hκ, hl, hsm, ht0, ht, hty, hnm, htk, hfin, hdecl⟩ := hf
  have hdecl := hdecl rfl
  refine sm_write hz (fun p e R s m args below meth c H locs cells slots ls QQ F RP S k => ?_) k
  obtain ⟨hx, hb, hml, hr, hnm2, hex, hlk, hown, hts, hgood, hcst⟩ := F
  have hK := hgood.1
  have hap := va_apart (own := X.1) hts hin ty0 hty hnm hK hc
  have hat := (sm_ws_at (G := G) (I := I) RP.2.2.2 hs ht0).trans (by rw [sm_ent_obj hs ht])
  obtain ⟨r, h1, cell, q1, q2, q3, q4⟩ := RP.1 (a - 64) _ hat
  have hr9 : r = (C, T, N) := Option.some.inj (h1.symm.trans hc)
  subst hr9
  obtain ⟨hSl, hfc, kC, hkC, hkind⟩ := hK.1 t _ hc
  obtain ⟨cf, kf, fi, f, hi, hsl⟩ := hSl j hk
  have hlay := hts _ (hin _ (u_in_lay hk))
  unfold u_lay at hlay
  rw [if_pos hfin] at hlay
  have hst := (u_facts hfc hkC (u_lays hts hin hk) hi).1
  have hcf : m.cls = cf := by
    obtain ⟨_, _, c', _, _, _, -, -, hf', -, -, -, hown2, -⟩ := Cond.laysFinal_spec hlay
    have e1 : c' = cf := by have := hi.symm.trans hf'; simp at this; exact this.1.symm
    rw [hdecl] at hown2
    rw [← e1]; exact Option.some.inj (hown.symm.trans hown2)
  have h6 := u_fits hfc hkC hkind (Or.inr hlay) hi ((hty j hk).trans (by rw [htk])) hn2 hft
  have hsame : s.fieldFound? ref (T j).2.1 (T j).2.2.1 = some (cf, kf, fi, f) := by
    rcases hsm with e | h
    · rw [← e]; exact hi
    · exact u_same (hts _ h) _ hi
  have hjl : j < (sm_fl G t (I a) (ρ.2.1 a)).length := by rw [sm_fl_len]; exact (List.getElem?_eq_some_iff.mp hκ).1
  have hDD := sm_ws_D G I ρ
  refine W.putFinK hx hb hown (hts _ hl) hsame hst hcf (hnm2.trans hini) (by rw [q2]; exact h6) q1 q3 (by rw [hsl]; exact k2_hasslot (q4 j hk)) rfl rfl hd fun H' e1 e2 e3 => ?_
  rw [hsl] at e1
  have hP' := RP.1.set hDD hat (e := .inr (t, (sm_fl G t (I a) (ρ.2.1 a)).set j (sm_cv G v))) ⟨_, hc, t_OB.to (V := updV (vp_V (sm_fl G t (I a) (ρ.2.1 a))) j (sm_cv G v)) ⟨_, e1, q2, q3, t_set q4 hap hk (sm_cv G v)⟩ (fun q _ => vp_updV_set hjl (sm_cv G v) q)⟩ e3
  have hz1 : ρ1.2.2.1 = ρ.2.2.1 := by rw [hz]
  rw [sm_ws_set (I' := I1) (ρ' := ρ1) RP.2.2.2 hs ht0 (by rw [hz]) (by rw [sm_ent_obj (by rw [hz]; exact hs) ht, he]) (fun b hb => by
    obtain ⟨o1, o2, o3⟩ := ho b hb
    unfold sm_ent
    rw [hz1, o1, o2, o3])] at hP'
  have hS' := S.put (k := f.slot) e2 e3 (hDD.2 (a - 64) _ hat)
  exact k H' _ hP' hS' e2 (sm_base hcst.2.1 S hS')
theorem wp_putiF {ix t j a nn : Nat} {ty : FieldType} {v : Int32} (n : Nat) (hn : pc + 3 = n) (hd : decode X.2.1 pc = .ok (.putfield ix, 3)) (hini : X.2.2.2.2.1 = "<init>") (hf : sm_FP X.1 ix t j 0 ty true) (hs : ρ.2.2.1 a = (t, nn)) (hnf : narrow ty (.int v) = .int v ∧ fits ty (.int v) = true) (k : sm_V G X d n lv st (sm_u I a j v) ρ Q) : sm_V G X d pc lv (.int v :: .ref a :: st) I ρ Q := by
  subst hn
  have hκ := hf.choose_spec.choose_spec.choose_spec.choose_spec.choose_spec.2.2.2.1
  exact sm_putVF (v := .int v) rfl hd hini hf hs hnf.1 hnf.2 (by rw [sm_u_eq]; exact sm_fl_seti hκ) (fun b hb => ⟨sm_u_ne I _ _ hb, rfl, rfl⟩) k
theorem wp_putrF {ix t j a nn b : Nat} {ty : FieldType} (n : Nat) (hn : pc + 3 = n) (hd : decode X.2.1 pc = .ok (.putfield ix, 3)) (hini : X.2.2.2.2.1 = "<init>") (hf : sm_FP X.1 ix t j 2 ty true) (hs : ρ.2.2.1 a = (t, nn)) (hnf : ∀ q : Nat, narrow ty (.ref q) = .ref q ∧ fits ty (.ref q) = true) (k : sm_V G X d n lv st I (ρ.1, sm_up ρ.2.1 a j (some b), ρ.2.2) Q) : sm_V G X d pc lv (.ref b :: .ref a :: st) I ρ Q := by
  subst hn
  have hκ := hf.choose_spec.choose_spec.choose_spec.choose_spec.choose_spec.2.2.2.1
  exact sm_putVF (v := .ref b) (ρ1 := (ρ.1, sm_up ρ.2.1 a j (some b), ρ.2.2)) rfl hd hini hf hs (hnf _).1 (hnf _).2 (by show _ = sm_fl G t (I a) (sm_up ρ.2.1 a j (some b) a); rw [sm_up_eq, ← sm_fl_setp hκ]; rfl) (fun b hb => ⟨rfl, rfl, sm_up_ne _ _ _ hb⟩) k
theorem wp_putnF {ix t j a nn : Nat} {ty : FieldType} (n : Nat) (hn : pc + 3 = n) (hd : decode X.2.1 pc = .ok (.putfield ix, 3)) (hf : sm_FP X.1 ix t j 2 ty false) (hs : ρ.2.2.1 a = (t, nn)) (hnf : narrow ty .null = .null ∧ fits ty .null = true) (k : sm_V G X d n lv st I (ρ.1, sm_up ρ.2.1 a j none, ρ.2.2) Q) : sm_V G X d pc lv (.null :: .ref a :: st) I ρ Q := by
  subst hn
  have hκ := hf.choose_spec.choose_spec.choose_spec.choose_spec.choose_spec.2.2.2.1
  exact sm_putV (v := .null) (ρ1 := (ρ.1, sm_up ρ.2.1 a j none, ρ.2.2)) rfl hd hf hs hnf.1 hnf.2 (by show _ = sm_fl G t (I a) (sm_up ρ.2.1 a j none a); rw [sm_up_eq, ← sm_fl_setp hκ]; rfl) (fun b hb => ⟨rfl, rfl, sm_up_ne _ _ _ hb⟩) k
end WP2
