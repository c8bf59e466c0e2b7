/-! ===== calls, row by row ===== -/
set_option maxRecDepth 100000
def sm_LV (own : String) (ix t : Nat) (y : MethodName) : Prop := (∃ (T : u_T) (N : Nat), sm_cl[t]? = some (y.cls, T, N)) ∧ t ≠ 0 ∧ t < 100 ∧ Cond.methodLink own ix y ∈ lw_all ∧ Cond.instanceMethod y ∈ lw_all ∧ Cond.selects y.cls y y ∈ lw_all
def sm_LVN (own : String) (ix t : Nat) (y : MethodName) : Prop := (∃ (T : u_T) (N : Nat), sm_cl[t]? = some (y.cls, T, N)) ∧ t ≠ 0 ∧ t < 100 ∧ (∃ host : String, Cond.methodLinkNest own ix y host ∈ lw_tbl) ∧ Cond.instanceMethod y ∈ lw_all ∧ Cond.selects y.cls y y ∈ lw_all
def sm_LS (own : String) (ix : Nat) (y : MethodName) : Prop := Cond.methodLink own ix y ∈ lw_all ∧ Cond.static y ∈ lw_all
def sm_LSN (own : String) (ix : Nat) (y : MethodName) : Prop := (∃ host : String, Cond.methodLinkNest own ix y host ∈ lw_tbl) ∧ Cond.static y ∈ lw_all
def sm_LI (own : String) (ix : Nat) (y : MethodName) : Prop := Cond.methodLink own ix y ∈ lw_all ∧ Cond.instanceMethod y ∈ lw_all ∧ y.name = "<init>"
def sm_LIN (own : String) (ix : Nat) (y : MethodName) : Prop := (∃ host : String, Cond.methodLinkNest own ix y host ∈ lw_tbl) ∧ Cond.instanceMethod y ∈ lw_all ∧ y.name = "<init>"
/-- a call through an abstract or inherited method x that comes to y -/
def sm_LA (own : String) (ix t : Nat) (x y : MethodName) (na : Nat) : Prop := ∃ (C owner : String) (T : u_T) (N : Nat), sm_cl[t]? = some (C, T, N) ∧ t ≠ 0 ∧ t < 100 ∧ Cond.methodLink own ix x ∈ lw_all ∧ Cond.sameMethod x.cls owner x.name x.desc ∈ lw_all ∧ Cond.selects C x y ∈ lw_all ∧ Cond.instanceMethod y ∈ lw_all ∧ Cond.initialized y.cls ∈ lw_all ∧ (Cond.declares ⟨owner, x.name, x.desc⟩ ∈ lw_tbl ∨ (y = ⟨owner, x.name, x.desc⟩) ∨ (Cond.instanceMethod ⟨owner, x.name, x.desc⟩ ∈ lw_all ∧ ∃ b0 m0 r0, Cond.code ⟨owner, x.name, x.desc⟩ b0 m0 r0 ∈ lw_all)) ∧
  owner ≠ "java/lang/invoke/MethodHandle" ∧ owner ≠ "java/lang/invoke/VarHandle" ∧ (parseMethodDescriptor x.desc).map (fun d => d.parameters.length) = some na
theorem lw_U {own C owner : String} {ix : Nat} {x y : MethodName} {b : ByteArray} {L : Nat} {r : Option FieldType} (h1 : Cond.methodLink own ix x ∈ lw_all) (h2 : Cond.sameMethod x.cls owner x.name x.desc ∈ lw_all) (h3 : Cond.selects C x y ∈ lw_all) (h4 : Cond.instanceMethod y ∈ lw_all) (h5 : Cond.initialized y.cls ∈ lw_all) (h6 : Cond.code y b L r ∈ lw_all) : GoodIn lw_all (va_wsU own ix C owner x y (ws_ y b L r)) := by
  refine lw_app ?_ (lw_meth h6)
  intro w hw
  simp only [List.mem_cons, List.not_mem_nil, or_false] at hw
  rcases hw with e | e | e | e | e
  · rw [e]; exact h1
  · rw [e]; exact h2
  · rw [e]; exact h3
  · rw [e]; exact h4
  · rw [e]; exact h5
/-- a private method of a superclass: selected as it is -/
theorem sm_selP {C : String} {z y : MethodName} {s : State} {args : Array Value} (hcl : z.cls = y.cls) (hy : y.cls ≠ "java/lang/invoke/MethodHandle" ∧ y.cls ≠ "java/lang/invoke/VarHandle") (hs : (Cond.selects C z z).before args s = true) (hp : (Cond.privateMethod y).before args s = true) (hi : (Cond.instanceMethod y).before args s = true) : (Cond.selects C y y).before args s = true := by
  obtain ⟨c, r, m, q1, q2, q3, q4, kP, hkP, hkPi⟩ := Cond.selects_spec hs
  obtain ⟨mk, methM, hnamed, hmethM, -, -⟩ := Cond.instanceMethod_spec hi
  have hfound : s.methodFound? y.cls y.name y.desc = some mk := State.methodFound?_of_named hnamed hy
  have hcls : mk.cls = m.cls := Option.some.inj ((findClass_of_methodNamed hnamed).symm.trans (by rw [← hcl]; exact findClass_of_methodNamed q3))
  have hsel : selectMethod {} s.vm c mk = .method mk := selectMethod_private hmethM (Cond.privateMethod_at hp mk methM hnamed hmethM)
  simp only [Cond.before, Cond.holds, Cond.value, q1, hfound, hnamed, hsel, hcls, hkP]
  simp
  exact hkPi
/-- a call of a superclass' private method -/
def sm_LP (own : String) (ix t : Nat) (y : MethodName) : Prop := ∃ (C : String) (z : MethodName) (T : u_T) (N : Nat), sm_cl[t]? = some (C, T, N) ∧ t ≠ 0 ∧ t < 100 ∧ Cond.methodLink own ix y ∈ lw_all ∧ Cond.sameMethod y.cls y.cls y.name y.desc ∈ lw_all ∧ (z.cls = y.cls ∧ Cond.selects C z z ∈ lw_all) ∧ Cond.privateMethod y ∈ lw_tbl ∧ Cond.instanceMethod y ∈ lw_all
/-- super.m(..) -/
def sm_LU (own : String) (ix t : Nat) (y : MethodName) : Prop := ∃ (C : String) (T : u_T) (N : Nat), sm_cl[t]? = some (C, T, N) ∧ t ≠ 0 ∧ t < 100 ∧ Cond.methodLink own ix y ∈ lw_all ∧ Cond.sameMethod y.cls y.cls y.name y.desc ∈ lw_all ∧ Cond.superclass own y.cls ∈ lw_all ∧ Cond.instanceMethod y ∈ lw_all ∧ y.name ≠ "<init>"
theorem lw_SU {own : String} {ix : Nat} {y : MethodName} {b : ByteArray} {L : Nat} {r : Option FieldType} (h1 : Cond.methodLink own ix y ∈ lw_all) (h2 : Cond.sameMethod y.cls y.cls y.name y.desc ∈ lw_all) (h3 : Cond.superclass own y.cls ∈ lw_all) (h4 : Cond.instanceMethod y ∈ lw_all) (h5 : Cond.initialized y.cls ∈ lw_all) (h6 : Cond.code y b L r ∈ lw_all) : GoodIn lw_all (va_wsSU own ix y (ws_ y b L r)) := by
  refine lw_app ?_ (lw_meth h6)
  intro w hw
  simp only [List.mem_cons, List.not_mem_nil, or_false] at hw
  rcases hw with e | e | e | e | e
  · rw [e]; exact h1
  · rw [e]; exact h2
  · rw [e]; exact h3
  · rw [e]; exact h4
  · rw [e]; exact h5
section WP5
variable {G : sm_G} {X : sm_X} {d pc : Nat} {lv st : List Value} {I : sm_I} {ρ : sm_R} {Q : sm_O → sm_I → sm_R → Prop}
theorem sm_recv {s : State} {H : Heap} {t a nn : Nat} {C : String} {T : u_T} {N : Nat} (hgood : sm_Good G s) (RP : sm_Rep G I ρ H) (hs : ρ.2.2.1 a = (t, nn)) (h0 : t ≠ 0) (h1 : t < 100) (hc : sm_cl[t]? = some (C, T, N)) : ∃ cell : Cell, H[sm_ad G a]? = some cell ∧ cell.vm.isStatics = false ∧ s.vm.findClass C = some cell.cls :=
  va_recv (q := (C, T, N)) hgood.1 RP.1 hc ((sm_ws_at (G := G) (I := I) RP.2.2.2 hs h0).trans (by rw [sm_ent_obj hs h1]))
theorem sm_recvC {s : State} {H : Heap} {a : Nat} (hk : sm_K2 G s) (RP : sm_Rep G I ρ H) (ha : a < 22) : ∃ cell : Cell, H[sm_ad G a]? = some cell ∧ cell.vm.isStatics = false ∧ s.vm.findClass "java/lang/String" = some cell.cls := by
  obtain ⟨cell, h1, h2, h3, h4⟩ := (hk.1.1 a ha).1
  refine ⟨cell, ?_, h2, h3⟩
  unfold sm_ad
  rw [if_pos (by omega), RP.2.2.1 _ (Nat.not_le.mp h4)]
  exact h1
theorem wp_callV {t a nn : Nat} {ix : Nat} {Xc : sm_X} {y : MethodName} {na : Nat} {Qc : sm_O → sm_I → sm_R → Prop} {As rest : List Value} (n : Nat) (hn : pc + 3 = n) (hC : sm_C Xc y na) (hd : decode X.2.1 pc = .ok (.invokevirtual ix, 3)) (hl : sm_LV X.1 ix t y) (hs : ρ.2.2.1 a = (t, nn)) (hlen : As.length = na) (hsl : (sm_exp (.ref a :: As)).length ≤ Xc.2.2.1) (hrs : (rest.map fun v => v.category).sum ≤ 8) (hM : sm_M G Xc d (.ref a :: As) I ρ Qc) (k : ∀ v I1 ρ1, Qc (.inl v) I1 ρ1 → sm_V G X (d + 1) n lv (v.toList ++ rest) I1 ρ1 Q) (kx : ∀ b I1 ρ1, Qc (.inr b) I1 ρ1 → sm_VX G X (d + 1) pc lv b I1 ρ1 Q) : sm_V G X (d + 1) pc lv (As.reverse ++ .ref a :: rest) I ρ Q := by
  obtain ⟨o, I1, ρ1, hq, hsem⟩ := hM
  refine sm_call (o := o) (I1 := I1) (ρ1 := ρ1) (rest := rest) n hn hsem.1 hsem.2.1 (sm_Qc G o I1 ρ1 _) (fun a b c h => h) (fun p e R s m args below meth c H locs cells slots ls F a1 a2 a3 a4 RP LV hG => ?_) (fun v hv => k v I1 ρ1 (by rw [← hv]; exact hq)) (fun b hb => kx b I1 ρ1 (by rw [← hb]; exact hq))
  have hmet := sm_met hC hsl hsem
  obtain ⟨hcode, hcls, hname, hhh, hplain, hy, hini, hm⟩ := hC
  obtain ⟨hx, hb, hml, hr, hnm, hex, hlk, hown, hts, hgood, hcst⟩ := F
  have hpre : ∀ U : State, U.heap = H → s.WarmedH U.vm → va_Pc (List.map (sm_cv G) (.ref a :: As)) (sm_B G I ρ) ((List.map (sm_cv G) (.ref a :: As)).toArray) U := fun U hU hW => ⟨rfl, sm_Good.moved hW hgood, ⟨hcst.1, by rw [hU]; exact hG, sm_K2.moved hW hcst.2.2⟩, by rw [hU]; exact RP⟩
  have hrm : (sm_rm d (ρ1.2.2.2.1 - ρ.2.2.2.1) (ρ1.2.2.2.2 - ρ.2.2.2.2)).frames + 1 ≤ R.frames ∧ 8 + (Xc.2.2.1 + 11) + (sm_rm d (ρ1.2.2.2.1 - ρ.2.2.2.1) (ρ1.2.2.2.2 - ρ.2.2.2.2)).locals ≤ R.locals := ⟨a1, by show 8 + (Xc.2.2.1 + 11) + 60 * d ≤ R.locals; omega⟩
  have hstk : (rest.map (sm_cv G)).map (fun v => v.category) = rest.map (fun v => v.category) := by
    rw [List.map_map]
    exact List.map_congr_left fun v _ => sm_cv_cat G v
  obtain ⟨⟨T, N, hcl⟩, h0, h1, l1, l2, l3⟩ := hl
  exact vy_runV (As := As.map (sm_cv G)) (rest := rest.map (sm_cv G)) ⟨hx, hb, hml, hown, hts⟩ hmet (cwV na hts (lw_V l1 l2 l3 hini hcode) rfl rfl rfl ⟨rfl, hy⟩ hrm) ⟨sm_blind, sm_recv hgood RP hs h0 h1 hcl, hpre⟩ rfl (by rw [List.length_map]; exact hlen) LV.1 (by show List.map (sm_cv G) _ = _; rw [List.map_append, List.map_reverse]; rfl) (lv_room (by rw [hstk]; exact hrs)) hd ⟨a3, a4⟩
theorem wp_callVN {t a nn : Nat} {ix : Nat} {Xc : sm_X} {y : MethodName} {na : Nat} {Qc : sm_O → sm_I → sm_R → Prop} {As rest : List Value} (n : Nat) (hn : pc + 3 = n) (hC : sm_C Xc y na) (hd : decode X.2.1 pc = .ok (.invokevirtual ix, 3)) (hl : sm_LVN X.1 ix t y) (hs : ρ.2.2.1 a = (t, nn)) (hlen : As.length = na) (hsl : (sm_exp (.ref a :: As)).length ≤ Xc.2.2.1) (hrs : (rest.map fun v => v.category).sum ≤ 8) (hM : sm_M G Xc d (.ref a :: As) I ρ Qc) (k : ∀ v I1 ρ1, Qc (.inl v) I1 ρ1 → sm_V G X (d + 1) n lv (v.toList ++ rest) I1 ρ1 Q) (kx : ∀ b I1 ρ1, Qc (.inr b) I1 ρ1 → sm_VX G X (d + 1) pc lv b I1 ρ1 Q) : sm_V G X (d + 1) pc lv (As.reverse ++ .ref a :: rest) I ρ Q := by
  obtain ⟨o, I1, ρ1, hq, hsem⟩ := hM
  refine sm_call (o := o) (I1 := I1) (ρ1 := ρ1) (rest := rest) n hn hsem.1 hsem.2.1 (sm_Qc G o I1 ρ1 _) (fun a b c h => h) (fun p e R s m args below meth c H locs cells slots ls F a1 a2 a3 a4 RP LV hG => ?_) (fun v hv => k v I1 ρ1 (by rw [← hv]; exact hq)) (fun b hb => kx b I1 ρ1 (by rw [← hb]; exact hq))
  have hmet := sm_met hC hsl hsem
  obtain ⟨hcode, hcls, hname, hhh, hplain, hy, hini, hm⟩ := hC
  obtain ⟨hx, hb, hml, hr, hnm, hex, hlk, hown, hts, hgood, hcst⟩ := F
  have hpre : ∀ U : State, U.heap = H → s.WarmedH U.vm → va_Pc (List.map (sm_cv G) (.ref a :: As)) (sm_B G I ρ) ((List.map (sm_cv G) (.ref a :: As)).toArray) U := fun U hU hW => ⟨rfl, sm_Good.moved hW hgood, ⟨hcst.1, by rw [hU]; exact hG, sm_K2.moved hW hcst.2.2⟩, by rw [hU]; exact RP⟩
  have hrm : (sm_rm d (ρ1.2.2.2.1 - ρ.2.2.2.1) (ρ1.2.2.2.2 - ρ.2.2.2.2)).frames + 1 ≤ R.frames ∧ 8 + (Xc.2.2.1 + 11) + (sm_rm d (ρ1.2.2.2.1 - ρ.2.2.2.1) (ρ1.2.2.2.2 - ρ.2.2.2.2)).locals ≤ R.locals := ⟨a1, by show 8 + (Xc.2.2.1 + 11) + 60 * d ≤ R.locals; omega⟩
  have hstk : (rest.map (sm_cv G)).map (fun v => v.category) = rest.map (fun v => v.category) := by
    rw [List.map_map]
    exact List.map_congr_left fun v _ => sm_cv_cat G v
  obtain ⟨⟨T, N, hcl⟩, h0, h1, ⟨host, l1⟩, l2, l3⟩ := hl
  exact vy_runVN (host := host) (As := As.map (sm_cv G)) (rest := rest.map (sm_cv G)) ⟨hx, hb, hml, hown, hts⟩ hmet (⟨va_cnB na hts (lw_meth hcode) rfl rfl rfl (hgood.2.1 _ _ _ _ l1) (hts _ hini) hy hrm, hts _ l2, hts _ l3⟩) ⟨sm_blind, sm_recv hgood RP hs h0 h1 hcl, hpre⟩ rfl (by rw [List.length_map]; exact hlen) LV.1 (by show List.map (sm_cv G) _ = _; rw [List.map_append, List.map_reverse]; rfl) (lv_room (by rw [hstk]; exact hrs)) hd ⟨a3, a4⟩
theorem wp_callVC {a : Nat} {ix : Nat} {Xc : sm_X} {y : MethodName} {na : Nat} {Qc : sm_O → sm_I → sm_R → Prop} {As rest : List Value} (n : Nat) (hn : pc + 3 = n) (hC : sm_C Xc y na) (hd : decode X.2.1 pc = .ok (.invokevirtual ix, 3)) (hl : sm_LV X.1 ix 19 y) (hs : a < 22) (hlen : As.length = na) (hsl : (sm_exp (.ref a :: As)).length ≤ Xc.2.2.1) (hrs : (rest.map fun v => v.category).sum ≤ 8) (hM : sm_M G Xc d (.ref a :: As) I ρ Qc) (k : ∀ v I1 ρ1, Qc (.inl v) I1 ρ1 → sm_V G X (d + 1) n lv (v.toList ++ rest) I1 ρ1 Q) (kx : ∀ b I1 ρ1, Qc (.inr b) I1 ρ1 → sm_VX G X (d + 1) pc lv b I1 ρ1 Q) : sm_V G X (d + 1) pc lv (As.reverse ++ .ref a :: rest) I ρ Q := by
  obtain ⟨o, I1, ρ1, hq, hsem⟩ := hM
  refine sm_call (o := o) (I1 := I1) (ρ1 := ρ1) (rest := rest) n hn hsem.1 hsem.2.1 (sm_Qc G o I1 ρ1 _) (fun a b c h => h) (fun p e R s m args below meth c H locs cells slots ls F a1 a2 a3 a4 RP LV hG => ?_) (fun v hv => k v I1 ρ1 (by rw [← hv]; exact hq)) (fun b hb => kx b I1 ρ1 (by rw [← hb]; exact hq))
  have hmet := sm_met hC hsl hsem
  obtain ⟨hcode, hcls, hname, hhh, hplain, hy, hini, hm⟩ := hC
  obtain ⟨hx, hb, hml, hr, hnm, hex, hlk, hown, hts, hgood, hcst⟩ := F
  have hpre : ∀ U : State, U.heap = H → s.WarmedH U.vm → va_Pc (List.map (sm_cv G) (.ref a :: As)) (sm_B G I ρ) ((List.map (sm_cv G) (.ref a :: As)).toArray) U := fun U hU hW => ⟨rfl, sm_Good.moved hW hgood, ⟨hcst.1, by rw [hU]; exact hG, sm_K2.moved hW hcst.2.2⟩, by rw [hU]; exact RP⟩
  have hrm : (sm_rm d (ρ1.2.2.2.1 - ρ.2.2.2.1) (ρ1.2.2.2.2 - ρ.2.2.2.2)).frames + 1 ≤ R.frames ∧ 8 + (Xc.2.2.1 + 11) + (sm_rm d (ρ1.2.2.2.1 - ρ.2.2.2.1) (ρ1.2.2.2.2 - ρ.2.2.2.2)).locals ≤ R.locals := ⟨a1, by show 8 + (Xc.2.2.1 + 11) + 60 * d ≤ R.locals; omega⟩
  have hstk : (rest.map (sm_cv G)).map (fun v => v.category) = rest.map (fun v => v.category) := by
    rw [List.map_map]
    exact List.map_congr_left fun v _ => sm_cv_cat G v
  obtain ⟨⟨T, N, hcl⟩, h0, h1, l1, l2, l3⟩ := hl
  have hyc : y.cls = "java/lang/String" := by
    have e := Option.some.inj hcl
    exact (congrArg Prod.fst e).symm
  exact vy_runV (As := As.map (sm_cv G)) (rest := rest.map (sm_cv G)) ⟨hx, hb, hml, hown, hts⟩ hmet (cwV na hts (lw_V l1 l2 l3 hini hcode) rfl rfl rfl ⟨rfl, hy⟩ hrm) ⟨sm_blind, (by rw [hyc]; exact sm_recvC hcst.2.2 RP hs), hpre⟩ rfl (by rw [List.length_map]; exact hlen) LV.1 (by show List.map (sm_cv G) _ = _; rw [List.map_append, List.map_reverse]; rfl) (lv_room (by rw [hstk]; exact hrs)) hd ⟨a3, a4⟩
theorem wp_callA {t a nn : Nat} {ix : Nat} {x : MethodName} {Xc : sm_X} {y : MethodName} {na : Nat} {Qc : sm_O → sm_I → sm_R → Prop} {As rest : List Value} (n : Nat) (hn : pc + 3 = n) (hC : sm_C Xc y na) (hd : decode X.2.1 pc = .ok (.invokevirtual ix, 3)) (hl : sm_LA X.1 ix t x y na) (hs : ρ.2.2.1 a = (t, nn)) (hlen : As.length = na) (hsl : (sm_exp (.ref a :: As)).length ≤ Xc.2.2.1) (hrs : (rest.map fun v => v.category).sum ≤ 8) (hM : sm_M G Xc d (.ref a :: As) I ρ Qc) (k : ∀ v I1 ρ1, Qc (.inl v) I1 ρ1 → sm_V G X (d + 1) n lv (v.toList ++ rest) I1 ρ1 Q) (kx : ∀ b I1 ρ1, Qc (.inr b) I1 ρ1 → sm_VX G X (d + 1) pc lv b I1 ρ1 Q) : sm_V G X (d + 1) pc lv (As.reverse ++ .ref a :: rest) I ρ Q := by
  obtain ⟨o, I1, ρ1, hq, hsem⟩ := hM
  refine sm_call (o := o) (I1 := I1) (ρ1 := ρ1) (rest := rest) n hn hsem.1 hsem.2.1 (sm_Qc G o I1 ρ1 _) (fun a b c h => h) (fun p e R s m args below meth c H locs cells slots ls F a1 a2 a3 a4 RP LV hG => ?_) (fun v hv => k v I1 ρ1 (by rw [← hv]; exact hq)) (fun b hb => kx b I1 ρ1 (by rw [← hb]; exact hq))
  have hmet := sm_met hC hsl hsem
  obtain ⟨hcode, hcls, hname, hhh, hplain, hy, hini, hm⟩ := hC
  obtain ⟨hx, hb, hml, hr, hnm, hex, hlk, hown, hts, hgood, hcst⟩ := F
  have hpre : ∀ U : State, U.heap = H → s.WarmedH U.vm → va_Pc (List.map (sm_cv G) (.ref a :: As)) (sm_B G I ρ) ((List.map (sm_cv G) (.ref a :: As)).toArray) U := fun U hU hW => ⟨rfl, sm_Good.moved hW hgood, ⟨hcst.1, by rw [hU]; exact hG, sm_K2.moved hW hcst.2.2⟩, by rw [hU]; exact RP⟩
  have hrm : (sm_rm d (ρ1.2.2.2.1 - ρ.2.2.2.1) (ρ1.2.2.2.2 - ρ.2.2.2.2)).frames + 1 ≤ R.frames ∧ 8 + (Xc.2.2.1 + 11) + (sm_rm d (ρ1.2.2.2.1 - ρ.2.2.2.1) (ρ1.2.2.2.2 - ρ.2.2.2.2)).locals ≤ R.locals := ⟨a1, by show 8 + (Xc.2.2.1 + 11) + 60 * d ≤ R.locals; omega⟩
  have hstk : (rest.map (sm_cv G)).map (fun v => v.category) = rest.map (fun v => v.category) := by
    rw [List.map_map]
    exact List.map_congr_left fun v _ => sm_cv_cat G v
  obtain ⟨C, owner, T, N, hcl, h0, h1, l1, l2, l3, l4, l5, l6, l7⟩ := hl
  have hcu : va_CU R s args X.1 C owner ix x y Xc.2.1 Xc.2.2.1 Xc.2.2.2.1 (ws_ y Xc.2.1 Xc.2.2.1 Xc.2.2.2.1) (sm_rm d (ρ1.2.2.2.1 - ρ.2.2.2.1) (ρ1.2.2.2.2 - ρ.2.2.2.2)) (ρ1.2.2.2.1 - ρ.2.2.2.1) (ρ1.2.2.2.2 - ρ.2.2.2.2) na := by
    rcases l6 with l6 | l6 | ⟨l6, b0, m0, r0, l8⟩
    · exact va_cwA na hts (lw_U l1 l2 l3 l4 l5 hcode) rfl rfl rfl (hgood.2.2.2.2.1 _ l6) l7 hrm
    · exact va_cwU na hts (lw_U l1 l2 l3 l4 l5 hcode) rfl rfl rfl l6 l7 hrm
    · refine ⟨⟨rfl, rfl, hrm.1, hrm.2, pay_in hts (lw_meth hcode), List.mem_cons_self⟩, hts _ hcode, hts _ l5, ⟨l7.1, l7.2.1⟩, fun sig h => ?_, hts _ l1, hts _ l2, va_Decl.of (hts _ l6) (hts _ l8), hts _ l3, hts _ l4⟩
      have h2 := l7.2.2
      rw [h] at h2
      exact (Option.some.inj h2).symm
  exact vy_runU (owner := owner) (As := As.map (sm_cv G)) (rest := rest.map (sm_cv G)) ⟨hx, hb, hml, hown, hts⟩ hmet (hcu) ⟨sm_blind, sm_recv hgood RP hs h0 h1 hcl, hpre⟩ rfl (by rw [List.length_map]; exact hlen) LV.1 (by show List.map (sm_cv G) _ = _; rw [List.map_append, List.map_reverse]; rfl) (lv_room (by rw [hstk]; exact hrs)) hd ⟨a3, a4⟩
theorem wp_callP {t a nn : Nat} {ix : Nat} {Xc : sm_X} {y : MethodName} {na : Nat} {Qc : sm_O → sm_I → sm_R → Prop} {As rest : List Value} (n : Nat) (hn : pc + 3 = n) (hC : sm_C Xc y na) (hd : decode X.2.1 pc = .ok (.invokevirtual ix, 3)) (hl : sm_LP X.1 ix t y) (hs : ρ.2.2.1 a = (t, nn)) (hlen : As.length = na) (hsl : (sm_exp (.ref a :: As)).length ≤ Xc.2.2.1) (hrs : (rest.map fun v => v.category).sum ≤ 8) (hM : sm_M G Xc d (.ref a :: As) I ρ Qc) (k : ∀ v I1 ρ1, Qc (.inl v) I1 ρ1 → sm_V G X (d + 1) n lv (v.toList ++ rest) I1 ρ1 Q) (kx : ∀ b I1 ρ1, Qc (.inr b) I1 ρ1 → sm_VX G X (d + 1) pc lv b I1 ρ1 Q) : sm_V G X (d + 1) pc lv (As.reverse ++ .ref a :: rest) I ρ Q := by
  obtain ⟨o, I1, ρ1, hq, hsem⟩ := hM
  refine sm_call (o := o) (I1 := I1) (ρ1 := ρ1) (rest := rest) n hn hsem.1 hsem.2.1 (sm_Qc G o I1 ρ1 _) (fun a b c h => h) (fun p e R s m args below meth c H locs cells slots ls F a1 a2 a3 a4 RP LV hG => ?_) (fun v hv => k v I1 ρ1 (by rw [← hv]; exact hq)) (fun b hb => kx b I1 ρ1 (by rw [← hb]; exact hq))
  have hmet := sm_met hC hsl hsem
  obtain ⟨hcode, hcls, hname, hhh, hplain, hy, hini, hm⟩ := hC
  obtain ⟨hx, hb, hml, hr, hnm, hex, hlk, hown, hts, hgood, hcst⟩ := F
  have hpre : ∀ U : State, U.heap = H → s.WarmedH U.vm → va_Pc (List.map (sm_cv G) (.ref a :: As)) (sm_B G I ρ) ((List.map (sm_cv G) (.ref a :: As)).toArray) U := fun U hU hW => ⟨rfl, sm_Good.moved hW hgood, ⟨hcst.1, by rw [hU]; exact hG, sm_K2.moved hW hcst.2.2⟩, by rw [hU]; exact RP⟩
  have hrm : (sm_rm d (ρ1.2.2.2.1 - ρ.2.2.2.1) (ρ1.2.2.2.2 - ρ.2.2.2.2)).frames + 1 ≤ R.frames ∧ 8 + (Xc.2.2.1 + 11) + (sm_rm d (ρ1.2.2.2.1 - ρ.2.2.2.1) (ρ1.2.2.2.2 - ρ.2.2.2.2)).locals ≤ R.locals := ⟨a1, by show 8 + (Xc.2.2.1 + 11) + 60 * d ≤ R.locals; omega⟩
  have hstk : (rest.map (sm_cv G)).map (fun v => v.category) = rest.map (fun v => v.category) := by
    rw [List.map_map]
    exact List.map_congr_left fun v _ => sm_cv_cat G v
  obtain ⟨C, z, T, N, hcl, h0, h1, l1, l2, ⟨l3, l4⟩, l5, l6⟩ := hl
  have hcu : va_CU R s args X.1 C y.cls ix y y Xc.2.1 Xc.2.2.1 Xc.2.2.2.1 (ws_ y Xc.2.1 Xc.2.2.1 Xc.2.2.2.1) (sm_rm d (ρ1.2.2.2.1 - ρ.2.2.2.1) (ρ1.2.2.2.2 - ρ.2.2.2.2)) (ρ1.2.2.2.1 - ρ.2.2.2.1) (ρ1.2.2.2.2 - ρ.2.2.2.2) na := by
    refine ⟨⟨rfl, rfl, hrm.1, hrm.2, pay_in hts (lw_meth hcode), List.mem_cons_self⟩, hts _ hcode, hts _ hini, ⟨hy.1, hy.2.1⟩, fun sig h => ?_, hts _ l1, hts _ l2, va_Decl.of (hts _ l6) (hts _ hcode), sm_selP l3 ⟨hy.1, hy.2.1⟩ (hts _ l4) (va_Nw.use (A := args) rfl (hgood.2.2.2.2.2.2 _ l5)) (hts _ l6), hts _ l6⟩
    have h2 := hy.2.2
    rw [h] at h2
    exact (Option.some.inj h2).symm
  exact vy_runU (owner := y.cls) (As := As.map (sm_cv G)) (rest := rest.map (sm_cv G)) ⟨hx, hb, hml, hown, hts⟩ hmet (hcu) ⟨sm_blind, sm_recv hgood RP hs h0 h1 hcl, hpre⟩ rfl (by rw [List.length_map]; exact hlen) LV.1 (by show List.map (sm_cv G) _ = _; rw [List.map_append, List.map_reverse]; rfl) (lv_room (by rw [hstk]; exact hrs)) hd ⟨a3, a4⟩
theorem wp_callU {t a nn : Nat} {ix : Nat} {Xc : sm_X} {y : MethodName} {na : Nat} {Qc : sm_O → sm_I → sm_R → Prop} {As rest : List Value} (n : Nat) (hn : pc + 3 = n) (hC : sm_C Xc y na) (hd : decode X.2.1 pc = .ok (.invokespecial ix, 3)) (hl : sm_LU X.1 ix t y) (hs : ρ.2.2.1 a = (t, nn)) (hlen : As.length = na) (hsl : (sm_exp (.ref a :: As)).length ≤ Xc.2.2.1) (hrs : (rest.map fun v => v.category).sum ≤ 8) (hM : sm_M G Xc d (.ref a :: As) I ρ Qc) (k : ∀ v I1 ρ1, Qc (.inl v) I1 ρ1 → sm_V G X (d + 1) n lv (v.toList ++ rest) I1 ρ1 Q) (kx : ∀ b I1 ρ1, Qc (.inr b) I1 ρ1 → sm_VX G X (d + 1) pc lv b I1 ρ1 Q) : sm_V G X (d + 1) pc lv (As.reverse ++ .ref a :: rest) I ρ Q := by
  obtain ⟨o, I1, ρ1, hq, hsem⟩ := hM
  refine sm_call (o := o) (I1 := I1) (ρ1 := ρ1) (rest := rest) n hn hsem.1 hsem.2.1 (sm_Qc G o I1 ρ1 _) (fun a b c h => h) (fun p e R s m args below meth c H locs cells slots ls F a1 a2 a3 a4 RP LV hG => ?_) (fun v hv => k v I1 ρ1 (by rw [← hv]; exact hq)) (fun b hb => kx b I1 ρ1 (by rw [← hb]; exact hq))
  have hmet := sm_met hC hsl hsem
  obtain ⟨hcode, hcls, hname, hhh, hplain, hy, hini, hm⟩ := hC
  obtain ⟨hx, hb, hml, hr, hnm, hex, hlk, hown, hts, hgood, hcst⟩ := F
  have hpre : ∀ U : State, U.heap = H → s.WarmedH U.vm → va_Pc (List.map (sm_cv G) (.ref a :: As)) (sm_B G I ρ) ((List.map (sm_cv G) (.ref a :: As)).toArray) U := fun U hU hW => ⟨rfl, sm_Good.moved hW hgood, ⟨hcst.1, by rw [hU]; exact hG, sm_K2.moved hW hcst.2.2⟩, by rw [hU]; exact RP⟩
  have hrm : (sm_rm d (ρ1.2.2.2.1 - ρ.2.2.2.1) (ρ1.2.2.2.2 - ρ.2.2.2.2)).frames + 1 ≤ R.frames ∧ 8 + (Xc.2.2.1 + 11) + (sm_rm d (ρ1.2.2.2.1 - ρ.2.2.2.1) (ρ1.2.2.2.2 - ρ.2.2.2.2)).locals ≤ R.locals := ⟨a1, by show 8 + (Xc.2.2.1 + 11) + 60 * d ≤ R.locals; omega⟩
  have hstk : (rest.map (sm_cv G)).map (fun v => v.category) = rest.map (fun v => v.category) := by
    rw [List.map_map]
    exact List.map_congr_left fun v _ => sm_cv_cat G v
  obtain ⟨C, T, N, hcl, h0, h1, l1, l2, l3, l4, l5⟩ := hl
  obtain ⟨hSl, hfc, kC, hkC, hkind⟩ := hgood.1.1 t _ hcl
  exact vy_runSU (As := As.map (sm_cv G)) (rest := rest.map (sm_cv G)) ⟨hfc, kC, hkC, hkind⟩ ⟨hx, hb, hml, hown, hts⟩ hmet (va_cwSU na hts (lw_SU l1 l2 l3 l4 hini hcode) rfl rfl rfl ⟨l5, hy.2.2⟩ hrm) ⟨sm_blind, sm_recv hgood RP hs h0 h1 hcl, hpre⟩ rfl (by rw [List.length_map]; exact hlen) LV.1 (by show List.map (sm_cv G) _ = _; rw [List.map_append, List.map_reverse]; rfl) (lv_room (by rw [hstk]; exact hrs)) hd ⟨a3, a4⟩
theorem wp_callS {ix : Nat} {Xc : sm_X} {y : MethodName} {na : Nat} {Qc : sm_O → sm_I → sm_R → Prop} {As rest : List Value} (n : Nat) (hn : pc + 3 = n) (hC : sm_C Xc y na) (hd : decode X.2.1 pc = .ok (.invokestatic ix, 3)) (hl : sm_LS X.1 ix y)  (hlen : As.length = na) (hsl : (sm_exp (As)).length ≤ Xc.2.2.1) (hrs : (rest.map fun v => v.category).sum ≤ 8) (hM : sm_M G Xc d (As) I ρ Qc) (k : ∀ v I1 ρ1, Qc (.inl v) I1 ρ1 → sm_V G X (d + 1) n lv (v.toList ++ rest) I1 ρ1 Q) (kx : ∀ b I1 ρ1, Qc (.inr b) I1 ρ1 → sm_VX G X (d + 1) pc lv b I1 ρ1 Q) : sm_V G X (d + 1) pc lv (As.reverse ++ rest) I ρ Q := by
  obtain ⟨o, I1, ρ1, hq, hsem⟩ := hM
  refine sm_call (o := o) (I1 := I1) (ρ1 := ρ1) (rest := rest) n hn hsem.1 hsem.2.1 (sm_Qc G o I1 ρ1 _) (fun a b c h => h) (fun p e R s m args below meth c H locs cells slots ls F a1 a2 a3 a4 RP LV hG => ?_) (fun v hv => k v I1 ρ1 (by rw [← hv]; exact hq)) (fun b hb => kx b I1 ρ1 (by rw [← hb]; exact hq))
  have hmet := sm_met hC hsl hsem
  obtain ⟨hcode, hcls, hname, hhh, hplain, hy, hini, hm⟩ := hC
  obtain ⟨hx, hb, hml, hr, hnm, hex, hlk, hown, hts, hgood, hcst⟩ := F
  have hpre : ∀ U : State, U.heap = H → s.WarmedH U.vm → va_Pc (List.map (sm_cv G) (As)) (sm_B G I ρ) ((List.map (sm_cv G) (As)).toArray) U := fun U hU hW => ⟨rfl, sm_Good.moved hW hgood, ⟨hcst.1, by rw [hU]; exact hG, sm_K2.moved hW hcst.2.2⟩, by rw [hU]; exact RP⟩
  have hrm : (sm_rm d (ρ1.2.2.2.1 - ρ.2.2.2.1) (ρ1.2.2.2.2 - ρ.2.2.2.2)).frames + 1 ≤ R.frames ∧ 8 + (Xc.2.2.1 + 11) + (sm_rm d (ρ1.2.2.2.1 - ρ.2.2.2.1) (ρ1.2.2.2.2 - ρ.2.2.2.2)).locals ≤ R.locals := ⟨a1, by show 8 + (Xc.2.2.1 + 11) + 60 * d ≤ R.locals; omega⟩
  have hstk : (rest.map (sm_cv G)).map (fun v => v.category) = rest.map (fun v => v.category) := by
    rw [List.map_map]
    exact List.map_congr_left fun v _ => sm_cv_cat G v
  exact vy_runS (As := As.map (sm_cv G)) (rest := rest.map (sm_cv G)) ⟨hx, hb, hml, hown, hts⟩ hmet (va_cwS na hts (lw_S hl.1 hl.2 hini hcode) rfl rfl rfl hy hrm) ⟨sm_blind, hpre⟩ rfl (by rw [List.length_map]; exact hlen) LV.1 (by show List.map (sm_cv G) _ = _; rw [List.map_append, List.map_reverse]) (lv_room (by rw [hstk]; exact hrs)) hd ⟨a3, a4⟩
theorem wp_callSN {ix : Nat} {Xc : sm_X} {y : MethodName} {na : Nat} {Qc : sm_O → sm_I → sm_R → Prop} {As rest : List Value} (n : Nat) (hn : pc + 3 = n) (hC : sm_C Xc y na) (hd : decode X.2.1 pc = .ok (.invokestatic ix, 3)) (hl : sm_LSN X.1 ix y)  (hlen : As.length = na) (hsl : (sm_exp (As)).length ≤ Xc.2.2.1) (hrs : (rest.map fun v => v.category).sum ≤ 8) (hM : sm_M G Xc d (As) I ρ Qc) (k : ∀ v I1 ρ1, Qc (.inl v) I1 ρ1 → sm_V G X (d + 1) n lv (v.toList ++ rest) I1 ρ1 Q) (kx : ∀ b I1 ρ1, Qc (.inr b) I1 ρ1 → sm_VX G X (d + 1) pc lv b I1 ρ1 Q) : sm_V G X (d + 1) pc lv (As.reverse ++ rest) I ρ Q := by
  obtain ⟨o, I1, ρ1, hq, hsem⟩ := hM
  refine sm_call (o := o) (I1 := I1) (ρ1 := ρ1) (rest := rest) n hn hsem.1 hsem.2.1 (sm_Qc G o I1 ρ1 _) (fun a b c h => h) (fun p e R s m args below meth c H locs cells slots ls F a1 a2 a3 a4 RP LV hG => ?_) (fun v hv => k v I1 ρ1 (by rw [← hv]; exact hq)) (fun b hb => kx b I1 ρ1 (by rw [← hb]; exact hq))
  have hmet := sm_met hC hsl hsem
  obtain ⟨hcode, hcls, hname, hhh, hplain, hy, hini, hm⟩ := hC
  obtain ⟨hx, hb, hml, hr, hnm, hex, hlk, hown, hts, hgood, hcst⟩ := F
  have hpre : ∀ U : State, U.heap = H → s.WarmedH U.vm → va_Pc (List.map (sm_cv G) (As)) (sm_B G I ρ) ((List.map (sm_cv G) (As)).toArray) U := fun U hU hW => ⟨rfl, sm_Good.moved hW hgood, ⟨hcst.1, by rw [hU]; exact hG, sm_K2.moved hW hcst.2.2⟩, by rw [hU]; exact RP⟩
  have hrm : (sm_rm d (ρ1.2.2.2.1 - ρ.2.2.2.1) (ρ1.2.2.2.2 - ρ.2.2.2.2)).frames + 1 ≤ R.frames ∧ 8 + (Xc.2.2.1 + 11) + (sm_rm d (ρ1.2.2.2.1 - ρ.2.2.2.1) (ρ1.2.2.2.2 - ρ.2.2.2.2)).locals ≤ R.locals := ⟨a1, by show 8 + (Xc.2.2.1 + 11) + 60 * d ≤ R.locals; omega⟩
  have hstk : (rest.map (sm_cv G)).map (fun v => v.category) = rest.map (fun v => v.category) := by
    rw [List.map_map]
    exact List.map_congr_left fun v _ => sm_cv_cat G v
  obtain ⟨⟨host, l1⟩, l2⟩ := hl
  exact vy_runSN (host := host) (As := As.map (sm_cv G)) (rest := rest.map (sm_cv G)) ⟨hx, hb, hml, hown, hts⟩ hmet (⟨va_cnB na hts (lw_meth hcode) rfl rfl rfl (hgood.2.1 _ _ _ _ l1) (hts _ hini) hy hrm, hts _ l2, trivial⟩) ⟨sm_blind, hpre⟩ rfl (by rw [List.length_map]; exact hlen) LV.1 (by show List.map (sm_cv G) _ = _; rw [List.map_append, List.map_reverse]) (lv_room (by rw [hstk]; exact hrs)) hd ⟨a3, a4⟩
theorem wp_callI {a : Nat} {ix : Nat} {Xc : sm_X} {y : MethodName} {na : Nat} {Qc : sm_O → sm_I → sm_R → Prop} {As rest : List Value} (n : Nat) (hn : pc + 3 = n) (hC : sm_C Xc y na) (hd : decode X.2.1 pc = .ok (.invokespecial ix, 3)) (hl : sm_LI X.1 ix y) (hret : Xc.2.2.2.1 = none)  (hlen : As.length = na) (hsl : (sm_exp (.ref a :: As)).length ≤ Xc.2.2.1) (hrs : (rest.map fun v => v.category).sum ≤ 8) (hM : sm_M G Xc d (.ref a :: As) I ρ Qc) (k : ∀ v I1 ρ1, Qc (.inl v) I1 ρ1 → sm_V G X (d + 1) n lv (v.toList ++ rest) I1 ρ1 Q) (kx : ∀ b I1 ρ1, Qc (.inr b) I1 ρ1 → sm_VX G X (d + 1) pc lv b I1 ρ1 Q) : sm_V G X (d + 1) pc lv (As.reverse ++ .ref a :: rest) I ρ Q := by
  obtain ⟨o, I1, ρ1, hq, hsem⟩ := hM
  refine sm_call (o := o) (I1 := I1) (ρ1 := ρ1) (rest := rest) n hn hsem.1 hsem.2.1 (sm_Qc G o I1 ρ1 _) (fun a b c h => h) (fun p e R s m args below meth c H locs cells slots ls F a1 a2 a3 a4 RP LV hG => ?_) (fun v hv => k v I1 ρ1 (by rw [← hv]; exact hq)) (fun b hb => kx b I1 ρ1 (by rw [← hb]; exact hq))
  have hmet := sm_met hC hsl hsem
  obtain ⟨hcode, hcls, hname, hhh, hplain, hy, hini, hm⟩ := hC
  obtain ⟨hx, hb, hml, hr, hnm, hex, hlk, hown, hts, hgood, hcst⟩ := F
  have hpre : ∀ U : State, U.heap = H → s.WarmedH U.vm → va_Pc (List.map (sm_cv G) (.ref a :: As)) (sm_B G I ρ) ((List.map (sm_cv G) (.ref a :: As)).toArray) U := fun U hU hW => ⟨rfl, sm_Good.moved hW hgood, ⟨hcst.1, by rw [hU]; exact hG, sm_K2.moved hW hcst.2.2⟩, by rw [hU]; exact RP⟩
  have hrm : (sm_rm d (ρ1.2.2.2.1 - ρ.2.2.2.1) (ρ1.2.2.2.2 - ρ.2.2.2.2)).frames + 1 ≤ R.frames ∧ 8 + (Xc.2.2.1 + 11) + (sm_rm d (ρ1.2.2.2.1 - ρ.2.2.2.1) (ρ1.2.2.2.2 - ρ.2.2.2.2)).locals ≤ R.locals := ⟨a1, by show 8 + (Xc.2.2.1 + 11) + 60 * d ≤ R.locals; omega⟩
  have hstk : (rest.map (sm_cv G)).map (fun v => v.category) = rest.map (fun v => v.category) := by
    rw [List.map_map]
    exact List.map_congr_left fun v _ => sm_cv_cat G v
  have hnone : Xc.2.2.2.1 = none := hret
  rw [hnone] at hmet hcode
  exact vy_runI (b := sm_ad G a) (As := As.map (sm_cv G)) (rest := rest.map (sm_cv G)) ⟨hx, hb, hml, hown, hts⟩ hmet (cwI na hts (lw_meth hcode) rfl rfl rfl (hts _ hini) (hts _ hl.1) (hts _ hl.2.1) hl.2.2 hy hrm) ⟨sm_blind, hpre⟩ rfl (by rw [List.length_map]; exact hlen) LV.1 (by show List.map (sm_cv G) _ = _; rw [List.map_append, List.map_reverse]; rfl) (lv_room (by rw [hstk]; exact hrs)) hd ⟨a3, a4⟩
theorem wp_callIN {a : Nat} {ix : Nat} {Xc : sm_X} {y : MethodName} {na : Nat} {Qc : sm_O → sm_I → sm_R → Prop} {As rest : List Value} (n : Nat) (hn : pc + 3 = n) (hC : sm_C Xc y na) (hd : decode X.2.1 pc = .ok (.invokespecial ix, 3)) (hl : sm_LIN X.1 ix y) (hret : Xc.2.2.2.1 = none)  (hlen : As.length = na) (hsl : (sm_exp (.ref a :: As)).length ≤ Xc.2.2.1) (hrs : (rest.map fun v => v.category).sum ≤ 8) (hM : sm_M G Xc d (.ref a :: As) I ρ Qc) (k : ∀ v I1 ρ1, Qc (.inl v) I1 ρ1 → sm_V G X (d + 1) n lv (v.toList ++ rest) I1 ρ1 Q) (kx : ∀ b I1 ρ1, Qc (.inr b) I1 ρ1 → sm_VX G X (d + 1) pc lv b I1 ρ1 Q) : sm_V G X (d + 1) pc lv (As.reverse ++ .ref a :: rest) I ρ Q := by
  obtain ⟨o, I1, ρ1, hq, hsem⟩ := hM
  refine sm_call (o := o) (I1 := I1) (ρ1 := ρ1) (rest := rest) n hn hsem.1 hsem.2.1 (sm_Qc G o I1 ρ1 _) (fun a b c h => h) (fun p e R s m args below meth c H locs cells slots ls F a1 a2 a3 a4 RP LV hG => ?_) (fun v hv => k v I1 ρ1 (by rw [← hv]; exact hq)) (fun b hb => kx b I1 ρ1 (by rw [← hb]; exact hq))
  have hmet := sm_met hC hsl hsem
  obtain ⟨hcode, hcls, hname, hhh, hplain, hy, hini, hm⟩ := hC
  obtain ⟨hx, hb, hml, hr, hnm, hex, hlk, hown, hts, hgood, hcst⟩ := F
  have hpre : ∀ U : State, U.heap = H → s.WarmedH U.vm → va_Pc (List.map (sm_cv G) (.ref a :: As)) (sm_B G I ρ) ((List.map (sm_cv G) (.ref a :: As)).toArray) U := fun U hU hW => ⟨rfl, sm_Good.moved hW hgood, ⟨hcst.1, by rw [hU]; exact hG, sm_K2.moved hW hcst.2.2⟩, by rw [hU]; exact RP⟩
  have hrm : (sm_rm d (ρ1.2.2.2.1 - ρ.2.2.2.1) (ρ1.2.2.2.2 - ρ.2.2.2.2)).frames + 1 ≤ R.frames ∧ 8 + (Xc.2.2.1 + 11) + (sm_rm d (ρ1.2.2.2.1 - ρ.2.2.2.1) (ρ1.2.2.2.2 - ρ.2.2.2.2)).locals ≤ R.locals := ⟨a1, by show 8 + (Xc.2.2.1 + 11) + 60 * d ≤ R.locals; omega⟩
  have hstk : (rest.map (sm_cv G)).map (fun v => v.category) = rest.map (fun v => v.category) := by
    rw [List.map_map]
    exact List.map_congr_left fun v _ => sm_cv_cat G v
  obtain ⟨⟨host, l1⟩, l2, l3⟩ := hl
  have hnone : Xc.2.2.2.1 = none := hret
  rw [hnone] at hmet hcode
  exact vy_runIN (host := host) (b := sm_ad G a) (As := As.map (sm_cv G)) (rest := rest.map (sm_cv G)) ⟨hx, hb, hml, hown, hts⟩ hmet (⟨va_cnB na hts (lw_meth hcode) rfl rfl rfl (hgood.2.1 _ _ _ _ l1) (hts _ hini) hy hrm, l3, hts _ l2⟩) ⟨sm_blind, hpre⟩ rfl (by rw [List.length_map]; exact hlen) LV.1 (by show List.map (sm_cv G) _ = _; rw [List.map_append, List.map_reverse]; rfl) (lv_room (by rw [hstk]; exact hrs)) hd ⟨a3, a4⟩
end WP5
