/-! ===== calls ===== -/
set_option maxRecDepth 100000
/-- a method's card: its code is in the tables, how many arguments -/
def sm_C (X : sm_X) (y : MethodName) (na : Nat) : Prop := Cond.code y X.2.1 X.2.2.1 X.2.2.2.1 ∈ lw_all ∧ y.cls = X.1 ∧ y.name = X.2.2.2.2.1 ∧ X.2.2.2.2.2 = [] ∧ plainName y.cls = true ∧ (y.cls ≠ "java/lang/invoke/MethodHandle" ∧ y.cls ≠ "java/lang/invoke/VarHandle" ∧ (parseMethodDescriptor y.desc).map (fun d => d.parameters.length) = some na) ∧ Cond.initialized y.cls ∈ lw_all ∧ X.2.2.1 ≤ 41
def sm_B (G : sm_G) (I : sm_I) (ρ : sm_R) (U : State) : Prop := sm_Good G U ∧ sm_Cst G U ∧ sm_Rep G I ρ U.heap
abbrev sm_rm (d mc ms : Nat) : Room := { frames := d, cells := mc, slots := ms, locals := 60 * d }
theorem sm_met {G : sm_G} {X : sm_X} {y : MethodName} {na d : Nat} {As : List Value} {I I' : sm_I} {ρ ρ' : sm_R} {o : sm_O} (hC : sm_C X y na) (hl : (sm_exp As).length ≤ X.2.2.1) (h : sm_Sem G X d 0 (sm_en X.2.2.1 As) [] I ρ o I' ρ') :
    vy_Met G.1 y (ws_ y X.2.1 X.2.2.1 X.2.2.2.1) (sm_rm d (ρ'.2.2.2.1 - ρ.2.2.2.1) (ρ'.2.2.2.2 - ρ.2.2.2.2)) (va_Pc (As.map (sm_cv G)) (sm_B G I ρ)) (sm_Qc G o I' ρ') (sm_XC G o I' ρ') (ρ'.2.2.2.1 - ρ.2.2.2.1) (ρ'.2.2.2.2 - ρ.2.2.2.2) (sm_A G) := by
  obtain ⟨hcode, hcls, hname, hhh, hplain, hy, hini, hm⟩ := hC
  refine vy_ofW (cc := X.2.1) (maxL := X.2.2.1) (ret := X.2.2.2.1) hplain rfl ?_
  intro p e s m args below meth c s₁ B hml ht hv
  obtain ⟨rfl, hgood, hcst, hrep⟩ := hv
  have hts := atoms_spec (ws := ws_ y X.2.1 X.2.2.1 X.2.2.2.1) B.pre
  have hts : ∀ w ∈ lw_all, w.before _ s = true := fun w h => hts w (List.mem_cons_of_mem _ h)
  have hle : (lg_sl (As.map (sm_cv G))).length ≤ X.2.2.1 := by rw [sm_sl_len]; exact hl
  have hlv := lv_entry (As.map (sm_cv G)) (n := X.2.2.1) hle
  rw [lg_entry_eq]
  refine h.2.2 p e _ s m _ below meth c s.heap [] 0 0 _ _ _ ⟨B.exec, B.bytes, hml, B.returns, (name_of_methodNamed B.named B.method).1.trans hname, ?_, B.notSynchronized, ?_, hts, hgood, hcst⟩ (Nat.le_refl _) (Nat.le_refl _) (by omega) (Nat.le_refl _) (by omega) (Nat.le_refl _) hrep va_S.rf (sm_Lv.entry hlv)
  · rw [hhh, List.eq_nil_iff_forall_not_mem.mpr ht]
    rfl
  · rw [← hcls]
    exact findClass_of_methodNamed B.named
theorem sm_blind {G : sm_G} {I : sm_I} {ρ : sm_R} {av : List Value} : FrameBlind (va_Pc av (sm_B G I ρ)) := by
  intro a U g mk h
  obtain ⟨h1, h2, h3, h4⟩ := h
  exact ⟨h1, sm_Good.moved (U := U.calling g mk a) (State.WarmedH.refl U) h2, ⟨h3.1, h3.2.1, sm_K2.moved (U := U.calling g mk a) (State.WarmedH.refl U) h3.2.2⟩, h4⟩
/-- the throwing frame -/
def sm_SemX (G : sm_G) (X : sm_X) (d pc : Nat) (lv : List Value) (b : Nat) (I : sm_I) (ρ : sm_R) (o : sm_O) (I' : sm_I) (ρ' : sm_R) : Prop :=
  ρ.2.2.2.1 ≤ ρ'.2.2.2.1 ∧ ρ.2.2.2.2 ≤ ρ'.2.2.2.2 ∧
  ∀ (p : Program) (e : Env) (R : Room) (s : State) (m : MethodId) (args : Array Value) (below : List Frame) (meth : Method) (c : Code) (H : Heap) (locs : List Loc) (cells slots mc ms : Nat) (ls : Array Slot) (rest : List Value),
    sm_Fr G X p s m args meth c → d ≤ R.frames → 60 * d ≤ R.locals → cells + (ρ'.2.2.2.1 - ρ.2.2.2.1) ≤ mc → mc ≤ R.cells → slots + (ρ'.2.2.2.2 - ρ.2.2.2.2) ≤ ms → ms ≤ R.slots →
    sm_Rep G I ρ H → va_S (sm_A G) s.heap H locs → sm_Lv G X.2.2.1 ls lv →
    vy_W p G.1 e R s m args below meth c H locs cells slots (vy_MQ below (sm_Qc G o I' ρ') (sm_XC G o I' ρ') args s mc ms (sm_A G)) (F0 m pc ls rest) (sm_ad G b)
def sm_VX (G : sm_G) (X : sm_X) (d pc : Nat) (lv : List Value) (b : Nat) (I : sm_I) (ρ : sm_R) (Q : sm_O → sm_I → sm_R → Prop) : Prop := ∃ o I' ρ', Q o I' ρ' ∧ sm_SemX G X d pc lv b I ρ o I' ρ'
section WP4
variable {G : sm_G} {X : sm_X} {d pc : Nat} {lv st : List Value} {I : sm_I} {ρ : sm_R} {Q : sm_O → sm_I → sm_R → Prop}
theorem sm_after {s st₀ t T1 : State} {H : Heap} {locs L : List Loc} (hS : va_S (sm_A G) s.heap H locs) (h0 : st₀.heap = H) (e1 : T1.heap = t.heap) (hL : ∀ q ∈ L, sm_A G q.base) (hF : va_F (sm_A G) st₀ t) : va_S (sm_A G) s.heap T1.heap (locs ++ L) := by
  obtain ⟨hz, hk⟩ := hF
  rw [h0] at hz hk
  refine ⟨Nat.le_trans hS.1 (by rw [e1]; exact hz), fun q h1 h2 => ?_, fun q hq => ?_⟩
  · rw [e1, hk q (Nat.lt_of_lt_of_le h1 hS.1) h2]
    exact hS.2.1 q h1 h2
  · rcases List.mem_append.mp hq with h | h
    · exact hS.2.2 q h
    · exact hL q h
/-- a call whose run is known: goes on, or is thrown on -/
theorem sm_call {o : sm_O} {I1 : sm_I} {ρ1 : sm_R} {rest : List Value} (n : Nat) (hn : pc + 3 = n) (hz : ρ.2.2.2.1 ≤ ρ1.2.2.2.1) (hz2 : ρ.2.2.2.2 ≤ ρ1.2.2.2.2) (Qa : State → Outcome → State → Prop) (hQa : ∀ a b c, Qa a b c → sm_Qc G o I1 ρ1 #[] a b c)
    (hrun : ∀ (p : Program) (e : Env) (R : Room) (s : State) (m : MethodId) (args : Array Value) (below : List Frame) (meth : Method) (c : Code) (H : Heap) (locs : List Loc) (cells slots : Nat) (ls : Array Slot), sm_Fr G X p s m args meth c → d + 1 ≤ R.frames → 60 * (d + 1) ≤ R.locals → cells + (ρ1.2.2.2.1 - ρ.2.2.2.1) ≤ R.cells → slots + (ρ1.2.2.2.2 - ρ.2.2.2.2) ≤ R.slots → sm_Rep G I ρ H → sm_Lv G X.2.2.1 ls lv → G.2.1.size ≤ H.size →
      vy_Run p G.1 e R s m args below meth c H locs cells slots (ρ1.2.2.2.1 - ρ.2.2.2.1) (ρ1.2.2.2.2 - ρ.2.2.2.2) (F0 m pc ls (st.map (sm_cv G))) (rest.map (sm_cv G)) Qa (sm_XC G o I1 ρ1) (sm_A G))
    (k : ∀ v, o = .inl v → sm_V G X (d + 1) n lv (v.toList ++ rest) I1 ρ1 Q) (kx : ∀ b, o = .inr b → sm_VX G X (d + 1) pc lv b I1 ρ1 Q) : sm_V G X (d + 1) pc lv st I ρ Q := by
  subst hn
  cases o with
  | inl v =>
    obtain ⟨o', I', ρ', hq, h2, h3, h4⟩ := k v rfl
    refine ⟨o', I', ρ', hq, Nat.le_trans hz h2, Nat.le_trans hz2 h3, fun p e R s m args below meth c H locs cells slots mc ms ls F a1 a2 a3 a4 a5 a6 a7 a8 a9 => ?_⟩
    intro T hT XX
    rcases hrun p e R s m args below meth c H locs cells slots ls F a1 a2 (by omega) (by omega) a7 a9 (by rw [a7.2.1]; omega) T hT XX with ⟨v', st₀, t, T1, L, h0, X1, hL, e1, e2, hqa, hst⟩ | ⟨q, st₀, t, T1, L, E, ce, h0, X1, hL, e1, e2, ⟨⟨b, hb, -⟩, -⟩, -⟩
    · obtain ⟨⟨v0, hv0, hv1⟩, hrep, hF⟩ := hQa _ _ _ hqa
      cases hv0
      cases hv1
      obtain ⟨t2, b1, b2⟩ := h4 p e R s m args below meth c T1.heap (locs ++ L) (cells + (ρ1.2.2.2.1 - ρ.2.2.2.1)) (slots + (ρ1.2.2.2.2 - ρ.2.2.2.2)) mc ms ls F a1 a2 (by omega) a4 (by omega) a6 (by rw [e1]; exact hrep) (sm_after a8 h0 e1 hL hF) a9 T1 rfl X1
      refine ⟨t2, hst t2 ?_, b2⟩
      rw [List.map_append] at b1
      have e9 : (Option.map (sm_cv G) v).toList = List.map (sm_cv G) v.toList := by cases v <;> rfl
      rw [e9]
      exact b1
    · cases hb
  | inr b =>
    obtain ⟨o', I', ρ', hq, h2, h3, h4⟩ := kx b rfl
    refine ⟨o', I', ρ', hq, Nat.le_trans hz h2, Nat.le_trans hz2 h3, fun p e R s m args below meth c H locs cells slots mc ms ls F a1 a2 a3 a4 a5 a6 a7 a8 a9 => ?_⟩
    intro T hT XX
    rcases hrun p e R s m args below meth c H locs cells slots ls F a1 a2 (by omega) (by omega) a7 a9 (by rw [a7.2.1]; omega) T hT XX with ⟨v', st₀, t, T1, L, h0, X1, hL, e1, e2, hqa, hst⟩ | ⟨q, st₀, t, T1, L, E, ce, h0, X1, hL, e1, e2, ⟨⟨b', hb, hE, hqq, -⟩, hrep, hF⟩, hce, hcv, hcl, hst⟩
    · obtain ⟨⟨v0, hv0, -⟩, -⟩ := hQa _ _ _ hqa
      cases hv0
    · cases hb
      subst hqq
      obtain ⟨t2, b1, b2⟩ := h4 p e R s m args below meth c T1.heap (locs ++ L) (cells + (ρ1.2.2.2.1 - ρ.2.2.2.1)) (slots + (ρ1.2.2.2.2 - ρ.2.2.2.2)) mc ms ls (rest.map (sm_cv G)) F a1 a2 (by omega) a4 (by omega) a6 (by rw [e1]; exact hrep) (sm_after a8 h0 e1 hL hF) a9 T1 rfl X1
      exact ⟨t2, hst.trans b1, b2⟩
end WP4
