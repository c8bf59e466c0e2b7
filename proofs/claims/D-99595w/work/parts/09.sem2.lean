/-! what holds of the tables in every frame -/
set_option maxRecDepth 100000
/-- the String constants: how long, their bytes, whose entry -/
def sm_len : List Nat := [4, 6, 5, 5, 5, 4, 4, 4, 4, 2, 4, 4, 5, 4, 5, 4, 3, 4, 6, 5, 6, 0]
def sm_byt : List (List Int32) := [[100, 111, 111, 114], [99, 97, 108, 108, 101, 114], [114, 111, 117, 110, 100], [103, 105, 118, 101, 115], [119, 101, 97, 114, 115], [112, 97, 121, 115], [119, 105, 110, 100], [110, 101, 97, 114], [115, 101, 101, 100], [105, 102], [116, 104, 101, 110], [101, 108, 115, 101], [97, 112, 97, 114, 116], [112, 97, 114, 116], [108, 105, 102, 116, 115], [105, 100, 108, 101], [100, 97, 121], [102, 97, 99, 101], [117, 110, 108, 105, 107, 101], [119, 104, 105, 99, 104], [114, 117, 98, 98, 101, 100], []]
def sm_strs : List (String × Nat × String) := [(RX2, 11, "door"), (RX2, 13, "caller"), (RX2, 15, "round"), (RX2, 17, "gives"), (RX2, 19, "wears"), (RX2, 21, "pays"), (RX2, 23, "wind"), (RX2, 25, "near"), (RX2, 27, "seed"), (RX2, 29, "if"), (RX2, 31, "then"), (RX2, 33, "else"), (RX2, 35, "apart"), (RX2, 37, "part"), (RX2, 39, "lifts"), (RX2, 41, "idle"), (RX2, 43, "day"), (RX2, 45, "face"), (RX2, 47, "unlike"), (RX2, 49, "which"), (RX2, 51, "rubbed"), (RX1, 1, "")]
/-- a static that may be null -/
def sm_nv (G : sm_G) (k : Nat) : Value := if G.2.2.2.2 (k + 10) = 0 then .null else .ref (G.2.2.2.2 k)
/-- the script's numbers -/
def sm_xs (G : sm_G) (j : Nat) : Int32 := (UInt32.ofNat (G.2.2.2.2 (100 + j))).toInt32
/-- constants: Strings 0 .. 21, their bytes 22 .. 43, ArrayList's empty array 44, three statics 45 .. 47, the script 48 -/
def sm_K2 (G : sm_G) (s : State) : Prop :=
  vk_S 22 sm_len sm_byt G.2.2.2.2 (fun i => G.2.2.2.2 (22 + i)) (sm_A G) s G.2.1 ∧ (∀ (i : Nat) (q : String × Nat × String), sm_strs[i]? = some q → vk_R q.1 q.2.1 q.2.2 (G.2.2.2.2 i) s) ∧
  va_Z "java/lang/String" "COMPACT_STRINGS" "Z" (.int 1) (sm_A G) s G.2.1 ∧ (va_Z "java/util/ArrayList" "DEFAULTCAPACITY_EMPTY_ELEMENTDATA" "[Ljava/lang/Object;" (.ref (G.2.2.2.2 44)) (sm_A G) s G.2.1 ∧ va_T (.object "java/lang/Object") (G.2.2.2.2 44) 0 (fun _ => .null) (sm_A G) s G.2.1) ∧
  (va_Z "java/lang/Throwable" "UNASSIGNED_STACK" "[Ljava/lang/StackTraceElement;" (sm_nv G 45) (sm_A G) s G.2.1 ∧ va_Z "java/lang/Throwable" "SUPPRESSED_SENTINEL" "Ljava/util/List;" (sm_nv G 46) (sm_A G) s G.2.1 ∧ va_Z "jdk/internal/util/Preconditions" "SIOOBE_FORMATTER" "Ljava/util/function/BiFunction;" (sm_nv G 47) (sm_A G) s G.2.1) ∧
  va_X (G.2.2.2.2 48) (G.2.2.2.2 49) (sm_xs G) s G.2.1 ∧ G.2.2.2.2 48 < G.2.1.size
theorem sm_K2.moved {G : sm_G} {s U : State} (hW : s.WarmedH U.vm) (h : sm_K2 G s) : sm_K2 G U := by
  obtain ⟨h1, h2, h3, ⟨h4, h5⟩, ⟨h6, h7, h8⟩, h9, h10⟩ := h
  exact ⟨h1.moved hW.alike, fun i q hq => (h2 i q hq).warm hW, h3.moved hW.alike, ⟨h4.moved hW.alike, h5.moved hW.alike⟩, ⟨h6.moved hW.alike, h7.moved hW.alike, h8.moved hW.alike⟩, h9.moved hW.alike, h10⟩
def sm_Cst (G : sm_G) (s : State) : Prop := G.1.stackTraces = false ∧ G.2.1.size ≤ s.heap.size ∧ sm_K2 G s
/-- arrays of int arrays are in the tables -/
def sm_AI (U : State) : Prop := (Cond.arrayOver (.array .int)).before #[] U = true
theorem sm_AI.use {A : Array Value} {U : State} (h : sm_AI U) : (Cond.arrayOver (.array .int)).before A U = true := h
theorem sm_AI.moved {u U : State} (hvm : u.vm.Alike U.vm) (h : sm_AI u) : sm_AI U := by
  unfold sm_AI at h
  simp only [Cond.before, Cond.holds, Cond.value, beq_iff_eq] at h
  cases hc : u.vm.findClass (FieldType.array .int).toString with
  | none => simp [hc] at h
  | some comp =>
    simp only [hc, Option.bind_some, Option.bind_eq_some_iff, Option.map_eq_some_iff] at h
    obtain ⟨c, hi, k, hk, hb⟩ := h
    obtain ⟨hlt, hp, -⟩ := Array.findIdx?_eq_some_iff_getElem.mp hi
    have hkk : u.vm.classes[c] = k := (Array.getElem?_eq_some_iff.mp hk).2
    rw [hkk] at hp
    cases hkind : k.kind with
    | array component ty =>
      rw [hkind] at hb hp
      simp at hb hp
      have h4 : k.kind = .array comp (.array .int) := by rw [hkind, hp, hb.1]
      obtain ⟨k', hk', he⟩ := hvm.2.2 _ _ hk
      have hb9 : U.vm.bare = u.vm.bare := by first | exact hvm.bare_eq | exact hvm.bare_eq.symm
      have e9 := va_idx_bare U.vm comp
      rw [hb9, va_idx_bare u.vm comp] at e9
      have hi' : (U.vm.classes.findIdx? fun (x : Class) => match x.kind with | .array component _ => component == comp | _ => false) = some c := e9.symm.trans hi
      have hkind' : k'.kind = .array comp (.array .int) := by rw [he]; exact h4
      have f1 : U.vm.findClass (FieldType.array .int).toString = some comp := by rw [hvm.findClass]; exact hc
      have f2 : U.vm.findClass ("[" ++ (FieldType.array .int).toString) = some c := by rw [hvm.findClass]; exact hb.2
      unfold sm_AI Cond.before Cond.holds
      simp only [Cond.value]
      rw [f1, Option.bind_some]
      refine (congrArg (fun o : Option Nat => (o.bind (fun c => (U.vm.classes[c]?).map fun (k : Class) => match k.kind with | .array _ ty => decide (ty = FieldType.array .int) && decide (U.vm.findClass ("[" ++ (FieldType.array .int).toString) = some c) | _ => false) == some true)) hi').trans ?_
      simp [hk', hkind', f2]
    | _ => rw [hkind] at hb; simp at hb
def sm_Good (G : sm_G) (s : State) : Prop :=
  va_K G.2.2.1 sm_cl (sm_tys G) s ∧ (∀ (own : String) (i : Nat) (y : MethodName) (h : String), Cond.methodLinkNest own i y h ∈ lw_tbl → va_Nw (.methodLinkNest own i y h) s) ∧
  (∀ C T : String, Cond.castable C T ∈ lw_tbl → va_Nw (.castable C T) s) ∧ (∀ C : String, Cond.arrayOver (.object C) ∈ lw_tbl → va_AO C s) ∧ (∀ x : MethodName, Cond.declares x ∈ lw_tbl → va_Nw (.declares x) s) ∧ sm_AI s ∧ ∀ y : MethodName, Cond.privateMethod y ∈ lw_tbl → (Cond.privateMethod y).before #[] s = true
theorem sm_Good.moved {G : sm_G} {s U : State} (hW : s.WarmedH U.vm) (h : sm_Good G s) : sm_Good G U := by
  obtain ⟨h1, h2, h3, h4, h5, h6, h7⟩ := h
  exact ⟨va_K.moved hW.alike h1, fun own i y h q => va_Nw.warmM hW (h2 own i y h q), fun C T q => va_Nw.warmC hW (h3 C T q), fun C q => va_AO.moved hW.alike (h4 C q), fun x q => va_Nw.warmD hW (h5 x q), sm_AI.moved hW.alike h6, fun y q => Cond.privateMethod_warm hW (h7 y q)⟩
def sm_Fr (G : sm_G) (X : sm_X) (p : Program) (s : State) (m : MethodId) (args : Array Value) (meth : Method) (c : Code) : Prop :=
  p.tables.exec = Jvm.exec ∧ c.code = X.2.1 ∧ c.maxLocals = X.2.2.1 ∧ meth.sig.returnType = X.2.2.2.1 ∧ meth.name = X.2.2.2.2.1 ∧ c.exceptionTable.toList = tableOf X.2.2.2.2.2 ∧ meth.locks = false ∧
  s.vm.findClass X.1 = some m.cls ∧ (∀ w ∈ lw_all, w.before args s = true) ∧ sm_Good G s ∧ sm_Cst G s
/-- junk: a local that isn't known -/
def sm_jk (v : Value) : Bool := match v with
  | .retAddr _ => true
  | _ => false
def sm_Lv (G : sm_G) (nL : Nat) (ls : Array Slot) (lv : List Value) : Prop := ls.size = nL ∧ lv_wf ls ∧ ∀ (i : Nat) (v : Value), lv[i]? = some v → sm_jk v = false → ls[i]? = some (.val (sm_cv G v))
def sm_pl (G : sm_G) (lv : List Value) : List (Nat × Value) := (List.range lv.length).filterMap (fun j => match lv[j]? with
  | some w => if sm_jk w = true then none else some (j, sm_cv G w)
  | none => none)
theorem sm_pl_mem {G : sm_G} {lv : List Value} {i : Nat} {v : Value} : (i, v) ∈ sm_pl G lv ↔ ∃ w, lv[i]? = some w ∧ sm_jk w = false ∧ v = sm_cv G w := by
  unfold sm_pl
  rw [List.mem_filterMap]
  constructor
  · rintro ⟨j, hj, h⟩
    cases hw : lv[j]? with
    | none => rw [hw] at h; cases h
    | some w =>
      rw [hw] at h
      by_cases hk : sm_jk w = true
      · simp [hk] at h
      · simp only [hk, if_neg, Bool.false_eq_true, if_false, Option.some.injEq, Prod.mk.injEq] at h
        obtain ⟨rfl, rfl⟩ := h
        exact ⟨w, hw, by simpa using hk, rfl⟩
  · rintro ⟨w, h1, h2, rfl⟩
    refine ⟨i, List.mem_range.mpr (List.getElem?_eq_some_iff.mp h1).1, ?_⟩
    rw [h1]
    simp [h2]
theorem sm_Lv.has {G : sm_G} {nL : Nat} {ls : Array Slot} {lv : List Value} (h : sm_Lv G nL ls lv) : lv_has ls nL (sm_pl G lv) := by
  refine ⟨h.1, h.2.1, ?_⟩
  rintro ⟨i, v⟩ hq
  obtain ⟨w, h1, h2, rfl⟩ := sm_pl_mem.mp hq
  exact h.2.2 i w h1 h2
theorem sm_Lv.set {G : sm_G} {nL : Nat} {ls' : Array Slot} {lv : List Value} {i : Nat} {v : Value} (h : lv_has ls' nL ((i, sm_cv G v) :: (sm_pl G lv).filter (fun q => !(q.1 == i) && !(q.1 + 1 == i && q.2.category == 2)))) (hp : ∀ w, 0 < i → lv[i - 1]? = some w → w.category = 1) : sm_Lv G nL ls' (lv.set i v) := by
  refine ⟨h.1, h.2.1, fun j w hj hw => ?_⟩
  by_cases e : i = j
  · subst e
    rw [List.getElem?_set] at hj
    by_cases hl : i < lv.length
    · rw [if_pos rfl, if_pos hl] at hj
      cases hj
      exact h.2.2 (i, sm_cv G v) List.mem_cons_self
    · rw [if_pos rfl, if_neg hl] at hj
      cases hj
  · rw [List.getElem?_set_ne e] at hj
    refine h.2.2 (j, sm_cv G w) (List.mem_cons_of_mem _ (List.mem_filter.mpr ⟨sm_pl_mem.mpr ⟨w, hj, hw, rfl⟩, ?_⟩))
    by_cases e2 : j + 1 = i
    · have h1 := hp w (by omega) (by rw [show i - 1 = j by omega]; exact hj)
      simp [Ne.symm e, sm_cv_cat, h1]
    · simp [Ne.symm e, e2]
theorem sm_Lv.set2 {G : sm_G} {nL : Nat} {ls' : Array Slot} {lv : List Value} {i : Nat} {v : Value} (h : lv_has ls' nL ((i, sm_cv G v) :: (sm_pl G lv).filter (fun q => !(q.1 == i) && (!(q.1 == i + 1) && !(q.1 + 1 == i && q.2.category == 2))))) (hp : ∀ w, 0 < i → lv[i - 1]? = some w → w.category = 1) : sm_Lv G nL ls' ((lv.set i v).set (i + 1) (.retAddr 1)) := by
  refine ⟨h.1, h.2.1, fun j w hj hw => ?_⟩
  by_cases e1 : i + 1 = j
  · subst e1
    rw [List.getElem?_set] at hj
    by_cases hl : i + 1 < (lv.set i v).length
    · rw [if_pos rfl, if_pos hl] at hj
      cases hj
      cases hw
    · rw [if_pos rfl, if_neg hl] at hj
      cases hj
  · rw [List.getElem?_set_ne e1] at hj
    by_cases e : i = j
    · subst e
      rw [List.getElem?_set] at hj
      by_cases hl : i < lv.length
      · rw [if_pos rfl, if_pos hl] at hj
        cases hj
        exact h.2.2 (i, sm_cv G v) List.mem_cons_self
      · rw [if_pos rfl, if_neg hl] at hj
        cases hj
    · rw [List.getElem?_set_ne e] at hj
      refine h.2.2 (j, sm_cv G w) (List.mem_cons_of_mem _ (List.mem_filter.mpr ⟨sm_pl_mem.mpr ⟨w, hj, hw, rfl⟩, ?_⟩))
      by_cases e2 : j + 1 = i
      · have h1 := hp w (by omega) (by rw [show i - 1 = j by omega]; exact hj)
        simp [Ne.symm e, Ne.symm e1, sm_cv_cat, h1]
      · simp [Ne.symm e, Ne.symm e1, e2]
/-- a method's locals at its entry -/
def sm_exp : List Value → List Value
  | [] => []
  | v :: r => if v.category = 2 then v :: .retAddr 1 :: sm_exp r else v :: sm_exp r
def sm_en (n : Nat) (vs : List Value) : List Value := sm_exp vs ++ List.replicate (n - (sm_exp vs).length) (.retAddr 0)
theorem sm_exp_args (G : sm_G) : ∀ (vs : List Value) (i j : Nat) (w : Value), (sm_exp vs)[j]? = some w → sm_jk w = false → (i + j, sm_cv G w) ∈ lv_args i (vs.map (sm_cv G))
  | [], i, j, w, h, _ => by simp [sm_exp] at h
  | v :: r, i, j, w, h, hw => by
    simp only [List.map_cons, lv_args, sm_cv_cat]
    unfold sm_exp at h
    by_cases hc : v.category = 2
    · rw [if_pos hc] at h ⊢
      match j, h with
      | 0, h =>
        cases h
        exact List.mem_cons_self
      | 1, h =>
        cases h
        cases hw
      | j + 2, h =>
        have := sm_exp_args G r (i + 2) j w h hw
        rw [show i + 2 + j = i + (j + 2) by omega] at this
        exact List.mem_cons_of_mem _ this
    · rw [if_neg hc] at h ⊢
      match j, h with
      | 0, h =>
        cases h
        exact List.mem_cons_self
      | j + 1, h =>
        have := sm_exp_args G r (i + 1) j w h hw
        rw [show i + 1 + j = i + (j + 1) by omega] at this
        exact List.mem_cons_of_mem _ this
theorem sm_Lv.entry {G : sm_G} {n : Nat} {ls : Array Slot} {vs : List Value} (h : lv_has ls n (lv_args 0 (vs.map (sm_cv G)))) : sm_Lv G n ls (sm_en n vs) := by
  refine ⟨h.1, h.2.1, fun j w hj hw => ?_⟩
  unfold sm_en at hj
  by_cases hl : j < (sm_exp vs).length
  · rw [List.getElem?_append_left hl] at hj
    have := sm_exp_args G vs 0 j w hj hw
    rw [Nat.zero_add] at this
    exact h.2.2 _ this
  · rw [List.getElem?_append_right (by omega), List.getElem?_replicate] at hj
    split at hj
    · cases hj
      cases hw
    · cases hj
theorem sm_sl_len (G : sm_G) : ∀ vs : List Value, (lg_sl (vs.map (sm_cv G))).length = (sm_exp vs).length
  | [] => rfl
  | v :: r => by
    have h1 : lg_sl ((v :: r).map (sm_cv G)) = (if (sm_cv G v).category = 2 then [Slot.val (sm_cv G v), Slot.second] else [Slot.val (sm_cv G v)]) ++ lg_sl (r.map (sm_cv G)) := by
      simp [lg_sl]
    have h2 : sm_exp (v :: r) = if v.category = 2 then v :: .retAddr 1 :: sm_exp r else v :: sm_exp r := rfl
    rw [h1, h2, List.length_append, sm_sl_len G r, sm_cv_cat]
    by_cases hc : v.category = 2
    · rw [if_pos hc, if_pos hc]
      simp
      omega
    · rw [if_neg hc, if_neg hc]
      simp
      omega
/-! the judgement -/
def sm_Qc (G : sm_G) (o : sm_O) (I' : sm_I) (ρ' : sm_R) : Array Value → State → Outcome → State → Prop := fun _ st oc t => (∃ v : Option Value, o = .inl v ∧ oc = .returned (v.map (sm_cv G))) ∧ sm_Rep G I' ρ' t.heap ∧ va_F (sm_A G) st t
def sm_XC (G : sm_G) (o : sm_O) (I' : sm_I) (ρ' : sm_R) : String → Addr → State → State → Prop := fun E q st t => (∃ k : Nat, o = .inr k ∧ E = RX1 ∧ q = sm_ad G k ∧ (ρ'.2.2.1 k).1 = 2) ∧ sm_Rep G I' ρ' t.heap ∧ va_F (sm_A G) st t
def sm_Sem (G : sm_G) (X : sm_X) (d pc : Nat) (lv st : List Value) (I : sm_I) (ρ : sm_R) (o : sm_O) (I' : sm_I) (ρ' : sm_R) : Prop :=
  ρ.2.2.2.1 ≤ ρ'.2.2.2.1 ∧ ρ.2.2.2.2 ≤ ρ'.2.2.2.2 ∧
  ∀ (p : Program) (e : Env) (R : Room) (s : State) (m : MethodId) (args : Array Value) (below : List Frame) (meth : Method) (c : Code) (H : Heap) (locs : List Loc) (cells slots mc ms : Nat) (ls : Array Slot),
    sm_Fr G X p s m args meth c → d ≤ R.frames → 60 * d ≤ R.locals → cells + (ρ'.2.2.2.1 - ρ.2.2.2.1) ≤ mc → mc ≤ R.cells → slots + (ρ'.2.2.2.2 - ρ.2.2.2.2) ≤ ms → ms ≤ R.slots →
    sm_Rep G I ρ H → va_S (sm_A G) s.heap H locs → sm_Lv G X.2.2.1 ls lv →
    W p G.1 e R s m args below meth c H locs cells slots (vy_MQ below (sm_Qc G o I' ρ') (sm_XC G o I' ρ') args s mc ms (sm_A G)) (F0 m pc ls (st.map (sm_cv G)))
def sm_V (G : sm_G) (X : sm_X) (d pc : Nat) (lv st : List Value) (I : sm_I) (ρ : sm_R) (Q : sm_O → sm_I → sm_R → Prop) : Prop := ∃ o I' ρ', Q o I' ρ' ∧ sm_Sem G X d pc lv st I ρ o I' ρ'
/-- a method's contract: from its entry -/
def sm_M (G : sm_G) (X : sm_X) (d : Nat) (args : List Value) (I : sm_I) (ρ : sm_R) (Q : sm_O → sm_I → sm_R → Prop) : Prop := sm_V G X d 0 (sm_en X.2.2.1 args) [] I ρ Q
theorem sm_V.mono {G : sm_G} {X : sm_X} {d pc : Nat} {lv st : List Value} {I : sm_I} {ρ : sm_R} {Q Q' : sm_O → sm_I → sm_R → Prop} (h : sm_V G X d pc lv st I ρ Q) (hq : ∀ o I' ρ', Q o I' ρ' → Q' o I' ρ') : sm_V G X d pc lv st I ρ Q' := by
  obtain ⟨o, I', ρ', h1, h2⟩ := h
  exact ⟨o, I', ρ', hq _ _ _ h1, h2⟩
theorem sm_V.deeper {G : sm_G} {X : sm_X} {d pc : Nat} {lv st : List Value} {I : sm_I} {ρ : sm_R} {Q : sm_O → sm_I → sm_R → Prop} (d' : Nat) (hd : d ≤ d') (h : sm_V G X d pc lv st I ρ Q) : sm_V G X d' pc lv st I ρ Q := by
  obtain ⟨o, I', ρ', h1, h2, h3, h4⟩ := h
  exact ⟨o, I', ρ', h1, h2, h3, fun p e R s m args below meth c H locs cells slots mc ms ls F a1 a2 a3 a4 a5 a6 a7 a8 a9 => h4 p e R s m args below meth c H locs cells slots mc ms ls F (by omega) (by omega) a3 a4 a5 a6 a7 a8 a9⟩
/-- an instruction that moves locals and stack alone -/
theorem sm_pure {G : sm_G} {X : sm_X} {d pc pc' : Nat} {lv lv' st st' : List Value} {I : sm_I} {ρ : sm_R} {Q : sm_O → sm_I → sm_R → Prop}
    (h : ∀ (p : Program) (e : Env) (R : Room) (s : State) (m : MethodId) (args : Array Value) (below : List Frame) (meth : Method) (c : Code) (H : Heap) (locs : List Loc) (cells slots : Nat) (ls : Array Slot) (QQ : State → Prop), sm_Fr G X p s m args meth c → sm_Lv G X.2.2.1 ls lv →
      (∀ ls' : Array Slot, sm_Lv G X.2.2.1 ls' lv' → W p G.1 e R s m args below meth c H locs cells slots QQ (F0 m pc' ls' (st'.map (sm_cv G)))) → W p G.1 e R s m args below meth c H locs cells slots QQ (F0 m pc ls (st.map (sm_cv G))))
    (k : sm_V G X d pc' lv' st' I ρ Q) : sm_V G X d pc lv st I ρ Q := by
  obtain ⟨o, I', ρ', h1, h2, h3, h4⟩ := k
  exact ⟨o, I', ρ', h1, h2, h3, fun p e R s m args below meth c H locs cells slots mc ms ls F a1 a2 a3 a4 a5 a6 a7 a8 a9 => h p e R s m args below meth c H locs cells slots ls _ F a9 (fun ls' L' => h4 p e R s m args below meth c H locs cells slots mc ms ls' F a1 a2 a3 a4 a5 a6 a7 a8 L')⟩
