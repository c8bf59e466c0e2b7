/-! ===== THE PURE LAYER: an abstract store, what it says of the machine's heap, and the judgement sm_V over it ===== -/
set_option maxRecDepth 100000
/-- the classes, by number (0 is not used) -/
def sm_cl : List vw_C := [(RX0, TX0, 22), (RX0, TX0, 22), (RX1, TX1, 8), (RX2, TX2, 8), (RX3, TX3, 7), (RX4, TX4, 7), (RX5, TX5, 12), (RX6, TX6, 2), (RX8, TX0, 0), (RX9, TX0, 0), (RX10, TX10, 66), (RX11, TX11, 4), (RX13, TX13, 1), (RX14, TX14, 1), (RX15, TX15, 3), (RX17, TX17, 2), (RX18, TX18, 2), (RX19, TX19, 4), (RJ5, TJ5, 3), (RJ8, TJ8, 4), (RJ12, TJ12, 4)]
/-- a field's kind by its descriptor: 0 an int of any sort, 2 a reference -/
def sm_kd (d : String) : Nat := if d = "I" ∨ d = "Z" ∨ d = "B" ∨ d = "S" ∨ d = "C" then 0 else 2
def sm_ks (r : vw_C) : List Nat := (List.range r.2.2).map (fun k => sm_kd (r.2.1 k).2.2.1)
/-- by number: the kinds of a record's fields -/
def sm_kinds : List (List Nat) := sm_cl.map sm_ks
/-- the array kinds: 0 int, 1 byte, 2 short, 3 boolean, 4 long, 5 Object, 6 String, 7 Town, 8 Sum, 9 Law, 10 int[] -/
def sm_at : List FieldType := [.int, .byte, .short, .boolean, .long, .object "java/lang/Object", .object "java/lang/String", .object "KnockerFaces$Town", .object "KnockerFaces$Sum", .object "KnockerFaces$Law", .array .int]
abbrev sm_I : Type := Nat → Nat → Int32
/-- longs, references, shapes (kind, length), how many cells, how many slots -/
abbrev sm_R : Type := (Nat → Nat → Int64) × (Nat → Nat → Option Nat) × (Nat → Nat × Nat) × Nat × Nat
/-- the launch, the heap at the law's start, the class numbers and slots, the array classes, where the constants lie -/
abbrev sm_G : Type := Launch × Heap × va_G × (Nat → ClassId) × (Nat → Nat)
/-- a method: its owner, code, locals, answer, name, handlers -/
abbrev sm_X : Type := String × ByteArray × Nat × Option FieldType × String × List (Nat × Nat × Nat × Nat)
/-- how a method ends: an answer, or the thrown object's address -/
abbrev sm_O : Type := Option Value ⊕ Nat
def sm_ad (G : sm_G) (k : Nat) : Nat := if k < 64 then G.2.2.2.2 k else G.2.1.size + (k - 64)
def sm_cv (G : sm_G) (v : Value) : Value := match v with
  | .ref k => .ref (sm_ad G k)
  | v => v
theorem sm_cv_int (G : sm_G) (x : Int32) : sm_cv G (.int x) = .int x := rfl
theorem sm_cv_long (G : sm_G) (x : Int64) : sm_cv G (.long x) = .long x := rfl
theorem sm_cv_null (G : sm_G) : sm_cv G .null = .null := rfl
theorem sm_cv_ref (G : sm_G) (k : Nat) : sm_cv G (.ref k) = .ref (sm_ad G k) := rfl
theorem sm_cv_cat (G : sm_G) (v : Value) : (sm_cv G v).category = v.category := by cases v <;> rfl
theorem sm_cats (G : sm_G) (st : List Value) : ((st.map (sm_cv G)).map fun v => v.category).sum = (st.map fun v => v.category).sum := by
  rw [List.map_map]
  congr 1
  apply List.map_congr_left
  intro v _
  exact sm_cv_cat G v
def sm_val (G : sm_G) (κ : Nat) (i : Int32) (p : Option Nat) : Value := if κ = 0 then .int i else va_rf (p.map (sm_ad G))
def sm_fl (G : sm_G) (t : Nat) (i : Nat → Int32) (p : Nat → Option Nat) : List Value := (sm_kinds.getD t []).mapIdx (fun j κ => sm_val G κ (i j) (p j))
/-- what an address holds -/
def sm_ent (G : sm_G) (I : sm_I) (ρ : sm_R) (a : Nat) : va_E :=
  if (ρ.2.2.1 a).1 < 100 then .inr ((ρ.2.2.1 a).1, sm_fl G (ρ.2.2.1 a).1 (I a) (ρ.2.1 a))
  else .inl (G.2.2.2.1 ((ρ.2.2.1 a).1 - 100), (ρ.2.2.1 a).2,
    if (ρ.2.2.1 a).1 < 104 then .inl (I a) else if (ρ.2.2.1 a).1 = 104 then .inr (.inl (ρ.1 a)) else .inr (.inr (.inr (.inr (fun j => (ρ.2.1 a j).map (sm_ad G))))))
def sm_ws (G : sm_G) (I : sm_I) (ρ : sm_R) : va_W := (List.range ρ.2.2.2.1).map (fun k => (G.2.1.size + k, sm_ent G I ρ (k + 64)))
def sm_tys (G : sm_G) : List (ClassId × FieldType) := sm_at.mapIdx (fun k t => (G.2.2.2.1 k, t))
/-- the cells that may be written: all that were made since the law's start -/
def sm_A (G : sm_G) : Nat → Prop := fun q => G.2.1.size ≤ q
/-- every shape that is told is of an address in use -/
def sm_In (ρ : sm_R) : Prop := ∀ a : Nat, (ρ.2.2.1 a).1 ≠ 0 → 64 ≤ a ∧ a < ρ.2.2.2.1 + 64
def sm_Rep (G : sm_G) (I : sm_I) (ρ : sm_R) (H : Heap) : Prop :=
  va_P G.2.2.1 sm_cl (sm_ws G I ρ) H ∧ H.size = G.2.1.size + ρ.2.2.2.1 ∧ (∀ q : Nat, q < G.2.1.size → H[q]? = G.2.1[q]?) ∧ sm_In ρ
theorem sm_ws_at {G : sm_G} {I : sm_I} {ρ : sm_R} {a t n : Nat} (hi : sm_In ρ) (h : ρ.2.2.1 a = (t, n)) (h0 : t ≠ 0) : (sm_ws G I ρ)[a - 64]? = some (sm_ad G a, sm_ent G I ρ a) := by
  obtain ⟨h1, h2⟩ := hi a (by rw [h]; exact h0)
  unfold sm_ws
  rw [List.getElem?_map, List.getElem?_range (by omega)]
  simp only [Option.map_some, sm_ad]
  rw [if_neg (by omega), show a - 64 + 64 = a by omega]
theorem sm_ws_D (G : sm_G) (I : sm_I) (ρ : sm_R) : va_D (sm_A G) (sm_ws G I ρ) := by
  refine ⟨fun i j p q hi hj hpq => ?_, fun k q hk => ?_⟩
  · unfold sm_ws at hi hj
    rw [List.getElem?_map] at hi hj
    obtain ⟨x, hx, rfl⟩ := Option.map_eq_some_iff.mp hi
    obtain ⟨y, hy, rfl⟩ := Option.map_eq_some_iff.mp hj
    have h1 := List.getElem?_eq_some_iff.mp hx
    have h2 := List.getElem?_eq_some_iff.mp hy
    obtain ⟨l1, e1⟩ := h1
    obtain ⟨l2, e2⟩ := h2
    rw [List.getElem_range] at e1 e2
    simp only at hpq
    omega
  · unfold sm_ws at hk
    rw [List.getElem?_map] at hk
    obtain ⟨x, hx, rfl⟩ := Option.map_eq_some_iff.mp hk
    show G.2.1.size ≤ G.2.1.size + x
    omega
/-- a store changes one entry -/
theorem sm_ws_set {G : sm_G} {I I' : sm_I} {ρ ρ' : sm_R} {a t n : Nat} {e : va_E} (hi : sm_In ρ) (h : ρ.2.2.1 a = (t, n)) (h0 : t ≠ 0) (hs : ρ'.2.2.2.1 = ρ.2.2.2.1) (he : sm_ent G I' ρ' a = e) (hn : ∀ b, b ≠ a → sm_ent G I' ρ' b = sm_ent G I ρ b) : (sm_ws G I ρ).set (a - 64) (sm_ad G a, e) = sm_ws G I' ρ' := by
  obtain ⟨h1, h2⟩ := hi a (by rw [h]; exact h0)
  apply List.ext_getElem?
  intro k
  rw [List.getElem?_set]
  unfold sm_ws
  rw [List.length_map, List.length_range, hs]
  by_cases hk : a - 64 = k
  · subst hk
    rw [if_pos rfl, if_pos (by omega), List.getElem?_map, List.getElem?_range (by omega)]
    simp only [Option.map_some, sm_ad]
    rw [if_neg (by omega), show a - 64 + 64 = a by omega, he]
  · rw [if_neg hk, List.getElem?_map, List.getElem?_map]
    by_cases hl : k < ρ.2.2.2.1
    · rw [List.getElem?_range hl]
      simp only [Option.map_some]
      rw [hn (k + 64) (by omega)]
    · rw [List.getElem?_eq_none (by rw [List.length_range]; omega)]
      rfl
/-- a new cell goes behind -/
theorem sm_ws_push {G : sm_G} {I I' : sm_I} {ρ ρ' : sm_R} {e : va_E} (hs : ρ'.2.2.2.1 = ρ.2.2.2.1 + 1) (he : sm_ent G I' ρ' (ρ.2.2.2.1 + 64) = e) (hn : ∀ b, b < ρ.2.2.2.1 + 64 → sm_ent G I' ρ' b = sm_ent G I ρ b) : sm_ws G I ρ ++ [(G.2.1.size + ρ.2.2.2.1, e)] = sm_ws G I' ρ' := by
  unfold sm_ws
  rw [hs, List.range_succ, List.map_append]
  congr 1
  · apply List.map_congr_left
    intro k hk
    rw [List.mem_range] at hk
    rw [hn (k + 64) (by omega)]
  · simp only [List.map_cons, List.map_nil]
    rw [he]
