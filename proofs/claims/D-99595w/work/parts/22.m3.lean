/-! ===== terms and laws, in the model's own form: a term is its signs in reverse Polish order ===== -/
set_option maxRecDepth 100000
/-- nothing else has changed: arrays but those, the model's fields but those -/
def mf (A F : List Nat) (I I1 : sm_I) : Prop := (∀ a, a ∉ A → a ≠ mM → I1 a = I a) ∧ ∀ k, k ∉ F → I1 mM k = I mM k
theorem mf.rf {A F : List Nat} {I : sm_I} : mf A F I I := ⟨fun _ _ _ => rfl, fun _ _ => rfl⟩
theorem mf.tr {A F : List Nat} {I I1 I2 : sm_I} (h : mf A F I I1) (h2 : mf A F I1 I2) : mf A F I I2 := ⟨fun a h3 h4 => (h2.1 a h3 h4).trans (h.1 a h3 h4), fun k h3 => (h2.2 k h3).trans (h.2 k h3)⟩
theorem mf.wk {A F A' F' : List Nat} {I I1 : sm_I} (h : mf A F I I1) (hA : ∀ a ∈ A, a ∈ A') (hF : ∀ k ∈ F, k ∈ F') : mf A' F' I I1 := ⟨fun a h3 h4 => h.1 a (fun q => h3 (hA a q)) h4, fun k h3 => h.2 k (fun q => h3 (hF k q))⟩
theorem mf.u {A F : List Nat} {I : sm_I} {a k : Nat} {v : Int32} (ha : a ∈ A) (hM : a ≠ mM) : mf A F I (sm_u I a k v) := ⟨fun b h3 _ => sm_u_ne I k v (fun e => h3 (by rw [e]; exact ha)), fun j _ => by rw [sm_u_ne I k v (fun e => hM e.symm)]⟩
theorem mf.uM {A F : List Nat} {I : sm_I} {k : Nat} {v : Int32} (hk : k ∈ F) : mf A F I (sm_u I mM k v) := ⟨fun b _ h4 => sm_u_ne I k v h4, fun j hj => by rw [sm_u_eq]; unfold upd; rw [if_neg (fun e => hj (by rw [e]; exact hk))]⟩
theorem mf.a {A F : List Nat} {I : sm_I} {a : Nat} {f : Nat → Int32} (ha : a ∈ A) (hM : a ≠ mM) : mf A F I (sm_a I a f) := ⟨fun b h3 _ => sm_a_ne I f (fun e => h3 (by rw [e]; exact ha)), fun j _ => by rw [sm_a_ne I f (fun e => hM e.symm)]⟩
abbrev ex : Type := List (Nat × Int32)
def ex_op (k : Nat) (a b : Int32) : Int32 := if k = 2 then a + b else if k = 3 then a - b else if k = 4 then a * b else a / b
def ex_run (vs : Nat → Int32) : ex → List Int32 → Option (List Int32)
  | [], s => some s
  | (k, v) :: r, s => if k = 0 then ex_run vs r (v :: s) else if k = 1 then ex_run vs r (vs v.toNatClampNeg :: s) else match s with
    | b :: a :: t => if k = 5 ∧ b = 0 then none else ex_run vs r (ex_op k a b :: t)
    | _ => none
def ex_ev (vs : Nat → Int32) (e : ex) : Option Int32 := (ex_run vs e []).map (fun s => s.headD 0)
def ex_wf : ex → Nat → Prop
  | [], k => k = 1
  | (c, v) :: r, k => (c = 0 ∧ ex_wf r (k + 1)) ∨ (c = 1 ∧ (∃ j, j < 9 ∧ v = nI j) ∧ ex_wf r (k + 1)) ∨ ((c = 2 ∨ c = 3 ∨ c = 4 ∨ c = 5) ∧ 2 ≤ k ∧ ex_wf r (k - 1))
/-- the code from a on holds the term -/
def ex_at (I : sm_I) (a : Nat) (e : ex) : Prop := ∀ (i k : Nat) (v : Int32), e[i]? = some (k, v) → I m_code (a + i) = nI k ∧ I m_codeInt (a + i) = v
theorem ex_at.tl {I : sm_I} {a : Nat} {x : Nat × Int32} {r : ex} (h : ex_at I a (x :: r)) : ex_at I (a + 1) r := fun i k v hi => by
  have := h (i + 1) k v hi
  rw [show a + (i + 1) = a + 1 + i by omega] at this
  exact this
/-- the pile holds the stack, its top last -/
def ex_pl (f : Nat → Int32) (s : List Int32) : Prop := ∀ (j : Nat) (v : Int32), s[j]? = some v → f (s.length - 1 - j) = v
theorem ex_pl.push {f : Nat → Int32} {s : List Int32} (h : ex_pl f s) (v : Int32) : ex_pl (upd f s.length v) (v :: s) := by
  intro j w hj
  have hl := (List.getElem?_eq_some_iff.mp hj).1
  rw [List.length_cons] at hl ⊢
  cases j with
  | zero =>
    cases hj
    show upd f s.length v (s.length + 1 - 1 - 0) = v
    rw [show s.length + 1 - 1 - 0 = s.length by omega]
    exact pk_us
  | succ j =>
    rw [List.getElem?_cons_succ] at hj
    rw [show s.length + 1 - 1 - (j + 1) = s.length - 1 - j by omega, pk_un (by omega)]
    exact h j w hj
theorem ex_pl.two {f : Nat → Int32} {a b : Int32} {t : List Int32} (h : ex_pl f (b :: a :: t)) (v : Int32) : ex_pl (upd f t.length v) (v :: t) := by
  intro j w hj
  have hl := (List.getElem?_eq_some_iff.mp hj).1
  rw [List.length_cons] at hl ⊢
  cases j with
  | zero =>
    cases hj
    rw [show t.length + 1 - 1 - 0 = t.length by omega]
    exact pk_us
  | succ j =>
    rw [List.getElem?_cons_succ] at hj
    rw [show t.length + 1 - 1 - (j + 1) = t.length - 1 - j by omega, pk_un (by omega)]
    have := h (j + 2) w hj
    simp only [List.length_cons] at this
    rw [show t.length + 1 + 1 - 1 - (j + 2) = t.length - 1 - j by omega] at this
    exact this
/-- what a term's end says: its value, or that it is broken -/
def ex_end (vs : Nat → Int32) (I : sm_I) (ρ : sm_R) (x : Option (List Int32)) : sm_O → sm_I → sm_R → Prop := sm_Qi (fun r I1 ρ1 => ρ1 = ρ ∧ mf [m_pile] [50] I I1 ∧ r = (x.map (fun s => s.headD 0)).getD 0 ∧ I1 mM 50 = if x.isSome then I mM 50 else nI 1)
section M3
variable {G : sm_G} {d : Nat} {I : sm_I} {ρ : sm_R}
theorem tm_loop (hm : md ρ) (I : sm_I) (a b : Nat) : ∀ (r : ex) (s : List Int32) (c : Nat) (I' : sm_I), c + r.length = b → b ≤ 840 → s.length + r.length ≤ 400 → ex_wf r s.length → ex_at I c r → mf [m_pile] [] I I' → ex_pl (I' m_pile) s →
    sm_V G xX10_termOf d 5 [.ref mM, .int (nI a), .int (nI b), .int (nI s.length), .int (nI c), .retAddr 0, .retAddr 0, .retAddr 0] [] I' ρ (ex_end (I m_variables) I ρ (ex_run (I m_variables) r s)) := by
  intro r
  induction r with
  | nil =>
    intro s c I' hb hb2 hl hw hat hf hp
    have hs1 : s.length = 1 := hw
    obtain ⟨v, rfl⟩ : ∃ v, s = [v] := by
      match s, hs1 with
      | [v], _ => exact ⟨v, rfl⟩
    have hc : c = b := by simpa using hb
    subst hc
    refine wp_iload4 7 rfl dX10_termOf_5 ?_
    refine wp_iload2 8 rfl dX10_termOf_7 ?_
    refine wp_icmp_ge 11 165 rfl rfl dX10_termOf_8 (fun c8 => ?_) (fun c8 => absurd (nI_le (Nat.le_refl c) (by omega)) c8)
    refine wp_aload0 166 rfl dX10_termOf_165 ?_
    refine wp_getr 169 rfl dX10_termOf_166 fX10_116_10 (md_M hm) (mp_pile hm) ?_
    refine wp_iconst (nI 0) 170 rfl dX10_termOf_169 (by decide) ?_
    refine wp_iald 171 rfl dX10_termOf_170 (ms_pile hm) (0) (by first | rfl | simp only [pk_mul, nI_add]) (⟨by omega, by decide⟩) ?_
    refine wp_iret dX10_termOf_171 rfl ?_
    refine ⟨_, rfl, rfl, hf.wk (fun _ h => h) (fun _ h => nomatch h), ?_, ?_⟩
    · exact hp 0 v rfl
    · exact hf.2 50 (fun h => nomatch h)
  | cons x r ih =>
    intro s c I' hb hb2 hl hw hat hf hp
    obtain ⟨k, v⟩ := x
    have hlr : r.length + 1 = (((k, v) : Nat × Int32) :: r).length := rfl
    rw [List.length_cons] at hb hl
    obtain ⟨hk, hv⟩ := hat 0 k v rfl
    rw [Nat.add_zero] at hk hv
    have hk' : I' m_code c = nI k := by rw [hf.1 m_code (by decide) (by decide)]; exact hk
    have hv' : I' m_codeInt c = v := by rw [hf.1 m_codeInt (by decide) (by decide)]; exact hv
    have hvs : I' m_variables = I m_variables := hf.1 m_variables (by decide) (by decide)
    rcases hw with ⟨rfl, hw⟩ | ⟨rfl, ⟨j, hj, rfl⟩, hw⟩ | ⟨hop, h2, hw⟩
    · refine wp_iload4 7 rfl dX10_termOf_5 ?_
      refine wp_iload2 8 rfl dX10_termOf_7 ?_
      refine wp_icmp_ge 11 165 rfl rfl dX10_termOf_8 (fun c8 => absurd c8 (nI_ge (by omega) (by omega))) (fun c8 => ?_)
      refine wp_aload0 12 rfl dX10_termOf_11 ?_
      refine wp_getr 15 rfl dX10_termOf_12 fX10_104_10 (md_M hm) (mp_code hm) ?_
      refine wp_iload4 17 rfl dX10_termOf_15 ?_
      refine wp_iald 18 rfl dX10_termOf_17 (ms_code hm) (c) (by first | rfl | simp only [pk_mul, nI_add]) (⟨by omega, by decide⟩) ?_
      refine wp_istore5 20 rfl dX10_termOf_18 (by decide) rfl ?_
      refine wp_iload5 22 rfl dX10_termOf_20 ?_
      refine wp_iconst (nI 2) 23 rfl dX10_termOf_22 (by decide) ?_
      refine wp_icmp_ge 26 65 rfl rfl dX10_termOf_23 (fun c23 => absurd c23 (by rw [hk']; decide)) (fun c23 => ?_)
      refine wp_aload0 27 rfl dX10_termOf_26 ?_
      refine wp_getr 30 rfl dX10_termOf_27 fX10_116_10 (md_M hm) (mp_pile hm) ?_
      refine wp_iload3 31 rfl dX10_termOf_30 ?_
      refine wp_iload5 33 rfl dX10_termOf_31 ?_
      refine wp_if_ne 36 46 rfl rfl dX10_termOf_33 (fun c33 => absurd (by rw [hk']; rfl) c33) (fun c33 => ?_)
      refine wp_aload0 37 rfl dX10_termOf_36 ?_
      refine wp_getr 40 rfl dX10_termOf_37 fX10_107_10 (md_M hm) (mp_codeInt hm) ?_
      refine wp_iload4 42 rfl dX10_termOf_40 ?_
      refine wp_iald 43 rfl dX10_termOf_42 (ms_codeInt hm) (c) (by first | rfl | simp only [pk_mul, nI_add]) (⟨by omega, by decide⟩) ?_
      refine wp_goto 58 rfl dX10_termOf_43 ?_
      refine wp_iast 59 rfl dX10_termOf_58 (ms_pile hm) (s.length) (by first | rfl | simp only [pk_mul, nI_add]) (⟨by omega, by decide⟩) ?_
      refine wp_iincN3 62 rfl dX10_termOf_59 (by decide) rfl ?_
      refine wp_goto 159 rfl dX10_termOf_62 ?_
      refine wp_iincN4 162 rfl dX10_termOf_159 (by decide) rfl ?_
      refine wp_goto 5 rfl dX10_termOf_162 ?_
      rw [hv']
      have hrun : ex_run (I m_variables) ((0, v) :: r) s = ex_run (I m_variables) r (v :: s) := rfl
      rw [hrun]
      refine wp_weakK (ih (v :: s) (c + 1) (sm_u I' m_pile s.length v) (by omega) hb2 (by rw [List.length_cons]; omega) hw hat.tl (hf.tr (mf.u (by decide) (by decide))) (by rw [sm_u_eq]; exact hp.push v)) ⟨Or.inr rfl, Or.inr rfl, Or.inr rfl, Or.inr rfl, Or.inr rfl, Or.inl rfl, Or.inr rfl, Or.inr rfl, trivial⟩
    · refine wp_iload4 7 rfl dX10_termOf_5 ?_
      refine wp_iload2 8 rfl dX10_termOf_7 ?_
      refine wp_icmp_ge 11 165 rfl rfl dX10_termOf_8 (fun c8 => absurd c8 (nI_ge (by omega) (by omega))) (fun c8 => ?_)
      refine wp_aload0 12 rfl dX10_termOf_11 ?_
      refine wp_getr 15 rfl dX10_termOf_12 fX10_104_10 (md_M hm) (mp_code hm) ?_
      refine wp_iload4 17 rfl dX10_termOf_15 ?_
      refine wp_iald 18 rfl dX10_termOf_17 (ms_code hm) (c) (by first | rfl | simp only [pk_mul, nI_add]) (⟨by omega, by decide⟩) ?_
      refine wp_istore5 20 rfl dX10_termOf_18 (by decide) rfl ?_
      refine wp_iload5 22 rfl dX10_termOf_20 ?_
      refine wp_iconst (nI 2) 23 rfl dX10_termOf_22 (by decide) ?_
      refine wp_icmp_ge 26 65 rfl rfl dX10_termOf_23 (fun c23 => absurd c23 (by rw [hk']; decide)) (fun c23 => ?_)
      refine wp_aload0 27 rfl dX10_termOf_26 ?_
      refine wp_getr 30 rfl dX10_termOf_27 fX10_116_10 (md_M hm) (mp_pile hm) ?_
      refine wp_iload3 31 rfl dX10_termOf_30 ?_
      refine wp_iload5 33 rfl dX10_termOf_31 ?_
      refine wp_if_ne 36 46 rfl rfl dX10_termOf_33 (fun c33 => ?_) (fun c33 => absurd c33 (by rw [hk']; decide))
      refine wp_aload0 47 rfl dX10_termOf_46 ?_
      refine wp_getr 50 rfl dX10_termOf_47 fX10_113_10 (md_M hm) (mp_variables hm) ?_
      refine wp_aload0 51 rfl dX10_termOf_50 ?_
      refine wp_getr 54 rfl dX10_termOf_51 fX10_107_10 (md_M hm) (mp_codeInt hm) ?_
      refine wp_iload4 56 rfl dX10_termOf_54 ?_
      refine wp_iald 57 rfl dX10_termOf_56 (ms_codeInt hm) (c) (by first | rfl | simp only [pk_mul, nI_add]) (⟨by omega, by decide⟩) ?_
      refine wp_iald 58 rfl dX10_termOf_57 (ms_variables hm) (j) (hv') (⟨by omega, by decide⟩) ?_
      refine wp_iast 59 rfl dX10_termOf_58 (ms_pile hm) (s.length) (by first | rfl | simp only [pk_mul, nI_add]) (⟨by omega, by decide⟩) ?_
      refine wp_iincN3 62 rfl dX10_termOf_59 (by decide) rfl ?_
      refine wp_goto 159 rfl dX10_termOf_62 ?_
      refine wp_iincN4 162 rfl dX10_termOf_159 (by decide) rfl ?_
      refine wp_goto 5 rfl dX10_termOf_162 ?_
      rw [hvs]
      have hrun : ex_run (I m_variables) ((1, nI j) :: r) s = ex_run (I m_variables) r (I m_variables j :: s) := by
        show ex_run (I m_variables) r (I m_variables (nI j).toNatClampNeg :: s) = _
        rw [nI_clamp (by omega)]
      rw [hrun]
      refine wp_weakK (ih (I m_variables j :: s) (c + 1) (sm_u I' m_pile s.length (I m_variables j)) (by omega) hb2 (by rw [List.length_cons]; omega) hw hat.tl (hf.tr (mf.u (by decide) (by decide))) (by rw [sm_u_eq]; exact hp.push _)) ⟨Or.inr rfl, Or.inr rfl, Or.inr rfl, Or.inr rfl, Or.inr rfl, Or.inl rfl, Or.inr rfl, Or.inr rfl, trivial⟩
    · obtain ⟨y, x, t, rfl⟩ : ∃ y x t, s = y :: x :: t := by
        match s, h2 with
        | y :: x :: t, _ => exact ⟨y, x, t, rfl⟩
      have hx : I' m_pile t.length = x := by
        have := hp 1 x rfl
        exact this
      have hy : I' m_pile (t.length + 1) = y := by
        have := hp 0 y rfl
        exact this
      rw [List.length_cons, List.length_cons] at hl
      have hw : ex_wf r (t.length + 1) := hw
      have hk2 : 2 ≤ k ∧ k < 6 := by omega
      show sm_V G xX10_termOf d 5 [.ref mM, .int (nI a), .int (nI b), .int (nI (t.length + 1 + 1)), .int (nI c), .retAddr 0, .retAddr 0, .retAddr 0] [] I' ρ _
      refine wp_iload4 7 rfl dX10_termOf_5 ?_
      refine wp_iload2 8 rfl dX10_termOf_7 ?_
      refine wp_icmp_ge 11 165 rfl rfl dX10_termOf_8 (fun c8 => absurd c8 (nI_ge (by omega) (by omega))) (fun c8 => ?_)
      refine wp_aload0 12 rfl dX10_termOf_11 ?_
      refine wp_getr 15 rfl dX10_termOf_12 fX10_104_10 (md_M hm) (mp_code hm) ?_
      refine wp_iload4 17 rfl dX10_termOf_15 ?_
      refine wp_iald 18 rfl dX10_termOf_17 (ms_code hm) (c) (by first | rfl | simp only [pk_mul, nI_add]) (⟨by omega, by decide⟩) ?_
      refine wp_istore5 20 rfl dX10_termOf_18 (by decide) rfl ?_
      refine wp_iload5 22 rfl dX10_termOf_20 ?_
      refine wp_iconst (nI 2) 23 rfl dX10_termOf_22 (by decide) ?_
      refine wp_icmp_ge 26 65 rfl rfl dX10_termOf_23 (fun c23 => ?_) (fun c23 => absurd (by rw [hk']; exact nI_le hk2.1 (by omega)) c23)
      refine wp_iinc3 68 rfl (-1) (by decide) dX10_termOf_65 (by decide) rfl ?_
      rw [pk_m1]
      refine wp_aload0 69 rfl dX10_termOf_68 ?_
      refine wp_getr 72 rfl dX10_termOf_69 fX10_116_10 (md_M hm) (mp_pile hm) ?_
      refine wp_iload3 73 rfl dX10_termOf_72 ?_
      refine wp_iconst (nI 1) 74 rfl dX10_termOf_73 (by decide) ?_
      refine wp_isub 75 rfl dX10_termOf_74 ?_
      refine wp_iald 76 rfl dX10_termOf_75 (ms_pile hm) (t.length) (by rw [pk_sub (by omega)]; rfl) (⟨by omega, by decide⟩) ?_
      refine wp_istore6 78 rfl dX10_termOf_76 (by decide) rfl ?_
      refine wp_aload0 79 rfl dX10_termOf_78 ?_
      refine wp_getr 82 rfl dX10_termOf_79 fX10_116_10 (md_M hm) (mp_pile hm) ?_
      refine wp_iload3 83 rfl dX10_termOf_82 ?_
      refine wp_iald 84 rfl dX10_termOf_83 (ms_pile hm) (t.length + 1) (by first | rfl | simp only [pk_mul, nI_add]) (⟨by omega, by decide⟩) ?_
      refine wp_istore7 86 rfl dX10_termOf_84 (by decide) rfl ?_
      rw [hx, hy]
      rcases hop with rfl | rfl | rfl | rfl
      · skip
        refine wp_iload5 88 rfl dX10_termOf_86 ?_
        refine wp_iconst (nI 5) 89 rfl dX10_termOf_88 (by decide) ?_
        refine wp_icmp_ne 92 104 rfl rfl dX10_termOf_89 (fun c89 => ?_) (fun c89 => absurd c89 (by rw [hk']; decide))
        refine wp_aload0 105 rfl dX10_termOf_104 ?_
        refine wp_getr 108 rfl dX10_termOf_105 fX10_116_10 (md_M hm) (mp_pile hm) ?_
        refine wp_iload3 109 rfl dX10_termOf_108 ?_
        refine wp_iconst (nI 1) 110 rfl dX10_termOf_109 (by decide) ?_
        refine wp_isub 111 rfl dX10_termOf_110 ?_
        refine wp_iload5 113 rfl dX10_termOf_111 ?_
        refine wp_iconst (nI 2) 114 rfl dX10_termOf_113 (by decide) ?_
        refine wp_icmp_ne 117 125 rfl rfl dX10_termOf_114 (fun c114 => absurd (hk') c114) (fun c114 => ?_)
        refine wp_iload6 119 rfl dX10_termOf_117 ?_
        refine wp_iload7 121 rfl dX10_termOf_119 ?_
        refine wp_iadd 122 rfl dX10_termOf_121 ?_
        refine wp_goto 158 rfl dX10_termOf_122 ?_
        refine wp_iast 159 rfl dX10_termOf_158 (ms_pile hm) (t.length) (by rw [pk_sub (by omega)]; rfl) (⟨by omega, by decide⟩) ?_
        refine wp_iincN4 162 rfl dX10_termOf_159 (by decide) rfl ?_
        refine wp_goto 5 rfl dX10_termOf_162 ?_
        have hrun : ex_run (I m_variables) ((2, v) :: r) (y :: x :: t) = ex_run (I m_variables) r ((x + y) :: t) := by
          show (if 2 = 5 ∧ y = 0 then none else ex_run (I m_variables) r (ex_op 2 x y :: t)) = _
          rw [if_neg (fun h => nomatch h.1)]
          rfl
        rw [hrun]
        refine wp_weakK (ih ((x + y) :: t) (c + 1) (sm_u I' m_pile t.length (x + y)) (by omega) hb2 (by rw [List.length_cons]; omega) hw hat.tl (hf.tr (mf.u (by decide) (by decide))) (by rw [sm_u_eq]; exact hp.two _)) ⟨Or.inr rfl, Or.inr rfl, Or.inr rfl, Or.inr rfl, Or.inr rfl, Or.inl rfl, Or.inl rfl, Or.inl rfl, trivial⟩
      · skip
        refine wp_iload5 88 rfl dX10_termOf_86 ?_
        refine wp_iconst (nI 5) 89 rfl dX10_termOf_88 (by decide) ?_
        refine wp_icmp_ne 92 104 rfl rfl dX10_termOf_89 (fun c89 => ?_) (fun c89 => absurd c89 (by rw [hk']; decide))
        refine wp_aload0 105 rfl dX10_termOf_104 ?_
        refine wp_getr 108 rfl dX10_termOf_105 fX10_116_10 (md_M hm) (mp_pile hm) ?_
        refine wp_iload3 109 rfl dX10_termOf_108 ?_
        refine wp_iconst (nI 1) 110 rfl dX10_termOf_109 (by decide) ?_
        refine wp_isub 111 rfl dX10_termOf_110 ?_
        refine wp_iload5 113 rfl dX10_termOf_111 ?_
        refine wp_iconst (nI 2) 114 rfl dX10_termOf_113 (by decide) ?_
        refine wp_icmp_ne 117 125 rfl rfl dX10_termOf_114 (fun c114 => ?_) (fun c114 => absurd c114 (by rw [hk']; decide))
        refine wp_iload5 127 rfl dX10_termOf_125 ?_
        refine wp_iconst (nI 3) 128 rfl dX10_termOf_127 (by decide) ?_
        refine wp_icmp_ne 131 139 rfl rfl dX10_termOf_128 (fun c128 => absurd (hk') c128) (fun c128 => ?_)
        refine wp_iload6 133 rfl dX10_termOf_131 ?_
        refine wp_iload7 135 rfl dX10_termOf_133 ?_
        refine wp_isub 136 rfl dX10_termOf_135 ?_
        refine wp_goto 158 rfl dX10_termOf_136 ?_
        refine wp_iast 159 rfl dX10_termOf_158 (ms_pile hm) (t.length) (by rw [pk_sub (by omega)]; rfl) (⟨by omega, by decide⟩) ?_
        refine wp_iincN4 162 rfl dX10_termOf_159 (by decide) rfl ?_
        refine wp_goto 5 rfl dX10_termOf_162 ?_
        have hrun : ex_run (I m_variables) ((3, v) :: r) (y :: x :: t) = ex_run (I m_variables) r ((x - y) :: t) := by
          show (if 3 = 5 ∧ y = 0 then none else ex_run (I m_variables) r (ex_op 3 x y :: t)) = _
          rw [if_neg (fun h => nomatch h.1)]
          rfl
        rw [hrun]
        refine wp_weakK (ih ((x - y) :: t) (c + 1) (sm_u I' m_pile t.length (x - y)) (by omega) hb2 (by rw [List.length_cons]; omega) hw hat.tl (hf.tr (mf.u (by decide) (by decide))) (by rw [sm_u_eq]; exact hp.two _)) ⟨Or.inr rfl, Or.inr rfl, Or.inr rfl, Or.inr rfl, Or.inr rfl, Or.inl rfl, Or.inl rfl, Or.inl rfl, trivial⟩
      · skip
        refine wp_iload5 88 rfl dX10_termOf_86 ?_
        refine wp_iconst (nI 5) 89 rfl dX10_termOf_88 (by decide) ?_
        refine wp_icmp_ne 92 104 rfl rfl dX10_termOf_89 (fun c89 => ?_) (fun c89 => absurd c89 (by rw [hk']; decide))
        refine wp_aload0 105 rfl dX10_termOf_104 ?_
        refine wp_getr 108 rfl dX10_termOf_105 fX10_116_10 (md_M hm) (mp_pile hm) ?_
        refine wp_iload3 109 rfl dX10_termOf_108 ?_
        refine wp_iconst (nI 1) 110 rfl dX10_termOf_109 (by decide) ?_
        refine wp_isub 111 rfl dX10_termOf_110 ?_
        refine wp_iload5 113 rfl dX10_termOf_111 ?_
        refine wp_iconst (nI 2) 114 rfl dX10_termOf_113 (by decide) ?_
        refine wp_icmp_ne 117 125 rfl rfl dX10_termOf_114 (fun c114 => ?_) (fun c114 => absurd c114 (by rw [hk']; decide))
        refine wp_iload5 127 rfl dX10_termOf_125 ?_
        refine wp_iconst (nI 3) 128 rfl dX10_termOf_127 (by decide) ?_
        refine wp_icmp_ne 131 139 rfl rfl dX10_termOf_128 (fun c128 => ?_) (fun c128 => absurd c128 (by rw [hk']; decide))
        refine wp_iload5 141 rfl dX10_termOf_139 ?_
        refine wp_iconst (nI 4) 142 rfl dX10_termOf_141 (by decide) ?_
        refine wp_icmp_ne 145 153 rfl rfl dX10_termOf_142 (fun c142 => absurd (hk') c142) (fun c142 => ?_)
        refine wp_iload6 147 rfl dX10_termOf_145 ?_
        refine wp_iload7 149 rfl dX10_termOf_147 ?_
        refine wp_imul 150 rfl dX10_termOf_149 ?_
        refine wp_goto 158 rfl dX10_termOf_150 ?_
        refine wp_iast 159 rfl dX10_termOf_158 (ms_pile hm) (t.length) (by rw [pk_sub (by omega)]; rfl) (⟨by omega, by decide⟩) ?_
        refine wp_iincN4 162 rfl dX10_termOf_159 (by decide) rfl ?_
        refine wp_goto 5 rfl dX10_termOf_162 ?_
        have hrun : ex_run (I m_variables) ((4, v) :: r) (y :: x :: t) = ex_run (I m_variables) r ((x * y) :: t) := by
          show (if 4 = 5 ∧ y = 0 then none else ex_run (I m_variables) r (ex_op 4 x y :: t)) = _
          rw [if_neg (fun h => nomatch h.1)]
          rfl
        rw [hrun]
        refine wp_weakK (ih ((x * y) :: t) (c + 1) (sm_u I' m_pile t.length (x * y)) (by omega) hb2 (by rw [List.length_cons]; omega) hw hat.tl (hf.tr (mf.u (by decide) (by decide))) (by rw [sm_u_eq]; exact hp.two _)) ⟨Or.inr rfl, Or.inr rfl, Or.inr rfl, Or.inr rfl, Or.inr rfl, Or.inl rfl, Or.inl rfl, Or.inl rfl, trivial⟩
      · by_cases hb0 : y = 0
        · refine wp_iload5 88 rfl dX10_termOf_86 ?_
          refine wp_iconst (nI 5) 89 rfl dX10_termOf_88 (by decide) ?_
          refine wp_icmp_ne 92 104 rfl rfl dX10_termOf_89 (fun c89 => absurd (hk') c89) (fun c89 => ?_)
          refine wp_iload7 94 rfl dX10_termOf_92 ?_
          refine wp_if_ne 97 104 rfl rfl dX10_termOf_94 (fun c94 => absurd (hb0) c94) (fun c94 => ?_)
          refine wp_aload0 98 rfl dX10_termOf_97 ?_
          refine wp_iconst (nI 1) 99 rfl dX10_termOf_98 (by decide) ?_
          refine wp_puti 102 rfl dX10_termOf_99 pX10_309_10 (md_M hm) (⟨rfl, rfl⟩) ?_
          refine wp_iconst (nI 0) 103 rfl dX10_termOf_102 (by decide) ?_
          refine wp_iret dX10_termOf_103 rfl ?_
          have hrun : ex_run (I m_variables) ((5, v) :: r) (y :: x :: t) = none := by
            show (if 5 = 5 ∧ y = 0 then none else ex_run (I m_variables) r (ex_op 5 x y :: t)) = _
            rw [if_pos ⟨rfl, hb0⟩]
          rw [hrun]
          refine ⟨_, rfl, rfl, (hf.wk (fun _ h => h) (fun _ h => nomatch h)).tr (mf.uM (by decide)), rfl, ?_⟩
          rw [sm_u_eq]
          exact pk_us
        · refine wp_iload5 88 rfl dX10_termOf_86 ?_
          refine wp_iconst (nI 5) 89 rfl dX10_termOf_88 (by decide) ?_
          refine wp_icmp_ne 92 104 rfl rfl dX10_termOf_89 (fun c89 => absurd (hk') c89) (fun c89 => ?_)
          refine wp_iload7 94 rfl dX10_termOf_92 ?_
          refine wp_if_ne 97 104 rfl rfl dX10_termOf_94 (fun c94 => ?_) (fun c94 => absurd c94 (hb0))
          refine wp_aload0 105 rfl dX10_termOf_104 ?_
          refine wp_getr 108 rfl dX10_termOf_105 fX10_116_10 (md_M hm) (mp_pile hm) ?_
          refine wp_iload3 109 rfl dX10_termOf_108 ?_
          refine wp_iconst (nI 1) 110 rfl dX10_termOf_109 (by decide) ?_
          refine wp_isub 111 rfl dX10_termOf_110 ?_
          refine wp_iload5 113 rfl dX10_termOf_111 ?_
          refine wp_iconst (nI 2) 114 rfl dX10_termOf_113 (by decide) ?_
          refine wp_icmp_ne 117 125 rfl rfl dX10_termOf_114 (fun c114 => ?_) (fun c114 => absurd c114 (by rw [hk']; decide))
          refine wp_iload5 127 rfl dX10_termOf_125 ?_
          refine wp_iconst (nI 3) 128 rfl dX10_termOf_127 (by decide) ?_
          refine wp_icmp_ne 131 139 rfl rfl dX10_termOf_128 (fun c128 => ?_) (fun c128 => absurd c128 (by rw [hk']; decide))
          refine wp_iload5 141 rfl dX10_termOf_139 ?_
          refine wp_iconst (nI 4) 142 rfl dX10_termOf_141 (by decide) ?_
          refine wp_icmp_ne 145 153 rfl rfl dX10_termOf_142 (fun c142 => ?_) (fun c142 => absurd c142 (by rw [hk']; decide))
          refine wp_iload6 155 rfl dX10_termOf_153 ?_
          refine wp_iload7 157 rfl dX10_termOf_155 ?_
          refine wp_idiv 158 rfl dX10_termOf_157 (hb0) ?_
          refine wp_iast 159 rfl dX10_termOf_158 (ms_pile hm) (t.length) (by rw [pk_sub (by omega)]; rfl) (⟨by omega, by decide⟩) ?_
          refine wp_iincN4 162 rfl dX10_termOf_159 (by decide) rfl ?_
          refine wp_goto 5 rfl dX10_termOf_162 ?_
          have hrun : ex_run (I m_variables) ((5, v) :: r) (y :: x :: t) = ex_run (I m_variables) r ((x / y) :: t) := by
            show (if 5 = 5 ∧ y = 0 then none else ex_run (I m_variables) r (ex_op 5 x y :: t)) = _
            rw [if_neg (fun h => hb0 h.2)]
            rfl
          rw [hrun]
          refine wp_weakK (ih ((x / y) :: t) (c + 1) (sm_u I' m_pile t.length (x / y)) (by omega) hb2 (by rw [List.length_cons]; omega) hw hat.tl (hf.tr (mf.u (by decide) (by decide))) (by rw [sm_u_eq]; exact hp.two _)) ⟨Or.inr rfl, Or.inr rfl, Or.inr rfl, Or.inr rfl, Or.inr rfl, Or.inl rfl, Or.inl rfl, Or.inl rfl, trivial⟩
theorem s_termOf (hm : md ρ) (a : Nat) (e : ex) (hb : a + e.length ≤ 840) (hl : e.length ≤ 400) (hw : ex_wf e 0) (hat : ex_at I a e) : sm_M G xX10_termOf d [.ref mM, .int (nI a), .int (nI (a + e.length))] I ρ (ex_end (I m_variables) I ρ (ex_run (I m_variables) e [])) := by
  show sm_V G xX10_termOf d 0 [.ref mM, .int (nI a), .int (nI (a + e.length)), .retAddr 0, .retAddr 0, .retAddr 0, .retAddr 0, .retAddr 0] [] I ρ _
  refine wp_iconst (nI 0) 1 rfl dX10_termOf_0 (by decide) ?_
  refine wp_istore3 2 rfl dX10_termOf_1 (by decide) rfl ?_
  refine wp_iload1 3 rfl dX10_termOf_2 ?_
  refine wp_istore4 5 rfl dX10_termOf_3 (by decide) rfl ?_
  exact tm_loop hm I a (a + e.length) e [] a I rfl hb (by simpa using hl) hw hat mf.rf (fun j v h => by simp at h)
end M3
