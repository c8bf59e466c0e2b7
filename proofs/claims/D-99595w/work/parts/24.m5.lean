/-! ===== a text, as both sides know it; rows of numbers and what they come to ===== -/
set_option maxRecDepth 100000
/-- doors, callers, rounds; callers' faces (4 c + p); first faces (4 d + p); rounds: who, door, every, from; wind, near, seed; laws -/
abbrev tx : Type := (Nat × Nat × Nat) × (Nat → Int32) × (Nat → Int32) × (Nat → Nat × Nat × Int32 × Int32) × (Int32 × Int32 × Int32) × (Nat → Option (lwt × ex))
abbrev tx_D (T : tx) : Nat := T.1.1
abbrev tx_C (T : tx) : Nat := T.1.2.1
abbrev tx_R (T : tx) : Nat := T.1.2.2
abbrev tx_cf (T : tx) : Nat → Int32 := T.2.1
abbrev tx_ff (T : tx) : Nat → Int32 := T.2.2.1
abbrev tx_who (T : tx) (r : Nat) : Nat := (T.2.2.2.1 r).1
abbrev tx_door (T : tx) (r : Nat) : Nat := (T.2.2.2.1 r).2.1
abbrev tx_ev (T : tx) (r : Nat) : Int32 := (T.2.2.2.1 r).2.2.1
abbrev tx_fr (T : tx) (r : Nat) : Int32 := (T.2.2.2.1 r).2.2.2
abbrev tx_wind (T : tx) : Int32 := T.2.2.2.2.1.1
abbrev tx_near (T : tx) : Int32 := T.2.2.2.2.1.2.1
abbrev tx_seed (T : tx) : Int32 := T.2.2.2.2.1.2.2
abbrev tx_law (T : tx) : Nat → Option (lwt × ex) := T.2.2.2.2.2
/-- a law's terms are well formed -/
def lw_wf (L : Option (lwt × ex)) : Prop := ∀ ts e, L = some (ts, e) → ex_wf e 0 ∧ ∀ t ∈ ts, ex_wf t.1 0 ∧ ex_wf t.2.1 0 ∧ ex_wf t.2.2 0
/-- a text that was taken -/
def tok (T : tx) : Prop := (tx_D T ≤ 6 ∧ tx_C T ≤ 5 ∧ tx_R T ≤ 10) ∧ (∀ j, j < 4 * tx_C T → ∃ f, f ≤ 99 ∧ tx_cf T j = nI f) ∧ (∀ j, j < 4 * tx_D T → ∃ f, f ≤ 99 ∧ tx_ff T j = nI f) ∧
  (∀ r, r < tx_R T → tx_who T r < tx_C T ∧ tx_door T r < tx_D T ∧ (∃ e, 1 ≤ e ∧ e ≤ 30 ∧ tx_ev T r = nI e) ∧ ∃ f, f ≤ 29 ∧ tx_fr T r = nI f) ∧ (∃ n, n ≤ 396 ∧ tx_near T = nI n) ∧ ∀ k, k < 3 → lw_wf (tx_law T k)
/-- the model holds the text at its side lv -/
def mT (I : sm_I) (lv : Nat) (T : tx) : Prop := (I mM 18 = nI lv ∧ lv < 2) ∧ (I m_doors lv = nI (tx_D T) ∧ I m_callers lv = nI (tx_C T) ∧ I m_rounds lv = nI (tx_R T)) ∧ (∀ j, j < 4 * tx_C T → I m_faceOf (20 * lv + j) = tx_cf T j) ∧ (∀ j, j < 4 * tx_D T → I m_firstFace (24 * lv + j) = tx_ff T j) ∧
  (∀ r, r < tx_R T → I m_whoOf (10 * lv + r) = nI (tx_who T r) ∧ I m_doorOf (10 * lv + r) = nI (tx_door T r) ∧ I m_everyOf (10 * lv + r) = tx_ev T r ∧ I m_fromOf (10 * lv + r) = tx_fr T r) ∧ (I m_wind lv = tx_wind T ∧ I m_near lv = tx_near T ∧ I m_seed lv = tx_seed T) ∧ ∀ k, k < 3 → lw_is I (3 * lv + k) (tx_law T k)
/-- arrays that hold the text -/
def mt_A : List Nat := [m_doors, m_callers, m_rounds, m_faceOf, m_firstFace, m_whoOf, m_doorOf, m_everyOf, m_fromOf, m_wind, m_near, m_seed, m_code, m_codeInt, m_hasTest, m_testFrom, m_testMid, m_testTo, m_termTo, m_lawFirst, m_lawLast]
theorem mT.kept {A F : List Nat} {I I' : sm_I} {lv : Nat} {T : tx} (h : mT I lv T) (hf : mf A F I I') (hA : ∀ a ∈ mt_A, a ∉ A) (hF : 18 ∉ F) : mT I' lv T := by
  have e : ∀ a, a ∈ mt_A → a ≠ mM → I' a = I a := fun a ha hM => hf.1 a (hA a ha) hM
  obtain ⟨⟨h1, h1b⟩, ⟨h2, h3, h4⟩, h5, h6, h7, ⟨h8, h9, h10⟩, h11⟩ := h
  refine ⟨⟨by rw [hf.2 18 hF]; exact h1, h1b⟩, ⟨by rw [e _ (by decide) (by decide)]; exact h2, by rw [e _ (by decide) (by decide)]; exact h3, by rw [e _ (by decide) (by decide)]; exact h4⟩, fun j hj => by rw [e m_faceOf (by decide) (by decide)]; exact h5 j hj, fun j hj => by rw [e m_firstFace (by decide) (by decide)]; exact h6 j hj, fun r hr => ?_, ⟨by rw [e _ (by decide) (by decide)]; exact h8, by rw [e _ (by decide) (by decide)]; exact h9, by rw [e _ (by decide) (by decide)]; exact h10⟩, fun k hk => ?_⟩
  · rw [e m_whoOf (by decide) (by decide), e m_doorOf (by decide) (by decide), e m_everyOf (by decide) (by decide), e m_fromOf (by decide) (by decide)]
    exact h7 r hr
  · exact (h11 k hk).kept (lw_kept.of hf ⟨hA _ (by decide), hA _ (by decide), hA _ (by decide), hA _ (by decide), hA _ (by decide), hA _ (by decide), hA _ (by decide), hA _ (by decide), hA _ (by decide)⟩)
/-! what rows come to -/
def r_unl (T : tx) (w : Nat → Int32) (d c : Nat) : Int32 := z_sum (fun p => z_off (w (4 * d + p)) (tx_cf T (4 * c + p))) 4
def r_unf (T : tx) (w : Nat → Int32) (d : Nat) : Int32 := z_sum (fun p => z_off (w (4 * d + p)) (tx_ff T (4 * d + p))) 4
/-- the nine numbers -/
def r_var (w : Nat → Int32) (d : Nat) (ap pt fc un wh : Int32) : Nat → Int32 := fun j => if j = 0 then ap else if j = 1 then pt else if j = 2 then w (24 + d) else if j = 3 then w (30 + d) else if j = 4 then w 69 else if j = 5 then fc else if j = 6 then un else if j = 7 then wh else w (36 + d)
def r_gives (T : tx) (w : Nat → Int32) (d c p : Nat) : Int32 := z_within (lw_val (r_var w d (z_off (w (4 * d + p)) (tx_cf T (4 * c + p))) (nI p) (w (4 * d + p)) (r_unl T w d c) (nI c)) (tx_law T 0) (nI 1)) (nI 0) (z_off (w (4 * d + p)) (tx_cf T (4 * c + p)))
def r_pays (T : tx) (w : Nat → Int32) (d c : Nat) : Int32 := z_within (lw_val (r_var w d (nI 0) (nI 0) (nI 0) (r_unl T w d c) (nI c)) (tx_law T 2) (nI 1)) (nI 0) (nI 99)
def r_wears (T : tx) (w : Nat → Int32) (d p : Nat) : Int32 := z_within (lw_val (r_var w d (z_off (w (4 * d + p)) (tx_ff T (4 * d + p))) (nI p) (w (4 * d + p)) (r_unf T w d) (nI d)) (tx_law T 1) (nI 0)) (nI 0) (z_off (w (4 * d + p)) (tx_ff T (4 * d + p)))
theorem z_sum_congr {f g : Nat → Int32} : ∀ {n : Nat}, (∀ p, p < n → f p = g p) → z_sum f n = z_sum g n
  | 0, _ => rfl
  | n + 1, h => by
    show z_sum f n + f n = z_sum g n + g n
    rw [z_sum_congr (fun p hp => h p (by omega)), h n (by omega)]
theorem ex_run_congr {vs vs' : Nat → Int32} (h : ∀ j, j < 9 → vs j = vs' j) : ∀ (e : ex) (k : Nat) (s : List Int32), ex_wf e k → s.length = k → ex_run vs e s = ex_run vs' e s
  | [], _, _, _, _ => rfl
  | (c, v) :: r, k, s, hw, hs => by
    rcases hw with ⟨rfl, hw⟩ | ⟨rfl, ⟨j, hj, rfl⟩, hw⟩ | ⟨hc, h2, hw⟩
    · exact ex_run_congr h r (k + 1) (v :: s) hw (by rw [List.length_cons, hs])
    · show ex_run vs r (vs (nI j).toNatClampNeg :: s) = ex_run vs' r (vs' (nI j).toNatClampNeg :: s)
      rw [nI_clamp (by omega), h j hj]
      exact ex_run_congr h r (k + 1) _ hw (by rw [List.length_cons, hs])
    · match s, hs with
      | y :: x :: t, hs =>
        unfold ex_run
        rw [if_neg (by omega), if_neg (by omega), if_neg (by omega), if_neg (by omega)]
        by_cases h5 : c = 5 ∧ y = 0
        · simp only [h5, and_self, if_true]
        · simp only [h5, if_false]
          exact ex_run_congr h r (k - 1) _ hw (by simp only [List.length_cons] at hs ⊢; omega)
      | [], hs => simp only [List.length_nil] at hs; omega
      | [_], hs => simp only [List.length_cons, List.length_nil] at hs; omega
theorem ex_ev_congr {vs vs' : Nat → Int32} (h : ∀ j, j < 9 → vs j = vs' j) {e : ex} (hw : ex_wf e 0) : ex_ev vs e = ex_ev vs' e := by
  unfold ex_ev
  rw [ex_run_congr h e 0 [] hw rfl]
theorem lw_ev_congr {vs vs' : Nat → Int32} (h : ∀ j, j < 9 → vs j = vs' j) {e : ex} (he : ex_wf e 0) : ∀ (ts : lwt), (∀ t ∈ ts, ex_wf t.1 0 ∧ ex_wf t.2.1 0 ∧ ex_wf t.2.2 0) → lw_ev vs ts e = lw_ev vs' ts e
  | [], _ => ex_ev_congr h he
  | (u, v, w) :: r, ht => by
    obtain ⟨h1, h2, h3⟩ := ht (u, v, w) List.mem_cons_self
    unfold lw_ev
    rw [ex_ev_congr h h1, ex_ev_congr h h2, ex_ev_congr h h3, lw_ev_congr h he r (fun t ht' => ht t (List.mem_cons_of_mem _ ht'))]
theorem lw_val_congr {vs vs' : Nat → Int32} (h : ∀ j, j < 9 → vs j = vs' j) {L : Option (lwt × ex)} (hw : lw_wf L) (p : Int32) : lw_val vs L p = lw_val vs' L p := by
  match L, hw with
  | none, _ => rfl
  | some (ts, e), hw =>
    obtain ⟨h1, h2⟩ := hw ts e rfl
    show (lw_ev vs ts e).getD 0 = (lw_ev vs' ts e).getD 0
    rw [lw_ev_congr h h1 ts h2]
section M5
variable {G : sm_G} {d : Nat} {I : sm_I} {ρ : sm_R}
theorem u_to_r {lv : Nat} {T : tx} (h : mT I lv T) {dd c : Nat} (hc : c < tx_C T) : u_to I lv dd c = r_unl T (I m_row) dd c := z_sum_congr (fun p hp => by
  show z_off _ _ = z_off _ _
  rw [← h.2.2.1 (4 * c + p) (by omega), Nat.add_assoc])
theorem u_fi_r {lv : Nat} {T : tx} (h : mT I lv T) {dd : Nat} (hc : dd < tx_D T) : u_fi I lv dd = r_unf T (I m_row) dd := z_sum_congr (fun p hp => by
  show z_off _ _ = z_off _ _
  rw [← h.2.2.2.1 (4 * dd + p) (by omega), Nat.add_assoc])
theorem s_looks (hm : md ρ) (dd p : Nat) (hd : dd < 6) (hp : p < 4) : sm_M G xX10_looks d [.ref mM, .int (nI dd), .int (nI p)] I ρ (sm_Qv (fun I1 ρ1 => ρ1 = ρ ∧ ∃ f, I1 = sm_a I m_variables f ∧ f 1 = nI p ∧ f 2 = I m_row (24 + dd) ∧ f 3 = I m_row (30 + dd) ∧ f 4 = I m_row 69 ∧ f 5 = I m_row (4 * dd + p) ∧ f 8 = I m_row (36 + dd))) := by
  show sm_V G xX10_looks d 0 [.ref mM, .int (nI dd), .int (nI p)] [] I ρ _
  refine wp_aload0 1 rfl dX10_looks_0 ?_
  refine wp_getr 4 rfl dX10_looks_1 fX10_113_10 (md_M hm) (mp_variables hm) ?_
  refine wp_iconst (nI 1) 5 rfl dX10_looks_4 (by decide) ?_
  refine wp_iload2 6 rfl dX10_looks_5 ?_
  refine wp_iast 7 rfl dX10_looks_6 (ms_variables hm) (1) (by first | rfl | simp only [pk_mul, nI_add]) (⟨by omega, by decide⟩) ?_
  rw [sm_u_a]
  refine wp_aload0 8 rfl dX10_looks_7 ?_
  refine wp_getr 11 rfl dX10_looks_8 fX10_113_10 (md_M hm) (mp_variables hm) ?_
  refine wp_iconst (nI 2) 12 rfl dX10_looks_11 (by decide) ?_
  refine wp_aload0 13 rfl dX10_looks_12 ?_
  refine wp_getr 16 rfl dX10_looks_13 fX10_122_10 (md_M hm) (mp_row hm) ?_
  refine wp_bipush (nI 24) 18 rfl dX10_looks_16 (by decide) ?_
  refine wp_iload1 19 rfl dX10_looks_18 ?_
  refine wp_iadd 20 rfl dX10_looks_19 ?_
  refine wp_iald 21 rfl dX10_looks_20 (ms_row hm) (24 + dd) (by first | rfl | simp only [pk_mul, nI_add]) (⟨by omega, by decide⟩) ?_
  refine wp_iast 22 rfl dX10_looks_21 (ms_variables hm) (2) (by first | rfl | simp only [pk_mul, nI_add]) (⟨by omega, by decide⟩) ?_
  rw [sm_a_u]
  refine wp_aload0 23 rfl dX10_looks_22 ?_
  refine wp_getr 26 rfl dX10_looks_23 fX10_113_10 (md_M hm) (mp_variables hm) ?_
  refine wp_iconst (nI 3) 27 rfl dX10_looks_26 (by decide) ?_
  refine wp_aload0 28 rfl dX10_looks_27 ?_
  refine wp_getr 31 rfl dX10_looks_28 fX10_122_10 (md_M hm) (mp_row hm) ?_
  refine wp_bipush (nI 30) 33 rfl dX10_looks_31 (by decide) ?_
  refine wp_iload1 34 rfl dX10_looks_33 ?_
  refine wp_iadd 35 rfl dX10_looks_34 ?_
  refine wp_iald 36 rfl dX10_looks_35 (ms_row hm) (30 + dd) (by first | rfl | simp only [pk_mul, nI_add]) (⟨by omega, by decide⟩) ?_
  refine wp_iast 37 rfl dX10_looks_36 (ms_variables hm) (3) (by first | rfl | simp only [pk_mul, nI_add]) (⟨by omega, by decide⟩) ?_
  rw [sm_a_u]
  refine wp_aload0 38 rfl dX10_looks_37 ?_
  refine wp_getr 41 rfl dX10_looks_38 fX10_113_10 (md_M hm) (mp_variables hm) ?_
  refine wp_iconst (nI 4) 42 rfl dX10_looks_41 (by decide) ?_
  refine wp_aload0 43 rfl dX10_looks_42 ?_
  refine wp_getr 46 rfl dX10_looks_43 fX10_122_10 (md_M hm) (mp_row hm) ?_
  refine wp_bipush (nI 69) 48 rfl dX10_looks_46 (by decide) ?_
  refine wp_iald 49 rfl dX10_looks_48 (ms_row hm) (69) (by first | rfl | simp only [pk_mul, nI_add]) (⟨by omega, by decide⟩) ?_
  refine wp_iast 50 rfl dX10_looks_49 (ms_variables hm) (4) (by first | rfl | simp only [pk_mul, nI_add]) (⟨by omega, by decide⟩) ?_
  rw [sm_a_u]
  refine wp_aload0 51 rfl dX10_looks_50 ?_
  refine wp_getr 54 rfl dX10_looks_51 fX10_113_10 (md_M hm) (mp_variables hm) ?_
  refine wp_iconst (nI 5) 55 rfl dX10_looks_54 (by decide) ?_
  refine wp_aload0 56 rfl dX10_looks_55 ?_
  refine wp_getr 59 rfl dX10_looks_56 fX10_122_10 (md_M hm) (mp_row hm) ?_
  refine wp_iconst (nI 4) 60 rfl dX10_looks_59 (by decide) ?_
  refine wp_iload1 61 rfl dX10_looks_60 ?_
  refine wp_imul 62 rfl dX10_looks_61 ?_
  refine wp_iload2 63 rfl dX10_looks_62 ?_
  refine wp_iadd 64 rfl dX10_looks_63 ?_
  refine wp_iald 65 rfl dX10_looks_64 (ms_row hm) (4 * dd + p) (by first | rfl | simp only [pk_mul, nI_add]) (⟨by omega, by decide⟩) ?_
  refine wp_iast 66 rfl dX10_looks_65 (ms_variables hm) (5) (by first | rfl | simp only [pk_mul, nI_add]) (⟨by omega, by decide⟩) ?_
  rw [sm_a_u]
  refine wp_aload0 67 rfl dX10_looks_66 ?_
  refine wp_getr 70 rfl dX10_looks_67 fX10_113_10 (md_M hm) (mp_variables hm) ?_
  refine wp_bipush (nI 8) 72 rfl dX10_looks_70 (by decide) ?_
  refine wp_aload0 73 rfl dX10_looks_72 ?_
  refine wp_getr 76 rfl dX10_looks_73 fX10_122_10 (md_M hm) (mp_row hm) ?_
  refine wp_bipush (nI 36) 78 rfl dX10_looks_76 (by decide) ?_
  refine wp_iload1 79 rfl dX10_looks_78 ?_
  refine wp_iadd 80 rfl dX10_looks_79 ?_
  refine wp_iald 81 rfl dX10_looks_80 (ms_row hm) (36 + dd) (by first | rfl | simp only [pk_mul, nI_add]) (⟨by omega, by decide⟩) ?_
  refine wp_iast 82 rfl dX10_looks_81 (ms_variables hm) (8) (by first | rfl | simp only [pk_mul, nI_add]) (⟨by omega, by decide⟩) ?_
  refine wp_vret dX10_looks_82 rfl ?_
  rw [sm_a_u]
  exact ⟨rfl, rfl, _, rfl, rfl, rfl, rfl, rfl, rfl, rfl⟩
theorem s_givesOf (hm : md ρ) (lv : Nat) (T : tx) (hT : mT I lv T) (ht : tok T) (dd c p : Nat) (hd : dd < tx_D T) (hc : c < tx_C T) (hp : p < 4) : sm_M G xX10_givesOf (d + 2) [.ref mM, .int (nI dd), .int (nI c), .int (nI p)] I ρ (sm_Qi (fun r I1 ρ1 => ρ1 = ρ ∧ mf [m_variables, m_pile] [50] I I1 ∧ r = r_gives T (I m_row) dd c p)) := by
  show sm_V G xX10_givesOf (d + 2) 0 [.ref mM, .int (nI dd), .int (nI c), .int (nI p), .retAddr 0] [] I ρ _
  have hD6 := ht.1.1
  have hC5 := ht.1.2.1
  have hl := hT.1.1
  have hlv := hT.1.2
  refine wp_aload0 1 rfl dX10_givesOf_0 ?_
  refine wp_iload1 2 rfl dX10_givesOf_1 ?_
  refine wp_iload3 3 rfl dX10_givesOf_2 ?_
  refine wp_Vv2 6 rfl dX10_givesOf_3 kX10_looks lX10_348 (md_M hm) (nl rfl) (nl rfl) (s_looks hm dd p (by omega) hp) (fun I1 ρ1 hq => ?_)
  obtain ⟨rfl, f, rfl, f1, f2, f3, f4, f5, f8⟩ := hq
  refine wp_aload0 7 rfl dX10_givesOf_6 ?_
  refine wp_getr 10 rfl dX10_givesOf_7 fX10_122_10 (md_M hm) (mp_row hm) ?_
  refine wp_iconst (nI 4) 11 rfl dX10_givesOf_10 (by decide) ?_
  refine wp_iload1 12 rfl dX10_givesOf_11 ?_
  refine wp_imul 13 rfl dX10_givesOf_12 ?_
  refine wp_iload3 14 rfl dX10_givesOf_13 ?_
  refine wp_iadd 15 rfl dX10_givesOf_14 ?_
  refine wp_iald 16 rfl dX10_givesOf_15 (ms_row hm) (4 * dd + p) (by first | rfl | simp only [pk_mul, nI_add]) (⟨by omega, by decide⟩) ?_
  refine wp_aload0 17 rfl dX10_givesOf_16 ?_
  refine wp_iload2 18 rfl dX10_givesOf_17 ?_
  refine wp_iload3 19 rfl dX10_givesOf_18 ?_
  refine wp_Ve2 22 rfl dX10_givesOf_19 kX10_facePart lX10_333 (md_M hm) (nl rfl) (nl rfl) (s_facePart hm lv c p hl hlv (by omega) hp) ?_
  refine wp_Se2 25 rfl dX10_givesOf_22 kX10_off lX10_336 (nl rfl) (nl rfl) (s_off _ _) ?_
  refine wp_istore4 27 rfl dX10_givesOf_25 (by decide) rfl ?_
  refine wp_aload0 28 rfl dX10_givesOf_27 ?_
  refine wp_getr 31 rfl dX10_givesOf_28 fX10_113_10 (md_M hm) (mp_variables hm) ?_
  refine wp_iconst (nI 0) 32 rfl dX10_givesOf_31 (by decide) ?_
  refine wp_iload4 34 rfl dX10_givesOf_32 ?_
  have ecf : I m_faceOf (20 * lv + 4 * c + p) = tx_cf T (4 * c + p) := by rw [Nat.add_assoc]; exact hT.2.2.1 _ (by omega)
  have e1 : z_off (sm_a I m_variables f m_row (4 * dd + p)) (sm_a I m_variables f m_faceOf (20 * lv + 4 * c + p)) = z_off (I m_row (4 * dd + p)) (tx_cf T (4 * c + p)) := by rw [← ecf]; rfl
  rw [e1]
  refine wp_iast 35 rfl dX10_givesOf_34 (ms_variables hm) (0) (by first | rfl | simp only [pk_mul, nI_add]) (⟨by omega, by decide⟩) ?_
  refine wp_aload0 36 rfl dX10_givesOf_35 ?_
  refine wp_getr 39 rfl dX10_givesOf_36 fX10_113_10 (md_M hm) (mp_variables hm) ?_
  refine wp_bipush (nI 6) 41 rfl dX10_givesOf_39 (by decide) ?_
  refine wp_aload0 42 rfl dX10_givesOf_41 ?_
  refine wp_iload1 43 rfl dX10_givesOf_42 ?_
  refine wp_iload2 44 rfl dX10_givesOf_43 ?_
  refine wp_Ve2 47 rfl dX10_givesOf_44 kX10_unlikeTo lX10_342 (md_M hm) (nl rfl) (nl rfl) (s_unlikeTo hm lv dd c hl hlv (by omega) (by omega)) ?_
  rw [sm_a_u]
  have e2 : u_to (sm_a I m_variables (upd f 0 (z_off (I m_row (4 * dd + p)) (tx_cf T (4 * c + p))))) lv dd c = r_unl T (I m_row) dd c := by
    rw [← u_to_r hT hc]; rfl
  rw [e2]
  refine wp_iast 48 rfl dX10_givesOf_47 (ms_variables hm) (6) (by first | rfl | simp only [pk_mul, nI_add]) (⟨by omega, by decide⟩) ?_
  rw [sm_a_u]
  refine wp_aload0 49 rfl dX10_givesOf_48 ?_
  refine wp_getr 52 rfl dX10_givesOf_49 fX10_113_10 (md_M hm) (mp_variables hm) ?_
  refine wp_bipush (nI 7) 54 rfl dX10_givesOf_52 (by decide) ?_
  refine wp_iload2 55 rfl dX10_givesOf_54 ?_
  refine wp_iast 56 rfl dX10_givesOf_55 (ms_variables hm) (7) (by first | rfl | simp only [pk_mul, nI_add]) (⟨by omega, by decide⟩) ?_
  rw [sm_a_u]
  have hf1 : mf [m_variables, m_pile] [50] I (sm_a I m_variables (upd (upd (upd f 0 (z_off (I m_row (4 * dd + p)) (tx_cf T (4 * c + p)))) 6 (r_unl T (I m_row) dd c)) 7 (nI c))) := mf.a (by decide) (by decide)
  have hT1 := hT.kept hf1 (by decide) (by decide)
  refine wp_aload0 57 rfl dX10_givesOf_56 ?_
  refine wp_iconst (nI 0) 58 rfl dX10_givesOf_57 (by decide) ?_
  refine wp_iconst (nI 1) 59 rfl dX10_givesOf_58 (by decide) ?_
  refine wp_Vi2 62 rfl dX10_givesOf_59 kX10_lawTells lX10_351 (md_M hm) (nl rfl) (nl rfl) (s_lawTells hm lv 0 _ (tx_law T 0) hl hlv (by decide) (hT1.2.2.2.2.2.2 0 (by decide))) (fun r I2 ρ2 hq => ?_)
  obtain ⟨rfl, hf2, rfl⟩ := hq
  refine wp_iconst (nI 0) 63 rfl dX10_givesOf_62 (by decide) ?_
  refine wp_iload4 65 rfl dX10_givesOf_63 ?_
  refine wp_Se3 68 rfl dX10_givesOf_65 kX10_within lX10_354 (nl rfl) (nl rfl) (s_within _ _ _) ?_
  refine wp_iret dX10_givesOf_68 rfl ?_
  refine ⟨_, rfl, rfl, hf1.tr (hf2.wk (by decide) (by decide)), ?_⟩
  unfold r_gives
  rw [lw_val_congr (vs' := r_var (I m_row) dd (z_off (I m_row (4 * dd + p)) (tx_cf T (4 * c + p))) (nI p) (I m_row (4 * dd + p)) (r_unl T (I m_row) dd c) (nI c)) _ (ht.2.2.2.2.2 0 (by decide))]
  intro j hj
  rw [sm_a_eq]
  match j, hj with
  | 0, _ => rfl
  | 1, _ => exact f1
  | 2, _ => exact f2
  | 3, _ => exact f3
  | 4, _ => exact f4
  | 5, _ => exact f5
  | 6, _ => rfl
  | 7, _ => rfl
  | 8, _ => exact f8
  | n + 9, h => omega
end M5
