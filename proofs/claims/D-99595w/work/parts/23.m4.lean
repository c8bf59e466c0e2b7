/-! ===== laws ===== -/
set_option maxRecDepth 100000
abbrev lwt : Type := List (ex × ex × ex)
def lw_ev (vs : Nat → Int32) : lwt → ex → Option Int32
  | [], e => ex_ev vs e
  | (u, v, w) :: r, e => match ex_ev vs u with
    | none => none
    | some a => match ex_ev vs v with
      | none => none
      | some b => if a < b then ex_ev vs w else lw_ev vs r e
def ex_ok (lo hi : Nat) (I : sm_I) (p : Nat) (e : ex) : Prop := p + e.length ≤ 840 ∧ (e.length ≤ 400 ∧ lo ≤ p ∧ p + e.length ≤ hi) ∧ ex_wf e 0 ∧ ex_at I p e
def lw_at2 (lo hi : Nat) (I : sm_I) : lwt → ex → Nat → Prop
  | [], e, b => I m_hasTest b = nI 0 ∧ ∃ p, I m_testTo b = nI p ∧ I m_termTo b = nI (p + e.length) ∧ ex_ok lo hi I p e
  | (u, v, w) :: r, e, b => I m_hasTest b = nI 1 ∧ (∃ p, I m_testFrom b = nI p ∧ I m_testMid b = nI (p + u.length) ∧ I m_testTo b = nI (p + u.length + v.length) ∧ I m_termTo b = nI (p + u.length + v.length + w.length) ∧ ex_ok lo hi I p u ∧ ex_ok lo hi I (p + u.length) v ∧ ex_ok lo hi I (p + u.length + v.length) w) ∧ lw_at2 lo hi I r e (b + 1)
/-- the law at a place, if one is told -/
def lw_is (I : sm_I) (at_ : Nat) (L : Option (lwt × ex)) : Prop := match L with
  | none => I m_lawFirst at_ = I m_lawLast at_
  | some (ts, e) => ∃ b : Nat, I m_lawFirst at_ = nI b ∧ I m_lawLast at_ = nI (b + ts.length + 1) ∧ (b + ts.length + 1 ≤ 260 ∧ 130 * (at_ / 3) ≤ b ∧ b + ts.length + 1 ≤ 130 * (at_ / 3) + 130) ∧ lw_at2 (420 * (at_ / 3)) (420 * (at_ / 3) + 420) I ts e b
def lw_val (vs : Nat → Int32) (L : Option (lwt × ex)) (plain : Int32) : Int32 := match L with
  | none => plain
  | some (ts, e) => (lw_ev vs ts e).getD 0
/-- of what laws are made of nothing has changed -/
def lw_kept (I I' : sm_I) : Prop := I' m_code = I m_code ∧ I' m_codeInt = I m_codeInt ∧ I' m_hasTest = I m_hasTest ∧ I' m_testFrom = I m_testFrom ∧ I' m_testMid = I m_testMid ∧ I' m_testTo = I m_testTo ∧ I' m_termTo = I m_termTo ∧ I' m_lawFirst = I m_lawFirst ∧ I' m_lawLast = I m_lawLast
theorem lw_kept.of {A F : List Nat} {I I' : sm_I} (h : mf A F I I') (hA : m_code ∉ A ∧ m_codeInt ∉ A ∧ m_hasTest ∉ A ∧ m_testFrom ∉ A ∧ m_testMid ∉ A ∧ m_testTo ∉ A ∧ m_termTo ∉ A ∧ m_lawFirst ∉ A ∧ m_lawLast ∉ A) : lw_kept I I' :=
  ⟨h.1 _ hA.1 (by decide), h.1 _ hA.2.1 (by decide), h.1 _ hA.2.2.1 (by decide), h.1 _ hA.2.2.2.1 (by decide), h.1 _ hA.2.2.2.2.1 (by decide), h.1 _ hA.2.2.2.2.2.1 (by decide), h.1 _ hA.2.2.2.2.2.2.1 (by decide), h.1 _ hA.2.2.2.2.2.2.2.1 (by decide), h.1 _ hA.2.2.2.2.2.2.2.2 (by decide)⟩
theorem ex_ok.kept {lo hi : Nat} {I I' : sm_I} (h : lw_kept I I') {p : Nat} {e : ex} (hk : ex_ok lo hi I p e) : ex_ok lo hi I' p e := ⟨hk.1, hk.2.1, hk.2.2.1, fun i k v hi => by rw [h.1, h.2.1]; exact hk.2.2.2 i k v hi⟩
theorem lw_at2.kept {lo hi : Nat} {I I' : sm_I} (h : lw_kept I I') {e : ex} : ∀ {ts : lwt} {b : Nat}, lw_at2 lo hi I ts e b → lw_at2 lo hi I' ts e b
  | [], b, hk => by
    obtain ⟨h1, p, h2, h3, h4⟩ := hk
    exact ⟨by rw [h.2.2.1]; exact h1, p, by rw [h.2.2.2.2.2.1]; exact h2, by rw [h.2.2.2.2.2.2.1]; exact h3, h4.kept h⟩
  | (u, v, w) :: r, b, hk => by
    obtain ⟨h1, ⟨p, h2, h3, h4, h5, h6, h7, h8⟩, h9⟩ := hk
    exact ⟨by rw [h.2.2.1]; exact h1, ⟨p, by rw [h.2.2.2.1]; exact h2, by rw [h.2.2.2.2.1]; exact h3, by rw [h.2.2.2.2.2.1]; exact h4, by rw [h.2.2.2.2.2.2.1]; exact h5, h6.kept h, h7.kept h, h8.kept h⟩, lw_at2.kept h h9⟩
theorem lw_is.kept {I I' : sm_I} (h : lw_kept I I') {a : Nat} {L : Option (lwt × ex)} (hk : lw_is I a L) : lw_is I' a L := by
  unfold lw_is at *
  match L, hk with
  | none, hk => rw [h.2.2.2.2.2.2.2.1, h.2.2.2.2.2.2.2.2]; exact hk
  | some (ts, e), hk =>
    obtain ⟨b, h1, h2, h3, h4⟩ := hk
    exact ⟨b, by rw [h.2.2.2.2.2.2.2.1]; exact h1, by rw [h.2.2.2.2.2.2.2.2]; exact h2, h3, h4.kept h⟩
section M4
variable {G : sm_G} {d : Nat} {I : sm_I} {ρ : sm_R}
theorem z_h1 {p : Prop} [Decidable p] (h : p) : (if p then (1 : Int32) else 0) = 1 := if_pos h
theorem s_term1 (hm : md ρ) (I I' : sm_I) (hf : mf [m_pile] [50] I I') (hk : lw_kept I I') (p : Nat) (e : ex) (x y : Int32) (hx : x = nI p) (hy : y = nI (p + e.length)) {lo hi : Nat} (ho : ex_ok lo hi I p e) : sm_M G xX10_termOf d [.ref mM, .int x, .int y] I' ρ (sm_Qi (fun r I1 ρ1 => ρ1 = ρ ∧ mf [m_pile] [50] I I1 ∧ r = (ex_ev (I m_variables) e).getD 0 ∧ I1 mM 50 = if (ex_ev (I m_variables) e).isSome then I' mM 50 else nI 1)) := by
  subst hx
  subst hy
  have ho' := ho.kept hk
  have hv : I' m_variables = I m_variables := hf.1 _ (by decide) (by decide)
  refine sm_V.mono (s_termOf hm p e ho'.1 ho'.2.1.1 ho'.2.2.1 ho'.2.2.2) ?_
  rintro o I1 ρ1 ⟨r, rfl, rfl, h2, h3, h4⟩
  rw [hv] at h3 h4
  refine ⟨r, rfl, rfl, hf.tr h2, h3, ?_⟩
  rw [h4]
  unfold ex_ev
  cases ex_run (I m_variables) e [] <;> rfl
theorem lt_loop (hm : md ρ) {lo hi : Nat} (I : sm_I) (k pl at_ : Nat) (x2 : Int32) (e : ex) : ∀ (ts : lwt) (b : Nat) (I' : sm_I), at_ < 6 → b + ts.length + 1 ≤ 260 → I m_lawLast at_ = nI (b + ts.length + 1) → lw_at2 lo hi I ts e b → mf [m_pile] [50] I I' → lw_kept I I' → I' mM 50 = nI 0 →
    sm_V G xX10_lawTells (d + 1) 39 [.ref mM, .int (nI k), .int x2, .int (nI at_), .int (nI b), .retAddr 0, .retAddr 0] [] I' ρ (sm_Qi (fun r I1 ρ1 => ρ1 = ρ ∧ mf [m_pile] [50] I I1 ∧ r = (lw_ev (I m_variables) ts e).getD 0)) := by
  intro ts
  induction ts with
  | nil =>
    intro b I' ha hb hll hat hf hk h50
    obtain ⟨h1, p, h2, h3, h4⟩ := hat
    have h1' : I' m_hasTest b = nI 0 := by rw [hk.2.2.1]; exact h1
    have hll' : I' m_lawLast at_ = nI (b + 1) := by rw [hk.2.2.2.2.2.2.2.2]; exact hll
    have hb : b + 1 ≤ 260 := hb
    refine wp_iload4 41 rfl dX10_lawTells_39 ?_
    refine wp_aload0 42 rfl dX10_lawTells_41 ?_
    refine wp_getr 45 rfl dX10_lawTells_42 fX10_85_10 (md_M hm) (mp_lawLast hm) ?_
    refine wp_iload3 46 rfl dX10_lawTells_45 ?_
    refine wp_iald 47 rfl dX10_lawTells_46 (ms_lawLast hm) (at_) (by first | rfl | simp only [pk_mul, nI_add]) (⟨by omega, by decide⟩) ?_
    refine wp_icmp_ge 50 159 rfl rfl dX10_lawTells_47 (fun c47 => absurd c47 (by rw [hll']; exact nI_ge (by omega) (by omega))) (fun c47 => ?_)
    refine wp_aload0 51 rfl dX10_lawTells_50 ?_
    refine wp_getr 54 rfl dX10_lawTells_51 fX10_88_10 (md_M hm) (mp_hasTest hm) ?_
    refine wp_iload4 56 rfl dX10_lawTells_54 ?_
    refine wp_zald 57 rfl dX10_lawTells_56 (ms_hasTest hm) (b) (by first | rfl | simp only [pk_mul, nI_add]) (⟨by omega, by decide⟩) ?_
    refine wp_if_eq 60 119 rfl rfl dX10_lawTells_57 (fun c57 => ?_) (fun c57 => absurd (h1') c57)
    refine wp_aload0 120 rfl dX10_lawTells_119 ?_
    refine wp_aload0 121 rfl dX10_lawTells_120 ?_
    refine wp_getr 124 rfl dX10_lawTells_121 fX10_98_10 (md_M hm) (mp_testTo hm) ?_
    refine wp_iload4 126 rfl dX10_lawTells_124 ?_
    refine wp_iald 127 rfl dX10_lawTells_126 (ms_testTo hm) (b) (by first | rfl | simp only [pk_mul, nI_add]) (⟨by omega, by decide⟩) ?_
    refine wp_aload0 128 rfl dX10_lawTells_127 ?_
    refine wp_getr 131 rfl dX10_lawTells_128 fX10_101_10 (md_M hm) (mp_termTo hm) ?_
    refine wp_iload4 133 rfl dX10_lawTells_131 ?_
    refine wp_iald 134 rfl dX10_lawTells_133 (ms_termTo hm) (b) (by first | rfl | simp only [pk_mul, nI_add]) (⟨by omega, by decide⟩) ?_
    refine wp_Vi2 137 rfl dX10_lawTells_134 kX10_termOf lX10_345 (md_M hm) (nl rfl) (nl rfl) (s_term1 hm I I' hf hk p e _ _ (by rw [hk.2.2.2.2.2.1]; exact h2) (by rw [hk.2.2.2.2.2.2.1]; exact h3) h4) (fun r I1 ρ1 hq => ?_)
    refine wp_istore5 139 rfl dX10_lawTells_137 (by decide) rfl ?_
    obtain ⟨rfl, hf1, hr, h5⟩ := hq
    subst hr
    rw [h50] at h5
    have e1 : lw_ev (I m_variables) [] e = ex_ev (I m_variables) e := rfl
    rw [e1]
    cases hx : ex_ev (I m_variables) e with
    | none =>
      rw [hx] at h5
      refine wp_aload0 140 rfl dX10_lawTells_139 ?_
      refine wp_geti 143 rfl dX10_lawTells_140 fX10_309_10 (md_M hm) ?_
      refine wp_if_eq 146 150 rfl rfl dX10_lawTells_143 (fun c143 => absurd c143 (by rw [h5]; decide)) (fun c143 => ?_)
      refine wp_iconst (nI 0) 147 rfl dX10_lawTells_146 (by decide) ?_
      refine wp_goto 152 rfl dX10_lawTells_147 ?_
      refine wp_iret dX10_lawTells_152 rfl ?_
      exact ⟨_, rfl, rfl, hf1, rfl⟩
    | some v =>
      rw [hx] at h5
      refine wp_aload0 140 rfl dX10_lawTells_139 ?_
      refine wp_geti 143 rfl dX10_lawTells_140 fX10_309_10 (md_M hm) ?_
      refine wp_if_eq 146 150 rfl rfl dX10_lawTells_143 (fun c143 => ?_) (fun c143 => absurd (by rw [h5]; rfl) c143)
      refine wp_iload5 152 rfl dX10_lawTells_150 ?_
      refine wp_iret dX10_lawTells_152 rfl ?_
      exact ⟨_, rfl, rfl, hf1, rfl⟩
  | cons t ts ih =>
    intro b I' ha hb hll hat hf hk h50
    obtain ⟨u, v, w⟩ := t
    obtain ⟨h1, ⟨p, h2, h3, h4, h5, o1, o2, o3⟩, hat⟩ := hat
    rw [List.length_cons] at hb hll
    have h1' : I' m_hasTest b = nI 1 := by rw [hk.2.2.1]; exact h1
    have hll' : I' m_lawLast at_ = nI (b + (ts.length + 1) + 1) := by rw [hk.2.2.2.2.2.2.2.2]; exact hll
    refine wp_iload4 41 rfl dX10_lawTells_39 ?_
    refine wp_aload0 42 rfl dX10_lawTells_41 ?_
    refine wp_getr 45 rfl dX10_lawTells_42 fX10_85_10 (md_M hm) (mp_lawLast hm) ?_
    refine wp_iload3 46 rfl dX10_lawTells_45 ?_
    refine wp_iald 47 rfl dX10_lawTells_46 (ms_lawLast hm) (at_) (by first | rfl | simp only [pk_mul, nI_add]) (⟨by omega, by decide⟩) ?_
    refine wp_icmp_ge 50 159 rfl rfl dX10_lawTells_47 (fun c47 => absurd c47 (by rw [hll']; exact nI_ge (by omega) (by omega))) (fun c47 => ?_)
    refine wp_aload0 51 rfl dX10_lawTells_50 ?_
    refine wp_getr 54 rfl dX10_lawTells_51 fX10_88_10 (md_M hm) (mp_hasTest hm) ?_
    refine wp_iload4 56 rfl dX10_lawTells_54 ?_
    refine wp_zald 57 rfl dX10_lawTells_56 (ms_hasTest hm) (b) (by first | rfl | simp only [pk_mul, nI_add]) (⟨by omega, by decide⟩) ?_
    refine wp_if_eq 60 119 rfl rfl dX10_lawTells_57 (fun c57 => absurd c57 (by rw [h1']; decide)) (fun c57 => ?_)
    refine wp_aload0 61 rfl dX10_lawTells_60 ?_
    refine wp_aload0 62 rfl dX10_lawTells_61 ?_
    refine wp_getr 65 rfl dX10_lawTells_62 fX10_92_10 (md_M hm) (mp_testFrom hm) ?_
    refine wp_iload4 67 rfl dX10_lawTells_65 ?_
    refine wp_iald 68 rfl dX10_lawTells_67 (ms_testFrom hm) (b) (by first | rfl | simp only [pk_mul, nI_add]) (⟨by omega, by decide⟩) ?_
    refine wp_aload0 69 rfl dX10_lawTells_68 ?_
    refine wp_getr 72 rfl dX10_lawTells_69 fX10_95_10 (md_M hm) (mp_testMid hm) ?_
    refine wp_iload4 74 rfl dX10_lawTells_72 ?_
    refine wp_iald 75 rfl dX10_lawTells_74 (ms_testMid hm) (b) (by first | rfl | simp only [pk_mul, nI_add]) (⟨by omega, by decide⟩) ?_
    refine wp_Vi2 78 rfl dX10_lawTells_75 kX10_termOf lX10_345 (md_M hm) (nl rfl) (nl rfl) (s_term1 hm I I' hf hk p u _ _ (by rw [hk.2.2.2.1]; exact h2) (by rw [hk.2.2.2.2.1]; exact h3) o1) (fun r I1 ρ1 hq => ?_)
    obtain ⟨rfl, hf1, rfl, h6⟩ := hq
    have hk1 := lw_kept.of hf1 (by decide)
    refine wp_istore5 80 rfl dX10_lawTells_78 (by decide) rfl ?_
    refine wp_aload0 81 rfl dX10_lawTells_80 ?_
    refine wp_aload0 82 rfl dX10_lawTells_81 ?_
    refine wp_getr 85 rfl dX10_lawTells_82 fX10_95_10 (md_M hm) (mp_testMid hm) ?_
    refine wp_iload4 87 rfl dX10_lawTells_85 ?_
    refine wp_iald 88 rfl dX10_lawTells_87 (ms_testMid hm) (b) (by first | rfl | simp only [pk_mul, nI_add]) (⟨by omega, by decide⟩) ?_
    refine wp_aload0 89 rfl dX10_lawTells_88 ?_
    refine wp_getr 92 rfl dX10_lawTells_89 fX10_98_10 (md_M hm) (mp_testTo hm) ?_
    refine wp_iload4 94 rfl dX10_lawTells_92 ?_
    refine wp_iald 95 rfl dX10_lawTells_94 (ms_testTo hm) (b) (by first | rfl | simp only [pk_mul, nI_add]) (⟨by omega, by decide⟩) ?_
    refine wp_Vi2 98 rfl dX10_lawTells_95 kX10_termOf lX10_345 (md_M hm) (nl rfl) (nl rfl) (s_term1 hm I I1 hf1 hk1 (p + u.length) v _ _ (by rw [hk1.2.2.2.2.1]; exact h3) (by rw [hk1.2.2.2.2.2.1]; exact h4) o2) (fun r I2 ρ2 hq => ?_)
    obtain ⟨rfl, hf2, rfl, h7⟩ := hq
    have hk2 := lw_kept.of hf2 (by decide)
    rw [h6, h50] at h7
    have e1 : lw_ev (I m_variables) ((u, v, w) :: ts) e = (match ex_ev (I m_variables) u with
      | none => none
      | some a => match ex_ev (I m_variables) v with
        | none => none
        | some b => if a < b then ex_ev (I m_variables) w else lw_ev (I m_variables) ts e) := rfl
    cases hu : ex_ev (I m_variables) u with
    | none =>
      have h8 : I2 mM 50 = nI 1 := by
        rw [h7, hu]
        cases ex_ev (I m_variables) v <;> rfl
      rw [e1, hu]
      refine wp_istore6 100 rfl dX10_lawTells_98 (by decide) rfl ?_
      refine wp_aload0 101 rfl dX10_lawTells_100 ?_
      refine wp_geti 104 rfl dX10_lawTells_101 fX10_309_10 (md_M hm) ?_
      refine wp_if_eq 107 109 rfl rfl dX10_lawTells_104 (fun c104 => absurd c104 (by rw [h8]; decide)) (fun c104 => ?_)
      refine wp_iconst (nI 0) 108 rfl dX10_lawTells_107 (by decide) ?_
      refine wp_iret dX10_lawTells_108 rfl ?_
      exact ⟨_, rfl, rfl, hf2, rfl⟩
    | some a =>
      cases hv : ex_ev (I m_variables) v with
      | none =>
        rw [hv] at h7
        have h8 : I2 mM 50 = nI 1 := h7
        rw [e1, hu, hv]
        refine wp_istore6 100 rfl dX10_lawTells_98 (by decide) rfl ?_
        refine wp_aload0 101 rfl dX10_lawTells_100 ?_
        refine wp_geti 104 rfl dX10_lawTells_101 fX10_309_10 (md_M hm) ?_
        refine wp_if_eq 107 109 rfl rfl dX10_lawTells_104 (fun c104 => absurd c104 (by rw [h8]; decide)) (fun c104 => ?_)
        refine wp_iconst (nI 0) 108 rfl dX10_lawTells_107 (by decide) ?_
        refine wp_iret dX10_lawTells_108 rfl ?_
        exact ⟨_, rfl, rfl, hf2, rfl⟩
      | some c =>
        rw [hu, hv] at h7
        have h8 : I2 mM 50 = nI 0 := h7
        rw [e1, hu, hv]
        refine wp_istore6 100 rfl dX10_lawTells_98 (by decide) rfl ?_
        refine wp_aload0 101 rfl dX10_lawTells_100 ?_
        refine wp_geti 104 rfl dX10_lawTells_101 fX10_309_10 (md_M hm) ?_
        refine wp_if_eq 107 109 rfl rfl dX10_lawTells_104 (fun c104 => ?_) (fun c104 => absurd (by rw [h8]; rfl) c104)
        refine wp_iload5 111 rfl dX10_lawTells_109 ?_
        refine wp_iload6 113 rfl dX10_lawTells_111 ?_
        refine wp_icmp_lt 116 119 rfl rfl dX10_lawTells_113 (fun c113 => ?_) (fun c113 => ?_)
        · have hlt : a < c := c113
          show sm_V G _ _ _ _ _ _ _ (sm_Qi (fun r I1 ρ1 => ρ1 = _ ∧ mf [m_pile] [50] I I1 ∧ r = (if a < c then ex_ev (I m_variables) w else lw_ev (I m_variables) ts e).getD 0))
          rw [if_pos hlt]
          refine wp_aload0 120 rfl dX10_lawTells_119 ?_
          refine wp_aload0 121 rfl dX10_lawTells_120 ?_
          refine wp_getr 124 rfl dX10_lawTells_121 fX10_98_10 (md_M hm) (mp_testTo hm) ?_
          refine wp_iload4 126 rfl dX10_lawTells_124 ?_
          refine wp_iald 127 rfl dX10_lawTells_126 (ms_testTo hm) (b) (by first | rfl | simp only [pk_mul, nI_add]) (⟨by omega, by decide⟩) ?_
          refine wp_aload0 128 rfl dX10_lawTells_127 ?_
          refine wp_getr 131 rfl dX10_lawTells_128 fX10_101_10 (md_M hm) (mp_termTo hm) ?_
          refine wp_iload4 133 rfl dX10_lawTells_131 ?_
          refine wp_iald 134 rfl dX10_lawTells_133 (ms_termTo hm) (b) (by first | rfl | simp only [pk_mul, nI_add]) (⟨by omega, by decide⟩) ?_
          refine wp_Vi2 137 rfl dX10_lawTells_134 kX10_termOf lX10_345 (md_M hm) (nl rfl) (nl rfl) (s_term1 hm I I2 hf2 hk2 (p + u.length + v.length) w _ _ (by rw [hk2.2.2.2.2.2.1]; exact h4) (by rw [hk2.2.2.2.2.2.2.1]; exact h5) o3) (fun r I3 ρ3 hq => ?_)
          refine wp_istore5 139 rfl dX10_lawTells_137 (by decide) rfl ?_
          obtain ⟨rfl, hf3, hr, h9⟩ := hq
          subst hr
          rw [h8] at h9
          cases hx : ex_ev (I m_variables) w with
          | none =>
            rw [hx] at h9
            refine wp_aload0 140 rfl dX10_lawTells_139 ?_
            refine wp_geti 143 rfl dX10_lawTells_140 fX10_309_10 (md_M hm) ?_
            refine wp_if_eq 146 150 rfl rfl dX10_lawTells_143 (fun c143 => absurd c143 (by rw [h9]; decide)) (fun c143 => ?_)
            refine wp_iconst (nI 0) 147 rfl dX10_lawTells_146 (by decide) ?_
            refine wp_goto 152 rfl dX10_lawTells_147 ?_
            refine wp_iret dX10_lawTells_152 rfl ?_
            exact ⟨_, rfl, rfl, hf3, rfl⟩
          | some z =>
            rw [hx] at h9
            refine wp_aload0 140 rfl dX10_lawTells_139 ?_
            refine wp_geti 143 rfl dX10_lawTells_140 fX10_309_10 (md_M hm) ?_
            refine wp_if_eq 146 150 rfl rfl dX10_lawTells_143 (fun c143 => ?_) (fun c143 => absurd (by rw [h9]; rfl) c143)
            refine wp_iload5 152 rfl dX10_lawTells_150 ?_
            refine wp_iret dX10_lawTells_152 rfl ?_
            exact ⟨_, rfl, rfl, hf3, rfl⟩
        · have hlt : ¬ a < c := c113
          show sm_V G _ _ _ _ _ _ _ (sm_Qi (fun r I1 ρ1 => ρ1 = _ ∧ mf [m_pile] [50] I I1 ∧ r = (if a < c then ex_ev (I m_variables) w else lw_ev (I m_variables) ts e).getD 0))
          rw [if_neg hlt]
          refine wp_goto 153 rfl dX10_lawTells_116 ?_
          refine wp_iincN4 156 rfl dX10_lawTells_153 (by decide) rfl ?_
          refine wp_goto 39 rfl dX10_lawTells_156 ?_
          exact wp_weakK (ih (b + 1) I2 ha (by omega) (by rw [hll]; congr 1; omega) hat hf2 hk2 h8) ⟨Or.inr rfl, Or.inr rfl, Or.inr rfl, Or.inr rfl, Or.inr rfl, Or.inl rfl, Or.inl rfl, trivial⟩
theorem s_lawTells (hm : md ρ) (lv k : Nat) (plain : Int32) (L : Option (lwt × ex)) (hl : I mM 18 = nI lv) (hlv : lv < 2) (hk : k < 3) (hL : lw_is I (3 * lv + k) L) : sm_M G xX10_lawTells (d + 1) [.ref mM, .int (nI k), .int plain] I ρ (sm_Qi (fun r I1 ρ1 => ρ1 = ρ ∧ mf [m_pile] [50] I I1 ∧ r = lw_val (I m_variables) L plain)) := by
  show sm_V G xX10_lawTells (d + 1) 0 [.ref mM, .int (nI k), .int plain, .retAddr 0, .retAddr 0, .retAddr 0, .retAddr 0] [] I ρ _
  refine wp_iconst (nI 3) 1 rfl dX10_lawTells_0 (by decide) ?_
  refine wp_aload0 2 rfl dX10_lawTells_1 ?_
  refine wp_geti 5 rfl dX10_lawTells_2 fX10_233_10 (md_M hm) ?_
  refine wp_imul 6 rfl dX10_lawTells_5 ?_
  refine wp_iload1 7 rfl dX10_lawTells_6 ?_
  refine wp_iadd 8 rfl dX10_lawTells_7 ?_
  rw [hl, pk_mul, nI_add]
  refine wp_istore3 9 rfl dX10_lawTells_8 (by decide) rfl ?_
  refine wp_aload0 10 rfl dX10_lawTells_9 ?_
  refine wp_getr 13 rfl dX10_lawTells_10 fX10_82_10 (md_M hm) (mp_lawFirst hm) ?_
  refine wp_iload3 14 rfl dX10_lawTells_13 ?_
  refine wp_iald 15 rfl dX10_lawTells_14 (ms_lawFirst hm) (3 * lv + k) (by first | rfl | simp only [pk_mul, nI_add]) (⟨by omega, by decide⟩) ?_
  refine wp_aload0 16 rfl dX10_lawTells_15 ?_
  refine wp_getr 19 rfl dX10_lawTells_16 fX10_85_10 (md_M hm) (mp_lawLast hm) ?_
  refine wp_iload3 20 rfl dX10_lawTells_19 ?_
  refine wp_iald 21 rfl dX10_lawTells_20 (ms_lawLast hm) (3 * lv + k) (by first | rfl | simp only [pk_mul, nI_add]) (⟨by omega, by decide⟩) ?_
  match L, hL with
  | none, hL =>
    refine wp_icmp_ne 24 26 rfl rfl dX10_lawTells_21 (fun c21 => absurd (hL) c21) (fun c21 => ?_)
    refine wp_iload2 25 rfl dX10_lawTells_24 ?_
    refine wp_iret dX10_lawTells_25 rfl ?_
    exact ⟨_, rfl, rfl, mf.rf, rfl⟩
  | some (ts, e), hL =>
    obtain ⟨b, h1, h2, h3, h4⟩ := hL
    rw [h1, h2]
    refine wp_icmp_ne 24 26 rfl rfl dX10_lawTells_21 (fun c21 => ?_) (fun c21 => absurd c21 (fun h => by rw [nI_eq (by omega) (by omega)] at h; omega))
    refine wp_aload0 27 rfl dX10_lawTells_26 ?_
    refine wp_iconst (nI 0) 28 rfl dX10_lawTells_27 (by decide) ?_
    refine wp_puti 31 rfl dX10_lawTells_28 pX10_309_10 (md_M hm) (⟨rfl, rfl⟩) ?_
    have hf1 : mf [m_pile] [50] I (sm_u I mM 50 (nI 0)) := mf.uM (by decide)
    have hk1 := lw_kept.of hf1 (by decide)
    refine wp_aload0 32 rfl dX10_lawTells_31 ?_
    refine wp_getr 35 rfl dX10_lawTells_32 fX10_82_10 (md_M hm) (mp_lawFirst hm) ?_
    refine wp_iload3 36 rfl dX10_lawTells_35 ?_
    refine wp_iald 37 rfl dX10_lawTells_36 (ms_lawFirst hm) (3 * lv + k) (by first | rfl | simp only [pk_mul, nI_add]) (⟨by omega, by decide⟩) ?_
    rw [hk1.2.2.2.2.2.2.2.1, h1]
    refine wp_istore4 39 rfl dX10_lawTells_37 (by decide) rfl ?_
    exact lt_loop hm I k 0 (3 * lv + k) plain e ts b _ (by omega) h3.1 h2 h4 hf1 hk1 (by rw [sm_u_eq]; exact pk_us)
end M4
