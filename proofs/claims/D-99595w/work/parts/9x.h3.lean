/-! ===== the component's parser: read ===== -/
set_option maxRecDepth 100000
/-- what is worst was told of a token that was passed -/
def wR : pR → Prop
  | .inl _ => True
  | .inr (t, w) => w.1 = 0 ∨ w.2 ≤ t
theorem wR.pass {r : pR} (h : wR r) : wR (g_pass r) := by
  match r, h with
  | .inl _, _ => exact trivial
  | .inr (t, w), h =>
    show wR (if t = 400 then .inl (2, t) else .inr (t + 1, w))
    split
    · exact trivial
    · rcases h with h | h
      · exact Or.inl h
      · exact Or.inr (by omega)
theorem wR.must {tk : tkf} {k : Nat} {r : pR} (h : wR r) : wR (g_must tk k r) := by
  match r, h with
  | .inl _, _ => exact trivial
  | .inr (t, w), h =>
    show wR (if (tk t).1 = k then g_pass (.inr (t, w)) else .inl (1, t))
    split
    · exact wR.pass h
    · exact trivial
theorem wR.tell {t n : Nat} {w : Nat × Nat} (h : wR (.inr (t, w))) : wR (.inr (t, g_tell w n t)) := by
  unfold g_tell
  split
  · exact h
  · exact Or.inr (Nat.le_refl t)
theorem wR.num {tk : tkf} {a b : Nat} {r : pR} (h : wR r) : wR (g_num tk a b r) := by
  match r, h with
  | .inl _, _ => exact trivial
  | .inr (t, w), h =>
    show wR (if (tk t).1 = 2 then g_pass (.inr (t, if (tk t).2.2.1 < a ∨ b < (tk t).2.2.1 then g_tell w 5 t else w)) else .inl (1, t))
    split
    · apply wR.pass
      split
      · exact h.tell
      · exact h
    · exact trivial
theorem wR.face {tk : tkf} {r : pR} (h : wR r) : ∀ n, wR (g_face tk n r)
  | 0 => h
  | n + 1 => (wR.face h n).num
theorem wR.named {tk : tkf} {N : List (Nat × Nat)} {r : pR} (h : wR r) : wR (g_named tk N r) := by
  match r, h with
  | .inl _, _ => exact trivial
  | .inr (t, w), h =>
    show wR (g_must tk 1 (.inr (t, if N.any (fun x => x.1 == (tk t).2.2.2) = true then g_tell w 3 t else w)))
    apply wR.must
    split
    · exact h.tell
    · exact h
theorem wR.known {tk : tkf} {N : List (Nat × Nat)} {k : Nat} {r : pR} (h : wR r) : wR (g_known tk N k r) := by
  match r, h with
  | .inl _, _ => exact trivial
  | .inr (t, w), h =>
    show wR (g_must tk 1 (.inr (t, if (g_find (tk t).2.2.2 k N).isSome = true then w else g_tell w 4 t)))
    apply wR.must
    split
    · exact h
    · exact h.tell
theorem wR.room {a b : Nat} {r : pR} (h : wR r) : wR (g_room a b r) := by
  unfold g_room
  apply wR.pass
  split
  · match r, h with
    | .inl _, _ => exact trivial
    | .inr (t, w), h => exact trivial
  · exact h
theorem wR.law {tk : tkf} {t : Nat} {w : Nat × Nat} (ht : t ≤ 400) (h : wR (.inr (t, w))) : wR (g_law tk (g_pass (.inr (t, w)))).1 := by
  generalize hg : (g_law tk (g_pass (.inr (t, w)))).1 = r
  cases r with
  | inl x => exact trivial
  | inr y =>
    obtain ⟨t1, w1⟩ := y
    obtain ⟨t2, e2, ok⟩ := g_ifs_ok tk 4 _ t1 w1 hg
    obtain ⟨t3, e3, m3, n3, n4⟩ := g_must_inv e2
    obtain ⟨t5, e5, n5, n6⟩ := g_pass_inv e3
    cases e5
    obtain ⟨l1, l2, l3, l4⟩ := ok (by omega)
    rcases h with h | h
    · exact Or.inl h
    · exact Or.inr (by omega)
theorem wR.one {tk : tkf} {t : Nat} {w : Nat × Nat} {B : rb} (ht : t ≤ 400) (h : wR (.inr (t, w))) : wR (g_one tk t w B).1 := by
  unfold g_one
  split
  · exact (((h.room).named).face 4).must
  split
  · exact (((h.room).named).face 4).must
  split
  · exact ((((h.room).known).known).num.num).must
  split
  · exact (h.pass.num).must
  split
  · exact (h.pass.num).must
  split
  · exact (h.pass.num).must
  split
  · exact (wR.law ht h).must
  · exact trivial
/-- how reading ends -/
def QL (I0 : sm_I) (ρ0 : sm_R) (lo : Nat) (P : Nat × (Nat → Int32)) (res : pR × rb) : sm_O → sm_I → sm_R → Prop := fun o I1 ρ1 => gF (oA lo) (oB lo) I0 ρ0 I1 ρ1 ∧ bud ρ0 0 ρ1 402 ∧ match res with
  | (.inl (m, j), _) => o = .inr 65 ∧ pft I1 (kt P) m j
  | (.inr (_, w), B) => if w.1 = 0 then o = .inl (some (.ref lo)) ∧ (∃ q nd nc, bT I1 ρ1 lo q nd nc B.1) ∧ tok B.1 else o = .inr 65 ∧ pft I1 (kt P) w.1 w.2
section H3
variable {G : sm_G} {D : Nat} {I I1 : sm_I} {ρ ρ1 : sm_R} {P : Nat × (Nat → Int32)} {lo : Nat} {I0 : sm_I} {ρ0 : sm_R} {r : pR} {R : pR × rb} {X : sm_X} {d pc b t1 : Nat} {lv : List Value}
theorem xN.outQ {q : Option Value → Prop} (hh : X.2.2.2.2.2 = []) (hK : kd ρ) (f : gF (oA lo) (oB lo) I0 ρ0 I ρ) (hb : bud ρ0 0 ρ t1) (ht : t1 ≤ 402) (h : xN I ρ (kt P) r q (.inr b) I1 ρ1) (hR : ∀ x, r = .inl x → ∃ B, R = (.inl x, B)) : sm_VX G X d pc lv b I1 ρ1 (QL I0 ρ0 lo P R) := by
  obtain ⟨e1, h2, e2, m, j, e3, h4⟩ := h.ex
  subst e1
  subst e2
  refine wp_out hh (o2 hK) ?_
  obtain ⟨B, e⟩ := hR _ e3
  rw [e]
  exact ⟨f.tr (h2.g (A := pA) (B := pNo) (fun a z => z)) (fun _ _ z => Or.inl z) (fun _ _ z => z.elim), hb.up ht, rfl, h4⟩
theorem xO.outQ {post : Option Value → sm_I → sm_R → Prop} (hh : X.2.2.2.2.2 = []) (hK : kd ρ) (hn : 879 ≤ ρ.2.2.2.1) (hlo : 943 ≤ lo) (f : gF (oA lo) (oB lo) I0 ρ0 I ρ) (hb : bud ρ0 0 ρ t1) (h : xO (oA lo) (oB lo) I ρ (kt P) t1 0 r post (.inr b) I1 ρ1) (hR : ∀ x, r = .inl x → ∃ B, R = (.inl x, B)) : sm_VX G X d pc lv b I1 ρ1 (QL I0 ρ0 lo P R) := by
  obtain ⟨h2, e2, m, j, e3, h4, h5⟩ := h.ex
  subst e2
  have hK1 : kd ρ1 := h2.kd hK (by omega) (fun a ha z => by have z : lo ≤ a := z; omega)
  refine wp_out hh (o2 hK1) ?_
  obtain ⟨B, e⟩ := hR _ e3
  rw [e]
  exact ⟨f.tr h2 (fun _ _ z => z) (fun _ _ z => z), hb.tr h5, rfl, h4⟩
theorem rd_cloop (hlo : 943 ≤ lo) : ∀ (f : Nat) (J : sm_I) (ρJ : sm_R) (q : bQ) (nd nc : Nat → Nat) (T' : tx) (t : Nat) (w : Nat × Nat) (B : rb), tS J ρJ P lo q nd nc T' B.2 t w → T'.1 = B.1.1 → (w.1 = 0 → T' = B.1) → (w.1 = 0 → tok B.1) → wR (.inr (t, w)) → 402 ≤ f + t → gF (oA lo) (oB lo) I0 ρ0 J ρJ → bud ρ0 0 ρJ t → sm_V G xX3_read (D + 29) 33 [.ref 73] [] J ρJ (QL I0 ρ0 lo P (g_all (kt P) f (.inr (t, w)) B)) := by
  intro f
  induction f with
  | zero =>
    intro J ρJ q nd nc T' t w B hS _ _ _ _ hf
    have := hS.2.1.1.1
    omega
  | succ f ih =>
    intro J ρJ q nd nc T' t w B hS hc h0 hk hw hf hF hb
    have hS0 := hS
    obtain ⟨hR, hp, ho, hl, hT, hN, m6, m5, m10⟩ := hS
    have hK := hR.1
    have h8 := hR.2.1
    have p4 := hp.1.1
    have hlt := ctS_lt (kt P t).1
    have eD : tx_D T' = tx_D B.1 := by unfold tx_D; rw [hc]
    have eC : tx_C T' = tx_C B.1 := by unfold tx_C; rw [hc]
    have eR : tx_R T' = tx_R B.1 := by unfold tx_R; rw [hc]
    have hNB : nmB B.2 (tx_D B.1) (tx_C B.1) nd nc := by rw [← eD, ← eC]; exact hN
    have hrel := one_rel (tk := kt P) (w := w) p4 hc h0 ⟨by omega, by omega, by omega⟩ hNB hk
    have hall : g_all (kt P) (f + 1) (.inr (t, w)) B = if (kt P t).1 = 0 then (.inr (t, w), B) else g_all (kt P) f (g_one (kt P) t w B).1 (g_one (kt P) t w B).2 := rfl
    by_cases h3 : (kt P t).1 = 3
    · have eg : g_one (kt P) t w B = (.inl (1, t), B) := by
        unfold g_one
        rw [if_neg (by omega), if_neg (by omega), if_neg (by omega), if_neg (by omega), if_neg (by omega), if_neg (by omega), if_neg (by omega)]
      rw [hall, if_neg (by omega), eg]
      refine wp_aload0 34 rfl dX3_read_33 ?_
      refine wp_Vx0 37 rfl dX3_read_34 kX3_sort lX3_65 (o4 hK) (nl rfl) (nl rfl) (s_psort hK hR.2.2.2 hp) (fun v J1 ρ1 z => ?_) (fun b J1 ρ1 z => z.outQ rfl hK hF hb (by omega) (fun x e => by rw [if_pos h3] at e; cases e; exact ⟨B, g_all_l f⟩))
      obtain ⟨-, -, t', w', e1, -⟩ := z.ok
      rw [if_pos h3] at e1
      cases e1
    · have hso := s_psort (G := G) (d := D + 25) hK hR.2.2.2 hp
      rw [if_neg h3] at hso
      refine wp_aload0 34 rfl dX3_read_33 ?_
      refine wp_Vx0 37 rfl dX3_read_34 kX3_sort lX3_65 (o4 hK) (nl rfl) (nl rfl) (hso) (fun v J1 ρ1 z => ?_) (fun b J1 ρ1 z => by obtain ⟨-, -, -, m, j, e, -⟩ := z.ex; cases e)
      obtain ⟨e0, j1, t', w', e1, p1, rfl⟩ := z.ok
      have e0 := e0.symm
      subst e0
      cases e1
      have hR1 := hR.P j1
      have f1 : gF pA pNo J ρJ J1 ρJ := j1.g (fun _ z => z)
      have hF1 : gF (oA lo) (oB lo) I0 ρ0 J1 ρJ := hF.tr f1 (fun _ _ z => Or.inl z) (fun _ _ z => z.elim)
      have hT1 : bT J1 ρJ lo q nd nc T' := hT.g f1 (fun x hx z => by unfold pA at z; omega) (fun _ _ z => z)
      have hS1 : tS J1 ρJ P lo q nd nc T' B.2 t w := ⟨hR1, p1, j1.2.trans ho, hl, hT1, hN, m6, m5, m10⟩
      show sm_V G xX3_read (D + 29) 37 [.ref 73] [.int (nI (ctS (kt P t).1))] J1 ρJ _
      by_cases hz : (kt P t).1 = 0
      · rw [hall, if_pos hz]
        have w5 := p1.2.2.1
        refine wp_iconst (nI 4) 38 rfl dX3_read_37 (by decide) ?_
        refine wp_icmp_eq 41 54 rfl rfl dX3_read_38 (fun c38 => ?_) (fun c38 => absurd (by rw [hz]; rfl) c38)
        refine wp_aload0 55 rfl dX3_read_54 ?_
        refine wp_geti 58 rfl dX3_read_55 fX3_38_4 (o4 hK) ?_
        rw [w5]
        by_cases hw0 : w.1 = 0
        · refine wp_if_eq 61 74 rfl rfl dX3_read_58 (fun c58 => ?_) (fun c58 => absurd (by rw [hw0]; rfl) c58)
          refine wp_aload0 75 rfl dX3_read_74 ?_
          refine wp_getr 78 rfl dX3_read_75 fX3_83_4 (o4 hK) (hl) ?_
          refine wp_aret dX3_read_78 rfl (Or.inl ⟨_, rfl⟩) ?_
          refine ⟨hF1, hb.up (by omega), ?_⟩
          show if w.1 = 0 then _ else _
          rw [if_pos hw0]
          refine ⟨rfl, ⟨q, nd, nc, ?_⟩, hk hw0⟩
          rw [← h0 hw0]
          exact hT1
        · have w6 := p1.2.2.2 hw0
          have hw2 : w.2 ≤ t := hw.resolve_left hw0
          have h5 := hp.1.2.2.1
          refine wp_if_eq 61 74 rfl rfl dX3_read_58 (fun c58 => absurd c58 (nI_ne0 (by omega) (by omega))) (fun c58 => ?_)
          refine wp_aload0 62 rfl dX3_read_61 ?_
          refine wp_aload0 63 rfl dX3_read_62 ?_
          refine wp_geti 66 rfl dX3_read_63 fX3_38_4 (o4 hK) ?_
          rw [w5]
          refine wp_aload0 67 rfl dX3_read_66 ?_
          refine wp_geti 70 rfl dX3_read_67 fX3_41_4 (o4 hK) ?_
          rw [w6]
          refine wp_Ve2 73 rfl dX3_read_70 kX3_wrongAt lX3_35 (o4 hK) (nl rfl) (nl rfl) (s_pwrongAt hK hR1.2.2.2 (by omega) (fun j hj => hp.1.2.1 j (by omega))) ?_
          refine wp_athrow dX3_read_73 ?_
          refine wp_out rfl (o2 hK) ⟨hF1.tr (M_f_J.g (A := pA) (B := pNo) (fun _ z => z)) (fun _ _ z => Or.inl z) (fun _ _ z => z.elim), hb.up (by omega), ?_⟩
          show if w.1 = 0 then _ else _
          rw [if_neg hw0]
          exact ⟨rfl, M_f_t⟩
      · rw [hall, if_neg hz]
        refine wp_iconst (nI 4) 38 rfl dX3_read_37 (by decide) ?_
        refine wp_icmp_eq 41 54 rfl rfl dX3_read_38 (fun c38 => absurd c38 (fun z => hz (ctS_4.mp ((nI_eq (by omega) (by decide)).mp z)))) (fun c38 => ?_)
        refine wp_aload0 42 rfl dX3_read_41 ?_
        refine wp_Vx0 45 rfl dX3_read_42 kX3_told lX3_102 (o4 hK) (nl rfl) (nl rfl) (s_ptold hS1) (fun v J2 ρ2 z => ?_) (fun b J2 ρ2 z => z.outQ rfl hK h8 hlo hF1 hb (fun x e => by have e2 := hrel.1; rw [e] at e2; rw [← e2]; exact ⟨_, g_all_l f⟩))
        obtain ⟨f2, t2, w2, e2, p2, o2', bd2, rfl, hl2, q2, nd2, nc2, hT2, hN2⟩ := z.ok
        have hR2 : rC J2 ρ2 P := hR1.g f2 (fun x hx z => z.resolve_right (by omega)) (fun x hx z => by have z : lo ≤ x := z; omega)
        have hK2 := hR2.1
        have hF2 : gF (oA lo) (oB lo) I0 ρ0 J2 ρ2 := hF1.tr f2 (fun _ _ z => z) (fun _ _ z => z)
        have hb2 : bud ρ0 0 ρ2 t2 := hb.tr bd2
        have t24 := p2.1.1
        have eg : g_must (kt P) 4 (.inr (t2, w2)) = (g_one (kt P) t w B).1 := by rw [← e2]; exact hrel.1
        refine wp_aload0 46 rfl dX3_read_45 ?_
        refine wp_bipush (nI 59) 48 rfl dX3_read_46 (by decide) ?_
        refine wp_Vx1 51 rfl dX3_read_48 kX3_sign lX3_105 (o4 hK2) (nl rfl) (nl rfl) (s_psign hK2 hR2.2.2.2 p2 4 59 (by decide) rfl (by decide)) (fun v J3 ρ3 z => ?_) (fun b J3 ρ3 z => z.outQ rfl hK2 hF2 hb2 (by omega) (fun x e => by rw [← eg, e]; exact ⟨_, g_all_l f⟩))
        obtain ⟨e0, j3, t3, w3, e3, p3, rfl⟩ := z.ok
        have e0 := e0.symm
        subst e0
        rw [eg] at e3
        obtain ⟨r1, r2, r3⟩ := hrel
        obtain ⟨c1, c2, ⟨c3, c4, c5⟩, c6⟩ := r3 t3 w3 e3
        have f3 : gF pA pNo J2 ρ2 J3 ρ2 := j3.g (fun _ z => z)
        have hw3 := hw.one (tk := kt P) (B := B) p4
        rw [e3] at hw3 ⊢
        have t23 : t2 ≤ t3 := by
          rw [← eg] at e3
          obtain ⟨t9, e9, -, q9, -⟩ := g_must_inv e3
          cases e9
          omega
        have hD2 : tx_D (h_one (kt P) t w T' B.2).2.1 = tx_D (g_one (kt P) t w B).2.1 := by unfold tx_D; rw [c2]
        have hC2 : tx_C (h_one (kt P) t w T' B.2).2.1 = tx_C (g_one (kt P) t w B).2.1 := by unfold tx_C; rw [c2]
        have hR2' : tx_R (h_one (kt P) t w T' B.2).2.1 = tx_R (g_one (kt P) t w B).2.1 := by unfold tx_R; rw [c2]
        show sm_V G xX3_read (D + 29) 51 [.ref 73] [] J3 ρ2 _
        refine wp_goto 33 rfl dX3_read_51 ?_
        exact ih J3 ρ2 q2 nd2 nc2 _ t3 w3 (g_one (kt P) t w B).2 ⟨hR2.P j3, p3, j3.2.trans o2', hl2, hT2.g f3 (fun x hx z => by unfold pA at z; omega) (fun _ _ z => z), by rw [← r2]; exact hN2, by omega, by omega, by omega⟩ c2 (fun z => (c6 z).1) (fun z => (c6 z).2) hw3 (by omega) (hF2.tr f3 (fun _ _ z => Or.inl z) (fun _ _ z => z.elim)) (hb2.up t23)
end H3
