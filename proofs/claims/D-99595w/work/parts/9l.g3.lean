/-! ===== the component's parser: how methods end; a law ===== -/
set_option maxRecDepth 100000
/-- how a method of the parser ends -/
def xO (A B : Nat → Prop) (I : sm_I) (ρ : sm_R) (tk : tkf) (t0 s : Nat) (r : pR) (post : Option Value → sm_I → sm_R → Prop) : sm_O → sm_I → sm_R → Prop := fun o I1 ρ1 => gF A B I ρ I1 ρ1 ∧ match r with
  | .inl (m, j) => o = .inr 65 ∧ pft I1 tk m j ∧ bud ρ t0 ρ1 (402 + s)
  | .inr (t, w) => ∃ v, o = .inl v ∧ pst I1 tk t w ∧ I1 73 4 = nI 0 ∧ bud ρ t0 ρ1 (t + s) ∧ post v I1 ρ1
section G3a
variable {A B : Nat → Prop} {I I1 : sm_I} {ρ ρ1 : sm_R} {tk : tkf} {t0 s : Nat} {r : pR} {post : Option Value → sm_I → sm_R → Prop}
theorem xO.ok {v : Option Value} (h : xO A B I ρ tk t0 s r post (.inl v) I1 ρ1) : gF A B I ρ I1 ρ1 ∧ ∃ t w, r = .inr (t, w) ∧ pst I1 tk t w ∧ I1 73 4 = nI 0 ∧ bud ρ t0 ρ1 (t + s) ∧ post v I1 ρ1 := by
  obtain ⟨h1, h3⟩ := h
  refine ⟨h1, ?_⟩
  match r, h3 with
  | .inl (m, j), h3 => cases h3.1
  | .inr (t, w), ⟨v', e, h4⟩ =>
    cases e
    exact ⟨t, w, rfl, h4⟩
theorem xO.ex {b : Nat} (h : xO A B I ρ tk t0 s r post (.inr b) I1 ρ1) : gF A B I ρ I1 ρ1 ∧ b = 65 ∧ ∃ m j, r = .inl (m, j) ∧ pft I1 tk m j ∧ bud ρ t0 ρ1 (402 + s) := by
  obtain ⟨h1, h3⟩ := h
  refine ⟨h1, ?_⟩
  match r, h3 with
  | .inl (m, j), h3 =>
    cases h3.1
    exact ⟨rfl, m, j, rfl, h3.2⟩
  | .inr (t, w), ⟨v', e, h4⟩ => cases e
variable {G : sm_G} {d : Nat} {X : sm_X} {pc b t1 : Nat} {lv : List Value} {I0 : sm_I} {ρ0 : sm_R} {R : pR}
theorem xN.outO {q : Option Value → Prop} (hh : X.2.2.2.2.2 = []) (hK : kd ρ) (f : gF A B I0 ρ0 I ρ) (hA : ∀ a, a < ρ0.2.2.2.1 + 64 → pA a → A a) (hb : bud ρ0 t0 ρ t1) (ht : t1 ≤ 402 + s) (h : xN I ρ tk r q (.inr b) I1 ρ1) (hR : ∀ x, r = .inl x → R = .inl x) : sm_VX G X d pc lv b I1 ρ1 (xO A B I0 ρ0 tk t0 s R post) := by
  obtain ⟨e1, h2, e2, m, j, e3, h4⟩ := h.ex
  subst e1
  subst e2
  refine wp_out hh (o2 hK) ?_
  rw [hR _ e3]
  exact ⟨f.tr (h2.g (A := pA) (B := pNo) (fun a z => z)) hA (fun _ _ z => z.elim), rfl, h4, hb.up ht⟩
theorem xE.outO {w' : Nat × Nat} {q : pE} (hh : X.2.2.2.2.2 = []) (hK : kd ρ) (hn : 879 ≤ ρ.2.2.2.1) (f : gF A B I0 ρ0 I ρ) (hA : ∀ a, a < ρ0.2.2.2.1 + 64 → pA a → A a) (hb : bud ρ0 t0 ρ (t1 + s)) (h : xE I ρ tk t1 w' q (.inr b) I1 ρ1) (hR : ∀ x, q = .inl x → R = .inl x) : sm_VX G X d pc lv b I1 ρ1 (xO A B I0 ρ0 tk t0 s R post) := by
  obtain ⟨h2, e2, m, j, e3, h4, h5⟩ := h.ex
  subst e2
  have hK1 : kd ρ1 := h2.kd hK (by omega) (fun _ _ z => z)
  refine wp_out hh (o2 hK1) ?_
  rw [hR _ e3]
  refine ⟨f.tr h2 hA (fun _ _ z => z.elim), rfl, h4, ?_⟩
  obtain ⟨a1, a2⟩ := hb
  obtain ⟨b1, b2⟩ := h5
  exact ⟨by omega, by omega⟩
theorem xO.outO {A' B' : Nat → Prop} {s' t2 : Nat} {post' : Option Value → sm_I → sm_R → Prop} (hh : X.2.2.2.2.2 = []) (hK : kd ρ) (hn : 879 ≤ ρ.2.2.2.1) (hB9 : ∀ a, a < 943 → ¬ B' a) (f : gF A B I0 ρ0 I ρ) (hA : ∀ a, a < ρ0.2.2.2.1 + 64 → A' a → A a) (hB : ∀ a, a < ρ0.2.2.2.1 + 64 → B' a → B a) (hb : bud ρ0 t0 ρ t2) (h9 : t2 + s' ≤ t1 + s) (h : xO A' B' I ρ tk t1 s' r post' (.inr b) I1 ρ1) (hR : ∀ x, r = .inl x → R = .inl x) : sm_VX G X d pc lv b I1 ρ1 (xO A B I0 ρ0 tk t0 s R post) := by
  obtain ⟨h2, e2, m, j, e3, h4, h5⟩ := h.ex
  subst e2
  have hK1 : kd ρ1 := h2.kd hK (by omega) hB9
  refine wp_out hh (o2 hK1) ?_
  rw [hR _ e3]
  refine ⟨f.tr h2 hA hB, rfl, h4, ?_⟩
  obtain ⟨a1, a2⟩ := hb
  obtain ⟨b1, b2⟩ := h5
  exact ⟨by omega, by omega⟩
end G3a
/-! a law -/
theorem sB.as {I : sm_I} {ρ : sm_R} {lo hi n a : Nat} {e : ex} (h : sB I ρ lo hi n a e) : ∃ tv, ρ.2.2.1 a = (tv, 0) ∧ sm_AS tv "KnockerFaces$Sum" := by
  cases n with
  | zero => exact h.elim
  | succ n =>
    rcases h.2 with h | h | h
    · exact ⟨12, h.1, _, _, _, rfl, by decide, by decide, Or.inr q2190⟩
    · exact ⟨13, h.1, _, _, _, rfl, by decide, by decide, Or.inr q2191⟩
    · exact ⟨14, h.1, _, _, _, rfl, by decide, by decide, Or.inr q2192⟩
/-- an array's place holds a sum's tree -/
def lQ (I : sm_I) (ρ : sm_R) (lo hi l k : Nat) (e : ex) : Prop := ∃ b, ρ.2.1 l k = some b ∧ sB I ρ lo hi 400 b e
theorem lQ.g {A B : Nat → Prop} {I I1 : sm_I} {ρ ρ1 : sm_R} {lo hi hi' l k : Nat} {e : ex} (h : lQ I ρ lo hi l k e) (f : gF A B I ρ I1 ρ1) (hl : l < ρ.2.2.2.1 + 64) (hk : ρ1.2.1 l k = ρ.2.1 l k) (hh : hi ≤ ρ.2.2.2.1 + 64) (h2 : hi ≤ hi') (hA : ∀ x, lo ≤ x → ¬ A x) (hB : ∀ x, lo ≤ x → ¬ B x) : lQ I1 ρ1 lo hi' l k e := by
  obtain ⟨b, h1, h3⟩ := h
  exact ⟨b, hk.trans h1, (h3.g f hh (fun x hx _ => hA x hx) (fun x hx _ => hB x hx)).wk (Nat.le_refl _) h2 (Nat.le_refl _)⟩
/-- a law's own cells: the object, its arrays behind it -/
def lb (ρ : sm_R) (a : Nat) : Prop := ρ.2.2.1 a = (11, 0) ∧ (ρ.2.1 a 0 = some (a + 1) ∧ ρ.2.1 a 1 = some (a + 2) ∧ ρ.2.1 a 2 = some (a + 3)) ∧ ρ.2.2.1 (a + 1) = (108, 4) ∧ ρ.2.2.1 (a + 2) = (108, 4) ∧ ρ.2.2.1 (a + 3) = (108, 5)
theorem lb.g {A B : Nat → Prop} {I I1 : sm_I} {ρ ρ1 : sm_R} {a : Nat} (h : lb ρ a) (f : gF A B I ρ I1 ρ1) (ha : a + 3 < ρ.2.2.2.1 + 64) (hB : ¬ B a) : lb ρ1 a := by
  unfold lb
  rw [f.eS (by omega), f.eS (by omega), f.eS (by omega), f.eS (by omega), f.eP (by omega) hB]
  exact h
/-- a law in the making: so many ifs -/
def lP (I : sm_I) (ρ : sm_R) (a hi : Nat) (ts : lwt) : Prop := lb ρ a ∧ I a 3 = nI ts.length ∧ ∀ i t, ts[i]? = some t → lQ I ρ (a + 4) hi (a + 1) i t.1 ∧ lQ I ρ (a + 4) hi (a + 2) i t.2.1 ∧ lQ I ρ (a + 4) hi (a + 3) i t.2.2
/-- a law -/
def lB (I : sm_I) (ρ : sm_R) (lo hi a : Nat) (L : lwt × ex) : Prop := (lo ≤ a ∧ a + 3 < hi) ∧ lP I ρ a hi L.1 ∧ L.1.length ≤ 4 ∧ lQ I ρ (a + 4) hi (a + 3) L.1.length L.2
theorem lP.g {A B : Nat → Prop} {I I1 : sm_I} {ρ ρ1 : sm_R} {a hi hi' : Nat} {ts : lwt} (h : lP I ρ a hi ts) (f : gF A B I ρ I1 ρ1) (ha : a + 3 < ρ.2.2.2.1 + 64) (hh : hi ≤ ρ.2.2.2.1 + 64) (h2 : hi ≤ hi') (hA : ∀ x, a + 4 ≤ x → ¬ A x) (hB : ∀ x, a + 4 ≤ x → ¬ B x) (hAa : I1 a 3 = I a 3) (hBa : ¬ B a) (hp : ∀ l i, a + 1 ≤ l → l ≤ a + 3 → i < ts.length → ρ1.2.1 l i = ρ.2.1 l i) : lP I1 ρ1 a hi' ts := by
  obtain ⟨h1, h3, h4⟩ := h
  refine ⟨h1.g f ha hBa, hAa.trans h3, fun i t hi => ?_⟩
  have hil : i < ts.length := (List.getElem?_eq_some_iff.mp hi).1
  obtain ⟨q1, q2, q3⟩ := h4 i t hi
  exact ⟨q1.g f (by omega) (hp _ _ (by omega) (by omega) hil) hh h2 hA hB, q2.g f (by omega) (hp _ _ (by omega) (by omega) hil) hh h2 hA hB, q3.g f (by omega) (hp _ _ (by omega) (by omega) hil) hh h2 hA hB⟩
section G3
variable {G : sm_G} {d : Nat} {I : sm_I} {ρ : sm_R} {P : Nat × (Nat → Int32)}
/-- an array of sums is made and told to its owner -/
theorem li_arr {Q : sm_O → sm_I → sm_R → Prop} {a n k ix p m : Nat} {ty : FieldType} (hs : ρ.2.2.1 a = (11, 0)) (ha : a < n) (hn : ρ.2.2.2.1 + 64 = n) (hm : m < 1000) (p1 p2 : Nat) (h1 : p + 3 = p1) (h2 : p1 + 3 = p2) (d1 : decode xX11_init.2.1 p = .ok (.anewarray 9, 3)) (d2 : decode xX11_init.2.1 p1 = .ok (.putfield ix, 3)) (hfp : sm_FP RX11 ix 11 k 2 ty true) (hnf : ∀ q : Nat, narrow ty (.ref q) = .ref q ∧ fits ty (.ref q) = true)
    (kk : ∀ I1 ρ1, gF pNo (fun x => x = a) I ρ I1 ρ1 → (ρ1.2.2.2.1 = ρ.2.2.2.1 + 1 ∧ ρ1.2.2.2.2 = ρ.2.2.2.2 + m) → ρ1.2.2.1 n = (108, m) → ρ1.2.1 a k = some n → (∀ j, ¬ j = k → ρ1.2.1 a j = ρ.2.1 a j) → sm_V G xX11_init d p2 [.ref a] [] I1 ρ1 Q) : sm_V G xX11_init d p [.ref a] [.int (nI m), .ref a] I ρ Q := by
  refine wp_newq (t := 8) (N := m) p1 h1 d1 q710 q711 rfl (by decide) rfl (by omega) n hn ?_
  have fN : gF pNo pNo I ρ (sm_zI I (ρ.2.2.2.1 + 64)) (sm_nR ρ 108 m m) := gF.nw _ _ _
  rw [hn] at fN
  have sN : (sm_nR ρ 108 m m).2.2.1 n = (108, m) := by rw [← hn]; exact sm_nR_at
  have sa : (sm_nR ρ 108 m m).2.2.1 a = (11, 0) := (fN.eS (by omega)).trans hs
  refine wp_putrF p2 h2 d2 rfl hfp sa hnf ?_
  refine kk _ _ ((fN.wk (A := pNo) (B := fun x => x = a) (fun _ _ z => z) (fun _ _ z => z.elim)).tr (gF.p (A := pNo)) (fun _ _ z => z) (fun _ _ z => z)) ⟨rfl, rfl⟩ sN ?_ (fun j hj => ?_)
  · show sm_up (sm_nR ρ 108 m m).2.1 a k (some n) a k = _
    rw [sm_up_eq]
    unfold va_up
    rw [if_pos rfl]
  · show sm_up (sm_nR ρ 108 m m).2.1 a k (some n) a j = _
    rw [sm_up_eq]
    unfold va_up
    rw [if_neg hj, fN.eP (by omega) (fun z => z)]
theorem s_linit {a : Nat} (hs : ρ.2.2.1 a = (11, 0)) (ha : ρ.2.2.2.1 + 64 = a + 1) : sm_M G xX11_init (d + 1) [.ref a] I ρ (sm_Qv (fun I1 ρ1 => (ρ1.2.2.2.1 = ρ.2.2.2.1 + 3 ∧ ρ1.2.2.2.2 = ρ.2.2.2.2 + 13) ∧ gF pNo (fun x => x = a) I ρ I1 ρ1 ∧ lb ρ1 a)) := by
  show sm_V G xX11_init (d + 1) 0 [.ref a] [] I ρ _
  refine wp_aload0 1 rfl dX11_init_0 ?_
  refine wp_objInit 4 rfl dX11_init_1 q709 (nl rfl) ?_
  refine wp_aload0 5 rfl dX11_init_4 ?_
  refine wp_iconst (nI 4) 6 rfl dX11_init_5 (by decide) ?_
  refine li_arr (n := a + 1) hs (by omega) ha (by decide) 9 12 rfl rfl dX11_init_6 dX11_init_9 pX11_11_11 (fun q => ⟨rfl, rfl⟩) (fun I1 ρ1 f1 z1 s1 p1 k1 => ?_)
  obtain ⟨z11, z12⟩ := z1
  refine wp_aload0 13 rfl dX11_init_12 ?_
  refine wp_iconst (nI 4) 14 rfl dX11_init_13 (by decide) ?_
  refine li_arr (n := a + 2) ((f1.eS (by omega)).trans hs) (by omega) (by omega) (by decide) 17 20 rfl rfl dX11_init_14 dX11_init_17 pX11_17_11 (fun q => ⟨rfl, rfl⟩) (fun I2 ρ2 f2 z2 s2 p2 k2 => ?_)
  obtain ⟨z21, z22⟩ := z2
  refine wp_aload0 21 rfl dX11_init_20 ?_
  refine wp_iconst (nI 5) 22 rfl dX11_init_21 (by decide) ?_
  refine li_arr (n := a + 3) ((f2.eS (by omega)).trans ((f1.eS (by omega)).trans hs)) (by omega) (by omega) (by decide) 25 28 rfl rfl dX11_init_22 dX11_init_25 pX11_20_11 (fun q => ⟨rfl, rfl⟩) (fun I3 ρ3 f3 z3 s3 p3 k3 => ?_)
  obtain ⟨z31, z32⟩ := z3
  refine wp_vret dX11_init_28 rfl ?_
  exact ⟨rfl, ⟨by omega, by omega⟩, (f1.tr f2 (fun _ _ z => z) (fun _ _ z => z)).tr f3 (fun _ _ z => z) (fun _ _ z => z), (f3.eS (by omega)).trans ((f2.eS (by omega)).trans ((f1.eS (by omega)).trans hs)), ⟨(k3 0 (by decide)).trans ((k2 0 (by decide)).trans p1), (k3 1 (by decide)).trans p2, p3⟩, (f3.eS (by omega)).trans ((f2.eS (by omega)).trans s1), (f3.eS (by omega)).trans s2, s3⟩
abbrev lE (a : Nat) (L : lwt × ex) (ρ : sm_R) : Option Value → sm_I → sm_R → Prop := fun v I1 ρ1 => v = some (.ref a) ∧ lB I1 ρ1 (ρ.2.2.2.1 + 64) (ρ1.2.2.2.1 + 64) a L
/-- a sum is read and laid into an array -/
theorem lw_st {I0 : sm_I} {ρ0 : sm_R} {D p k l nn t t0 : Nat} {w : Nat × Nat} {lv st : List Value} {R : pR} {post : Option Value → sm_I → sm_R → Prop} (p1 p2 : Nat) (hp1 : p + 3 = p1) (hp2 : p1 + 1 = p2) (hd1 : decode xX3_law.2.1 p = .ok (.invokevirtual 200, 3)) (hd2 : decode xX3_law.2.1 p1 = .ok (.aastore, 1)) (hrs : ((.int (nI k) :: .ref l :: st : List Value).map fun v => v.category).sum ≤ 8)
    (hR : rC I ρ P) (hp : pst I (kt P) t w) (ho : I 73 4 = nI 0) (hl : ρ.2.2.1 l = (108, nn)) (hk : k < nn) (hn5 : nn ≤ 5) (hl2 : l < ρ.2.2.2.1 + 64) (hl3 : ρ0.2.2.2.1 + 64 ≤ l) (hn0 : 879 ≤ ρ0.2.2.2.1) (hF : gF pA pNo I0 ρ0 I ρ) (hb : bud ρ0 t0 ρ (t + 1)) (hRl : ∀ x, ps (kt P) 4000 3 0 t [] = .inl x → R = .inl x)
    (kk : ∀ u t' b J1 ρ1, ps (kt P) 4000 3 0 t [] = .inr (u, t') → ps_ok (kt P) t u t' → gF pA (fun x => x = l) I ρ J1 ρ1 → rC J1 ρ1 P → pst J1 (kt P) t' w → J1 73 4 = nI 0 → bud ρ0 t0 ρ1 (t' + 1) → ρ1.2.1 l = va_up (ρ.2.1 l) k (some b) → sB J1 ρ1 (ρ.2.2.2.1 + 64) (ρ1.2.2.2.1 + 64) 400 b u → sm_V G xX3_law (D + 27) p2 lv st J1 ρ1 (xO pA pNo I0 ρ0 (kt P) t0 1 R post)) :
    sm_V G xX3_law (D + 27) p lv (.ref 73 :: .int (nI k) :: .ref l :: st) I ρ (xO pA pNo I0 ρ0 (kt P) t0 1 R post) := by
  have hK := hR.1
  refine wp_Vx0 p1 hp1 hd1 kX3_sum lX3_200 (o4 hK) (nl rfl) hrs (s_psum hR hp ho) (fun v J1 ρ1 z => ?_) (fun b J1 ρ1 z => z.outO rfl hK hR.2.1 hF (fun _ _ z => z) hb hRl)
  obtain ⟨f1, u, t', b, e1, rfl, q1, o1, b1, s1⟩ := z.ok
  have hok := (ps_good (kt P) 4000).2.2.2.1 0 t u t' hp.1.1 e1
  have hR1 : rC J1 ρ1 P := hR.g f1 (fun _ _ z => z) (fun _ _ z => z)
  obtain ⟨tv, as1, as2⟩ := s1.as
  have hl1 : ρ1.2.2.1 l = (108, nn) := (f1.eS hl2).trans hl
  refine wp_aast (t := 8) p2 hp2 hd2 (by decide) rfl hl1 k rfl ⟨hk, by omega⟩ as1 as2 ?_
  have h879 := hR.2.1
  have fE : gF pNo (fun x => x = l) J1 ρ1 J1 (ρ1.1, sm_up ρ1.2.1 l k (some b), ρ1.2.2) := gF.p
  have f2 : gF pA (fun x => x = l) I ρ J1 (ρ1.1, sm_up ρ1.2.1 l k (some b), ρ1.2.2) := (f1.wk (A := pA) (B := fun x => x = l) (fun _ _ z => z) (fun _ _ z => z.elim)).tr fE (fun _ _ z => z.elim) (fun _ _ z => z)
  have hu : u.length ≤ 400 := by
    have h1 := hok.2.1
    have h2 := hok.2.2.1
    omega
  refine kk u t' b J1 _ e1 hok f2 (hR1.g fE (fun _ _ z => z.elim) (fun x hx z => by omega)) q1 (o1.trans ho) ?_ ?_ ?_
  · obtain ⟨a1, a2⟩ := hb
    obtain ⟨c1, c2⟩ := b1
    exact ⟨by show ρ1.2.2.2.1 + _ ≤ _; omega, by show ρ1.2.2.2.2 + _ ≤ _; omega⟩
  · show sm_up ρ1.2.1 l k (some b) l = _
    rw [sm_up_eq, f1.eP hl2 (fun z => z)]
  · exact (s1.g fE (Nat.le_refl _) (fun _ _ _ z => z) (fun x hx _ z => by omega)).wk (Nat.le_refl _) (Nat.le_refl _) hu
end G3
