/-! ===== rows of sm_V: arrays, ends ===== -/
set_option maxRecDepth 100000
theorem sm_ty_at {G : sm_G} {t : Nat} {ty : FieldType} (h : sm_at[t]? = some ty) : (sm_tys G)[t]? = some (G.2.2.2.1 t, ty) := by
  unfold sm_tys
  rw [List.getElem?_mapIdx, h]
  rfl
theorem sm_ent_i {G : sm_G} {I : sm_I} {ρ : sm_R} {a t n : Nat} (h : ρ.2.2.1 a = (t + 100, n)) (ht : t < 4) : sm_ent G I ρ a = .inl (G.2.2.2.1 t, n, .inl (I a)) := by
  unfold sm_ent
  rw [h]
  simp only []
  rw [if_neg (by omega), if_pos (by omega), show t + 100 - 100 = t by omega]
theorem sm_ent_l {G : sm_G} {I : sm_I} {ρ : sm_R} {a n : Nat} (h : ρ.2.2.1 a = (104, n)) : sm_ent G I ρ a = .inl (G.2.2.2.1 4, n, .inr (.inl (ρ.1 a))) := by
  unfold sm_ent
  rw [h]
  rfl
theorem sm_ent_p {G : sm_G} {I : sm_I} {ρ : sm_R} {a t n : Nat} (h : ρ.2.2.1 a = (t + 100, n)) (ht : 4 < t) : sm_ent G I ρ a = .inl (G.2.2.2.1 t, n, .inr (.inr (.inr (.inr (fun j => (ρ.2.1 a j).map (sm_ad G)))))) := by
  unfold sm_ent
  rw [h]
  simp only []
  rw [if_neg (by omega), if_neg (by omega), if_neg (by omega), show t + 100 - 100 = t by omega]
section WP3
variable {G : sm_G} {X : sm_X} {d pc : Nat} {lv st : List Value} {I : sm_I} {ρ : sm_R} {Q : sm_O → sm_I → sm_R → Prop}
theorem wp_iald {a nn : Nat} {i : Int32} (n : Nat) (hn : pc + 1 = n) (hd : decode X.2.1 pc = .ok (.iaload, 1)) (hs : ρ.2.2.1 a = (100, nn)) (j : Nat) (hi : i = nI j) (hj : j < nn ∧ nn < 2147483648) (k : sm_V G X d n lv (.int (I a j) :: st) I ρ Q) : sm_V G X d pc lv (.int i :: .ref a :: st) I ρ Q := by
  subst hn
  subst hi
  refine sm_read (fun p e R s m args below meth c H locs cells slots ls QQ F L RP S k => ?_) k
  obtain ⟨hx, hb, hml, hr, hnm, hex, hlk, hown, hts, hgood, -⟩ := F
  refine va_iald hx hb hgood.1 RP.1 (a - 64) 0 ((sm_ws_at RP.2.2.2 hs (by decide)).trans (by rw [sm_ent_i (t := 0) hs (by decide)])) (sm_ty_at rfl) (vp_in_nI hj.1 hj.2) hd ?_
  rw [nI_clamp (by omega)]
  exact k _ L
theorem wp_bald {a nn : Nat} {i : Int32} (n : Nat) (hn : pc + 1 = n) (hd : decode X.2.1 pc = .ok (.baload, 1)) (hs : ρ.2.2.1 a = (101, nn)) (j : Nat) (hi : i = nI j) (hj : j < nn ∧ nn < 2147483648) (k : sm_V G X d n lv (.int (I a j) :: st) I ρ Q) : sm_V G X d pc lv (.int i :: .ref a :: st) I ρ Q := by
  subst hn
  subst hi
  refine sm_read (fun p e R s m args below meth c H locs cells slots ls QQ F L RP S k => ?_) k
  obtain ⟨hx, hb, hml, hr, hnm, hex, hlk, hown, hts, hgood, -⟩ := F
  refine va_bald hx hb hgood.1 RP.1 (a - 64) 1 ((sm_ws_at RP.2.2.2 hs (by decide)).trans (by rw [sm_ent_i (t := 1) hs (by decide)])) (sm_ty_at rfl) (vp_in_nI hj.1 hj.2) hd ?_
  rw [nI_clamp (by omega)]
  exact k _ L
theorem wp_sald {a nn : Nat} {i : Int32} (n : Nat) (hn : pc + 1 = n) (hd : decode X.2.1 pc = .ok (.saload, 1)) (hs : ρ.2.2.1 a = (102, nn)) (j : Nat) (hi : i = nI j) (hj : j < nn ∧ nn < 2147483648) (k : sm_V G X d n lv (.int (I a j) :: st) I ρ Q) : sm_V G X d pc lv (.int i :: .ref a :: st) I ρ Q := by
  subst hn
  subst hi
  refine sm_read (fun p e R s m args below meth c H locs cells slots ls QQ F L RP S k => ?_) k
  obtain ⟨hx, hb, hml, hr, hnm, hex, hlk, hown, hts, hgood, -⟩ := F
  refine va_sald hx hb hgood.1 RP.1 (a - 64) 2 ((sm_ws_at RP.2.2.2 hs (by decide)).trans (by rw [sm_ent_i (t := 2) hs (by decide)])) (sm_ty_at rfl) (vp_in_nI hj.1 hj.2) hd ?_
  rw [nI_clamp (by omega)]
  exact k _ L
theorem wp_zald {a nn : Nat} {i : Int32} (n : Nat) (hn : pc + 1 = n) (hd : decode X.2.1 pc = .ok (.baload, 1)) (hs : ρ.2.2.1 a = (103, nn)) (j : Nat) (hi : i = nI j) (hj : j < nn ∧ nn < 2147483648) (k : sm_V G X d n lv (.int (I a j) :: st) I ρ Q) : sm_V G X d pc lv (.int i :: .ref a :: st) I ρ Q := by
  subst hn
  subst hi
  refine sm_read (fun p e R s m args below meth c H locs cells slots ls QQ F L RP S k => ?_) k
  obtain ⟨hx, hb, hml, hr, hnm, hex, hlk, hown, hts, hgood, -⟩ := F
  refine va_zald hx hb hgood.1 RP.1 (a - 64) 3 ((sm_ws_at RP.2.2.2 hs (by decide)).trans (by rw [sm_ent_i (t := 3) hs (by decide)])) (sm_ty_at rfl) (vp_in_nI hj.1 hj.2) hd ?_
  rw [nI_clamp (by omega)]
  exact k _ L
theorem wp_lald {a nn : Nat} {i : Int32} (n : Nat) (hn : pc + 1 = n) (hd : decode X.2.1 pc = .ok (.laload, 1)) (hs : ρ.2.2.1 a = (104, nn)) (j : Nat) (hi : i = nI j) (hj : j < nn ∧ nn < 2147483648) (k : sm_V G X d n lv (.long (ρ.1 a j) :: st) I ρ Q) : sm_V G X d pc lv (.int i :: .ref a :: st) I ρ Q := by
  subst hn
  subst hi
  refine sm_read (fun p e R s m args below meth c H locs cells slots ls QQ F L RP S k => ?_) k
  obtain ⟨hx, hb, hml, hr, hnm, hex, hlk, hown, hts, hgood, -⟩ := F
  refine va_lald hx hb hgood.1 RP.1 (a - 64) 4 ((sm_ws_at RP.2.2.2 hs (by decide)).trans (by rw [sm_ent_l hs])) (sm_ty_at rfl) (vp_in_nI hj.1 hj.2) hd ?_
  rw [nI_clamp (by omega)]
  exact k _ L
/-- of an array of references: what it holds -/
theorem sm_aald {a nn t : Nat} {ty : FieldType} {v : Value} (ht : 4 < t) (hty : sm_at[t]? = some ty) (href : ty.isReference = true) (hd : decode X.2.1 pc = .ok (.aaload, 1)) (hs : ρ.2.2.1 a = (t + 100, nn)) (j : Nat) (hj : j < nn ∧ nn < 2147483648) (hv : va_rf ((ρ.2.1 a j).map (sm_ad G)) = sm_cv G v) (k : sm_V G X d (pc + 1) lv (v :: st) I ρ Q) : sm_V G X d pc lv (.int (nI j) :: .ref a :: st) I ρ Q := by
  refine sm_read (fun p e R s m args below meth c H locs cells slots ls QQ F L RP S k => ?_) k
  obtain ⟨hx, hb, hml, hr, hnm, hex, hlk, hown, hts, hgood, -⟩ := F
  have hat := (sm_ws_at (G := G) (I := I) RP.2.2.2 hs (by omega)).trans (by rw [sm_ent_p hs ht])
  have hin := vp_in_nI hj.1 hj.2
  have hlt : (nI j).toNatClampNeg < nn := by rw [nI_clamp (by omega)]; exact hj.1
  refine W.aald (v := sm_cv G v) (ty := ty) hx hb (RP.1 (a - 64) _ hat) ((hgood.1.2 t _ (sm_ty_at hty)).1 nn (fun j => va_rf ((ρ.2.1 a j).map (sm_ad G)))) href (fun q => by cases q) (by show ¬ (nI j < 0 ∨ (arrV _ _ _).slots.size ≤ _); rw [arrV_size]; exact hin) (by show (arrV _ _ _).slots[_]? = _; rw [arrV_read _ _ hlt, nI_clamp (by omega), hv]) rfl rfl hd (k _ L)
theorem wp_aald {a nn t b : Nat} {ty : FieldType} {i : Int32} (n : Nat) (hn : pc + 1 = n) (hd : decode X.2.1 pc = .ok (.aaload, 1)) (ht : 4 < t) (hty : sm_at[t]? = some ty) (href : ty.isReference = true) (hs : ρ.2.2.1 a = (t + 100, nn)) (j : Nat) (hi : i = nI j) (hj : j < nn ∧ nn < 2147483648) (hv : ρ.2.1 a j = some b) (k : sm_V G X d n lv (.ref b :: st) I ρ Q) : sm_V G X d pc lv (.int i :: .ref a :: st) I ρ Q := by
  subst hn
  subst hi
  exact sm_aald ht hty href hd hs j hj (by rw [hv]; rfl) k
theorem wp_aaldN {a nn t : Nat} {ty : FieldType} {i : Int32} (n : Nat) (hn : pc + 1 = n) (hd : decode X.2.1 pc = .ok (.aaload, 1)) (ht : 4 < t) (hty : sm_at[t]? = some ty) (href : ty.isReference = true) (hs : ρ.2.2.1 a = (t + 100, nn)) (j : Nat) (hi : i = nI j) (hj : j < nn ∧ nn < 2147483648) (hv : ρ.2.1 a j = none) (k : sm_V G X d n lv (.null :: st) I ρ Q) : sm_V G X d pc lv (.int i :: .ref a :: st) I ρ Q := by
  subst hn
  subst hi
  exact sm_aald ht hty href hd hs j hj (by rw [hv]; rfl) k
theorem wp_alen {a nn t : Nat} {ty : FieldType} (n : Nat) (hn : pc + 1 = n) (hd : decode X.2.1 pc = .ok (.arraylength, 1)) (hty : sm_at[t]? = some ty) (hs : ρ.2.2.1 a = (t + 100, nn)) (k : sm_V G X d n lv (.int (nI nn) :: st) I ρ Q) : sm_V G X d pc lv (.ref a :: st) I ρ Q := by
  subst hn
  refine sm_read (fun p e R s m args below meth c H locs cells slots ls QQ F L RP S k => ?_) k
  obtain ⟨hx, hb, hml, hr, hnm, hex, hlk, hown, hts, hgood, -⟩ := F
  rcases Nat.lt_trichotomy t 4 with h | h | h
  · have hat := (sm_ws_at (G := G) (I := I) RP.2.2.2 hs (by omega)).trans (by rw [sm_ent_i hs h])
    exact va_alen (v := nI nn) hx hb hgood.1 RP.1 (a - 64) t hat (sm_ty_at hty) rfl hd (k _ L)
  · subst h
    have hat := (sm_ws_at (G := G) (I := I) RP.2.2.2 hs (by omega)).trans (by rw [sm_ent_l hs])
    exact va_alen (v := nI nn) hx hb hgood.1 RP.1 (a - 64) 4 hat (sm_ty_at hty) rfl hd (k _ L)
  · have hat := (sm_ws_at (G := G) (I := I) RP.2.2.2 hs (by omega)).trans (by rw [sm_ent_p hs h])
    exact va_alen (v := nI nn) hx hb hgood.1 RP.1 (a - 64) t hat (sm_ty_at hty) rfl hd (k _ L)
theorem wp_iast {a nn : Nat} {i x : Int32} (n : Nat) (hn : pc + 1 = n) (hd : decode X.2.1 pc = .ok (.iastore, 1)) (hs : ρ.2.2.1 a = (100, nn)) (j : Nat) (hi : i = nI j) (hj : j < nn ∧ nn < 2147483648) (k : sm_V G X d n lv st (sm_u I a j x) ρ Q) : sm_V G X d pc lv (.int x :: .int i :: .ref a :: st) I ρ Q := by
  subst hn
  subst hi
  refine sm_write (I1 := sm_u I a j x) (ρ1 := ρ) rfl (fun p e R s m args below meth c H locs cells slots ls QQ F RP S k => ?_) k
  obtain ⟨hx, hb, hml, hr, hnm, hex, hlk, hown, hts, hgood, hcst⟩ := F
  have hat := (sm_ws_at (G := G) (I := I) RP.2.2.2 hs (by decide)).trans (by rw [sm_ent_i (t := 0) hs (by decide)])
  have hDD := sm_ws_D G I ρ
  refine W.iast hx hb (RP.1 (a - 64) _ hat) ((hgood.1.2 0 _ (sm_ty_at rfl)).1 nn (fun j => .int (I a j))) (fun q => by cases q) (by show ¬ (nI j < 0 ∨ (arrV _ _ _).slots.size ≤ _); rw [arrV_size]; exact vp_in_nI hj.1 hj.2) rfl rfl hd fun H1 e z oq => ?_
  have hP' := RP.1.set hDD hat (e := .inl (G.2.2.2.1 0, nn, .inl (upd (I a) j x))) (H1 := H1) (by
    show H1[_]? = some (vp_cell _ _)
    rw [e, nI_clamp (by omega)]
    rw [vp_cell_i, vp_cell_i, arrV_store]
    congr 2
    funext q
    by_cases hq : q = j
    · subst hq
      simp [updV, upd]
    · simp [updV, upd, hq]) oq
  rw [sm_ws_set (I' := sm_u I a j x) (ρ' := ρ) RP.2.2.2 hs (by decide) rfl (by rw [sm_ent_i (t := 0) hs (by decide), sm_u_eq]) (fun b hb => by
    unfold sm_ent
    rw [sm_u_ne I _ _ hb])] at hP'
  have hS' := S.put (k := (nI j).toNatClampNeg) z oq (hDD.2 (a - 64) _ hat)
  exact k H1 _ hP' hS' z (sm_base hcst.2.1 S hS')
theorem wp_bast {a nn : Nat} {i x : Int32} (n : Nat) (hn : pc + 1 = n) (hd : decode X.2.1 pc = .ok (.bastore, 1)) (hs : ρ.2.2.1 a = (101, nn)) (j : Nat) (hi : i = nI j) (hj : j < nn ∧ nn < 2147483648) (k : sm_V G X d n lv st (sm_u I a j (vp_nar .byte x)) ρ Q) : sm_V G X d pc lv (.int x :: .int i :: .ref a :: st) I ρ Q := by
  subst hn
  subst hi
  refine sm_write (I1 := sm_u I a j (vp_nar .byte x)) (ρ1 := ρ) rfl (fun p e R s m args below meth c H locs cells slots ls QQ F RP S k => ?_) k
  obtain ⟨hx, hb, hml, hr, hnm, hex, hlk, hown, hts, hgood, hcst⟩ := F
  have hat := (sm_ws_at (G := G) (I := I) RP.2.2.2 hs (by decide)).trans (by rw [sm_ent_i (t := 1) hs (by decide)])
  have hDD := sm_ws_D G I ρ
  refine W.bast hx hb (RP.1 (a - 64) _ hat) ((hgood.1.2 1 _ (sm_ty_at rfl)).1 nn (fun j => .int (I a j))) (fun q => by cases q) (by show ¬ (nI j < 0 ∨ (arrV _ _ _).slots.size ≤ _); rw [arrV_size]; exact vp_in_nI hj.1 hj.2) rfl rfl hd fun H1 e z oq => ?_
  have hP' := RP.1.set hDD hat (e := .inl (G.2.2.2.1 1, nn, .inl (upd (I a) j (vp_nar .byte x)))) (H1 := H1) (by
    show H1[_]? = some (vp_cell _ _)
    rw [e, nI_clamp (by omega)]
    rw [vp_cell_i, vp_cell_i, arrV_store]
    congr 2
    funext q
    by_cases hq : q = j
    · subst hq
      simp [updV, upd, vp_nar]
      try rfl
    · simp [updV, upd, hq]) oq
  rw [sm_ws_set (I' := sm_u I a j (vp_nar .byte x)) (ρ' := ρ) RP.2.2.2 hs (by decide) rfl (by rw [sm_ent_i (t := 1) hs (by decide), sm_u_eq]) (fun b hb => by
    unfold sm_ent
    rw [sm_u_ne I _ _ hb])] at hP'
  have hS' := S.put (k := (nI j).toNatClampNeg) z oq (hDD.2 (a - 64) _ hat)
  exact k H1 _ hP' hS' z (sm_base hcst.2.1 S hS')
theorem wp_sast {a nn : Nat} {i x : Int32} (n : Nat) (hn : pc + 1 = n) (hd : decode X.2.1 pc = .ok (.sastore, 1)) (hs : ρ.2.2.1 a = (102, nn)) (j : Nat) (hi : i = nI j) (hj : j < nn ∧ nn < 2147483648) (k : sm_V G X d n lv st (sm_u I a j (vp_nar .short x)) ρ Q) : sm_V G X d pc lv (.int x :: .int i :: .ref a :: st) I ρ Q := by
  subst hn
  subst hi
  refine sm_write (I1 := sm_u I a j (vp_nar .short x)) (ρ1 := ρ) rfl (fun p e R s m args below meth c H locs cells slots ls QQ F RP S k => ?_) k
  obtain ⟨hx, hb, hml, hr, hnm, hex, hlk, hown, hts, hgood, hcst⟩ := F
  have hat := (sm_ws_at (G := G) (I := I) RP.2.2.2 hs (by decide)).trans (by rw [sm_ent_i (t := 2) hs (by decide)])
  have hDD := sm_ws_D G I ρ
  refine W.sast hx hb (RP.1 (a - 64) _ hat) ((hgood.1.2 2 _ (sm_ty_at rfl)).1 nn (fun j => .int (I a j))) (fun q => by cases q) (by show ¬ (nI j < 0 ∨ (arrV _ _ _).slots.size ≤ _); rw [arrV_size]; exact vp_in_nI hj.1 hj.2) rfl rfl hd fun H1 e z oq => ?_
  have hP' := RP.1.set hDD hat (e := .inl (G.2.2.2.1 2, nn, .inl (upd (I a) j (vp_nar .short x)))) (H1 := H1) (by
    show H1[_]? = some (vp_cell _ _)
    rw [e, nI_clamp (by omega)]
    rw [vp_cell_i, vp_cell_i, arrV_store]
    congr 2
    funext q
    by_cases hq : q = j
    · subst hq
      simp [updV, upd, vp_nar]
      try rfl
    · simp [updV, upd, hq]) oq
  rw [sm_ws_set (I' := sm_u I a j (vp_nar .short x)) (ρ' := ρ) RP.2.2.2 hs (by decide) rfl (by rw [sm_ent_i (t := 2) hs (by decide), sm_u_eq]) (fun b hb => by
    unfold sm_ent
    rw [sm_u_ne I _ _ hb])] at hP'
  have hS' := S.put (k := (nI j).toNatClampNeg) z oq (hDD.2 (a - 64) _ hat)
  exact k H1 _ hP' hS' z (sm_base hcst.2.1 S hS')
theorem wp_zast {a nn : Nat} {i x : Int32} (n : Nat) (hn : pc + 1 = n) (hd : decode X.2.1 pc = .ok (.bastore, 1)) (hs : ρ.2.2.1 a = (103, nn)) (j : Nat) (hi : i = nI j) (hj : j < nn ∧ nn < 2147483648) (k : sm_V G X d n lv st (sm_u I a j (vp_nar .boolean x)) ρ Q) : sm_V G X d pc lv (.int x :: .int i :: .ref a :: st) I ρ Q := by
  subst hn
  subst hi
  refine sm_write (I1 := sm_u I a j (vp_nar .boolean x)) (ρ1 := ρ) rfl (fun p e R s m args below meth c H locs cells slots ls QQ F RP S k => ?_) k
  obtain ⟨hx, hb, hml, hr, hnm, hex, hlk, hown, hts, hgood, hcst⟩ := F
  have hat := (sm_ws_at (G := G) (I := I) RP.2.2.2 hs (by decide)).trans (by rw [sm_ent_i (t := 3) hs (by decide)])
  have hDD := sm_ws_D G I ρ
  refine W.zast hx hb (RP.1 (a - 64) _ hat) ((hgood.1.2 3 _ (sm_ty_at rfl)).1 nn (fun j => .int (I a j))) (fun q => by cases q) (by show ¬ (nI j < 0 ∨ (arrV _ _ _).slots.size ≤ _); rw [arrV_size]; exact vp_in_nI hj.1 hj.2) rfl rfl hd fun H1 e z oq => ?_
  have hP' := RP.1.set hDD hat (e := .inl (G.2.2.2.1 3, nn, .inl (upd (I a) j (vp_nar .boolean x)))) (H1 := H1) (by
    show H1[_]? = some (vp_cell _ _)
    rw [e, nI_clamp (by omega)]
    rw [vp_cell_i, vp_cell_i, arrV_store]
    congr 2
    funext q
    by_cases hq : q = j
    · subst hq
      simp [updV, upd, vp_nar]
      try rfl
    · simp [updV, upd, hq]) oq
  rw [sm_ws_set (I' := sm_u I a j (vp_nar .boolean x)) (ρ' := ρ) RP.2.2.2 hs (by decide) rfl (by rw [sm_ent_i (t := 3) hs (by decide), sm_u_eq]) (fun b hb => by
    unfold sm_ent
    rw [sm_u_ne I _ _ hb])] at hP'
  have hS' := S.put (k := (nI j).toNatClampNeg) z oq (hDD.2 (a - 64) _ hat)
  exact k H1 _ hP' hS' z (sm_base hcst.2.1 S hS')
theorem wp_last {a nn : Nat} {i : Int32} {x : Int64} (n : Nat) (hn : pc + 1 = n) (hd : decode X.2.1 pc = .ok (.lastore, 1)) (hs : ρ.2.2.1 a = (104, nn)) (j : Nat) (hi : i = nI j) (hj : j < nn ∧ nn < 2147483648) (k : sm_V G X d n lv st I (sm_ul ρ.1 a j x, ρ.2) Q) : sm_V G X d pc lv (.long x :: .int i :: .ref a :: st) I ρ Q := by
  subst hn
  subst hi
  refine sm_write (I1 := I) (ρ1 := (sm_ul ρ.1 a j x, ρ.2)) rfl (fun p e R s m args below meth c H locs cells slots ls QQ F RP S k => ?_) k
  obtain ⟨hx, hb, hml, hr, hnm, hex, hlk, hown, hts, hgood, hcst⟩ := F
  have hat := (sm_ws_at (G := G) (I := I) RP.2.2.2 hs (by decide)).trans (by rw [sm_ent_l hs])
  have hDD := sm_ws_D G I ρ
  refine W.last hx hb (RP.1 (a - 64) _ hat) ((hgood.1.2 4 _ (sm_ty_at rfl)).1 nn (fun j => .long (ρ.1 a j))) (fun q => by cases q) (by show ¬ (nI j < 0 ∨ (arrV _ _ _).slots.size ≤ _); rw [arrV_size]; exact vp_in_nI hj.1 hj.2) rfl rfl hd fun H1 e z oq => ?_
  have hP' := RP.1.set hDD hat (e := .inl (G.2.2.2.1 4, nn, .inr (.inl (vp_updL (ρ.1 a) j x)))) (H1 := H1) (by
    show H1[_]? = some (vp_cell _ _)
    rw [e, nI_clamp (by omega)]
    rw [vp_cell_l, vp_cell_l, arrV_store]
    congr 2
    funext q
    by_cases hq : q = j
    · subst hq
      simp [updV, vp_updL]
    · simp [updV, vp_updL, hq]) oq
  rw [sm_ws_set (I' := I) (ρ' := (sm_ul ρ.1 a j x, ρ.2)) RP.2.2.2 hs (by decide) rfl (by rw [sm_ent_l (ρ := (sm_ul ρ.1 a j x, ρ.2)) hs]; show Sum.inl (_, _, Sum.inr (Sum.inl (sm_ul ρ.1 a j x a))) = _; rw [sm_ul_eq]) (fun b hb => by
    unfold sm_ent
    show (if (ρ.2.2.1 b).1 < 100 then _ else Sum.inl (_, _, if (ρ.2.2.1 b).1 < 104 then _ else if (ρ.2.2.1 b).1 = 104 then Sum.inr (Sum.inl (sm_ul ρ.1 a j x b)) else _)) = _
    rw [sm_ul_ne _ _ _ hb])] at hP'
  have hS' := S.put (k := (nI j).toNatClampNeg) z oq (hDD.2 (a - 64) _ hat)
  exact k H1 _ hP' hS' z (sm_base hcst.2.1 S hS')
/-- a store into an array of references: the object may stand there -/
theorem sm_aast {a nn t b : Nat} {E : String} (ht : 4 < t) (hty : sm_at[t]? = some (.object E)) (hd : decode X.2.1 pc = .ok (.aastore, 1)) (hs : ρ.2.2.1 a = (t + 100, nn)) (j : Nat) (hj : j < nn ∧ nn < 2147483648)
    (hany : ∀ (s : State) (H : Heap) (args : Array Value), sm_Good G s → (∀ w ∈ lw_all, w.before args s = true) → sm_Rep G I ρ H → va_Any E s H (sm_ad G b)) (k : sm_V G X d (pc + 1) lv st I (ρ.1, sm_up ρ.2.1 a j (some b), ρ.2.2) Q) : sm_V G X d pc lv (.ref b :: .int (nI j) :: .ref a :: st) I ρ Q := by
  refine sm_write (I1 := I) (ρ1 := (ρ.1, sm_up ρ.2.1 a j (some b), ρ.2.2)) rfl (fun p e R s m args below meth c H locs cells slots ls QQ F RP S k => ?_) k
  obtain ⟨hx, hb, hml, hr, hnm, hex, hlk, hown, hts, hgood, hcst⟩ := F
  have hat := (sm_ws_at (G := G) (I := I) RP.2.2.2 hs (by omega)).trans (by rw [sm_ent_p hs ht])
  have hDD := sm_ws_D G I ρ
  have hin := vp_in_nI hj.1 hj.2
  have hlt : (nI j).toNatClampNeg < nn := by rw [nI_clamp (by omega)]; exact hj.1
  have h0 : ¬ nI j < 0 := fun q => hin (Or.inl q)
  obtain ⟨cellV, g1, g3, ⟨kC, hkC⟩, hasg⟩ := hany s H args hgood hts RP
  obtain ⟨kA, comp, k1, k2, k3, -⟩ := (hgood.1.2 t _ (sm_ty_at hty)).2
  obtain ⟨kE, hkE, -⟩ := Vm.findClass_spec k3
  refine W.aast hx hb (RP.1 (a - 64) _ hat) (fun q h => by cases h) (fun h => by cases h) k1 k2 rfl hkE ⟨h0, by show _ < (arrV _ _ _).slots.size; rw [arrV_size]; exact hlt⟩ g1 (fun q h => by rw [h] at g3; cases g3) hkC (hasg _ k3) rfl rfl hd fun H1 e z oq => ?_
  have hP' := RP.1.set hDD hat (e := .inl (G.2.2.2.1 t, nn, .inr (.inr (.inr (.inr (fun q => (sm_up ρ.2.1 a j (some b) a q).map (sm_ad G))))))) (H1 := H1) (by
    show H1[_]? = some (vp_cell _ _)
    rw [e, nI_clamp (by omega)]
    rw [vp_cell_q, vp_cell_q, arrV_store]
    congr 2
    funext q
    rw [sm_up_eq]
    by_cases hq : q = j
    · subst hq
      simp [updV, va_up, va_rf]
    · simp [updV, va_up, hq]) oq
  rw [sm_ws_set (I' := I) (ρ' := (ρ.1, sm_up ρ.2.1 a j (some b), ρ.2.2)) RP.2.2.2 hs (by omega) rfl (by rw [sm_ent_p (ρ := (ρ.1, sm_up ρ.2.1 a j (some b), ρ.2.2)) (t := t) hs ht]) (fun q hq => by
    unfold sm_ent
    show (if (ρ.2.2.1 q).1 < 100 then Sum.inr (_, sm_fl G (ρ.2.2.1 q).1 (I q) (sm_up ρ.2.1 a j (some b) q)) else Sum.inl (_, _, if (ρ.2.2.1 q).1 < 104 then _ else if (ρ.2.2.1 q).1 = 104 then _ else Sum.inr (Sum.inr (Sum.inr (Sum.inr (fun i => (sm_up ρ.2.1 a j (some b) q i).map (sm_ad G))))))) = _
    rw [sm_up_ne _ _ _ hq])] at hP'
  have hS' := S.put (k := (nI j).toNatClampNeg) z oq (hDD.2 (a - 64) _ hat)
  exact k H1 _ hP' hS' z (sm_base hcst.2.1 S hS')
/-! ends -/
theorem wp_iret {v : Int32} (hd : decode X.2.1 pc = .ok (.ireturn, 1)) (hr : X.2.2.2.1 = some .int) (q : Q (.inl (some (.int v))) I ρ) : sm_V G X d pc lv [.int v] I ρ Q := by
  refine ⟨_, I, ρ, q, Nat.le_refl _, Nat.le_refl _, fun p e R s m args below meth c H locs cells slots mc ms ls F a1 a2 a3 a4 a5 a6 a7 a8 a9 => ?_⟩
  obtain ⟨hx, hb, hml, hr2, hnm, hex, hlk, hown, hts, hgood, hcst⟩ := F
  exact W.widen (k := mc) (n := ms) (by omega) (by omega) (vy_ret (W.iret hx hb (hr2.trans hr) (fun t ht hW => ⟨⟨_, rfl, rfl⟩, by rw [ht]; exact a7, a8.F ht⟩) a8.2.2 hd hlk))
theorem wp_zret {v : Int32} {ty : FieldType} (hd : decode X.2.1 pc = .ok (.ireturn, 1)) (hr : X.2.2.2.1 = some ty) (hv : narrow ty (.int v) = .int v) (q : Q (.inl (some (.int v))) I ρ) : sm_V G X d pc lv [.int v] I ρ Q := by
  refine ⟨_, I, ρ, q, Nat.le_refl _, Nat.le_refl _, fun p e R s m args below meth c H locs cells slots mc ms ls F a1 a2 a3 a4 a5 a6 a7 a8 a9 => ?_⟩
  obtain ⟨hx, hb, hml, hr2, hnm, hex, hlk, hown, hts, hgood, hcst⟩ := F
  exact W.widen (k := mc) (n := ms) (by omega) (by omega) (vy_ret (W.zret hx hb (hr2.trans hr) hv (fun t ht hW => ⟨⟨_, rfl, rfl⟩, by rw [ht]; exact a7, a8.F ht⟩) a8.2.2 hd hlk))
theorem wp_lret {v : Int64} (hd : decode X.2.1 pc = .ok (.lreturn, 1)) (hr : X.2.2.2.1 = some .long) (q : Q (.inl (some (.long v))) I ρ) : sm_V G X d pc lv [.long v] I ρ Q := by
  refine ⟨_, I, ρ, q, Nat.le_refl _, Nat.le_refl _, fun p e R s m args below meth c H locs cells slots mc ms ls F a1 a2 a3 a4 a5 a6 a7 a8 a9 => ?_⟩
  obtain ⟨hx, hb, hml, hr2, hnm, hex, hlk, hown, hts, hgood, hcst⟩ := F
  exact W.widen (k := mc) (n := ms) (by omega) (by omega) (vy_ret (W.lret hx hb (hr2.trans hr) (fun t ht hW => ⟨⟨_, rfl, rfl⟩, by rw [ht]; exact a7, a8.F ht⟩) a8.2.2 hd hlk))
theorem wp_vret (hd : decode X.2.1 pc = .ok (.return_, 1)) (hr : X.2.2.2.1 = none) (q : Q (.inl none) I ρ) : sm_V G X d pc lv [] I ρ Q := by
  refine ⟨_, I, ρ, q, Nat.le_refl _, Nat.le_refl _, fun p e R s m args below meth c H locs cells slots mc ms ls F a1 a2 a3 a4 a5 a6 a7 a8 a9 => ?_⟩
  obtain ⟨hx, hb, hml, hr2, hnm, hex, hlk, hown, hts, hgood, hcst⟩ := F
  exact W.widen (k := mc) (n := ms) (by omega) (by omega) (vy_ret (W.vret hx hb (hr2.trans hr) (fun t ht hW => ⟨⟨_, rfl, rfl⟩, by rw [ht]; exact a7, a8.F ht⟩) a8.2.2 hd hlk))
theorem wp_aret {b : Nat} {rt : FieldType} (hd : decode X.2.1 pc = .ok (.areturn, 1)) (hr : X.2.2.2.1 = some rt) (hrt : (∃ n, rt = .object n) ∨ ∃ t, rt = .array t) (q : Q (.inl (some (.ref b))) I ρ) : sm_V G X d pc lv [.ref b] I ρ Q := by
  refine ⟨_, I, ρ, q, Nat.le_refl _, Nat.le_refl _, fun p e R s m args below meth c H locs cells slots mc ms ls F a1 a2 a3 a4 a5 a6 a7 a8 a9 => ?_⟩
  obtain ⟨hx, hb, hml, hr2, hnm, hex, hlk, hown, hts, hgood, hcst⟩ := F
  exact W.widen (k := mc) (n := ms) (by omega) (by omega) (vy_ret (W.aret hx hb (hr2.trans hr) hrt (Or.inr ⟨_, rfl⟩) (fun t ht hW => ⟨⟨_, rfl, rfl⟩, by rw [ht]; exact a7, a8.F ht⟩) a8.2.2 hd hlk))
end WP3
