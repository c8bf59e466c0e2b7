/-! ===== towns: a day ===== -/
set_option maxRecDepth 100000
/-- nothing of doors and rounds that aren't told -/
def wkT (T : tx) (w : Nat → Int32) : Prop := (∀ d, tx_D T ≤ d → d < 6 → w (48 + d) = nI 0) ∧ ∀ r, tx_R T ≤ r → r < 10 → w (54 + r) = nI 0
theorem z_set_none (P : Nat → Prop) [DecidablePred P] : ∀ n, (∀ i, i < n → ¬ P i) → z_set P n = nI 0
  | 0, _ => rfl
  | n + 1, h => by
    show (if P n then z_set P n ||| nI 1 <<< (nI n &&& 31) else z_set P n) = nI 0
    rw [if_neg (h n (by omega))]
    exact z_set_none P n (fun i hi => h i (by omega))
section C10a
variable {w : Nat → Int32} {T : tx}
theorem wkT_lift (h : wkT T w) (hk : tok T) {dd c : Nat} (hd : dd < tx_D T) (hc : c < tx_C T) : wkT T (r_lift T w dd c) := by
  obtain ⟨⟨h6, h5, h10⟩, -⟩ := hk
  refine ⟨fun d h1 h2 => ?_, fun r h1 h2 => ?_⟩
  · unfold r_lift
    rw [pk_un (by omega), pk_un (by omega), pk_un (by omega), pk_un (by omega), r_fcs_out _ _ (by omega)]
    exact h.1 d h1 h2
  · unfold r_lift
    rw [pk_un (by omega), pk_un (by omega), pk_un (by omega), pk_un (by omega), r_fcs_out _ _ (by omega)]
    exact h.2 r h1 h2
theorem wkT_fcs (h : wkT T w) {F : Nat → Int32} {dd : Nat} (hd : dd < 6) : wkT T (r_fcs F w dd 4) := ⟨fun d h1 h2 => by rw [r_fcs_out _ _ (by omega)]; exact h.1 d h1 h2, fun r h1 h2 => by rw [r_fcs_out _ _ (by omega)]; exact h.2 r h1 h2⟩
theorem wkT_rnd (hw : wok w) (h : wkT T w) (hk : tok T) : ∀ r, r ≤ tx_R T → wok (r_rnd T w r) ∧ wkT T (r_rnd T w r)
  | 0, _ => ⟨hw, h⟩
  | r + 1, hr => by
    have ih := wkT_rnd hw h hk r (by omega)
    have k := hk.2.2.2.1 r (by omega)
    have h6 : tx_D T ≤ 6 := hk.1.1
    show wok (if r_rnd T w r (54 + r) = nI 1 then (if z_due (tx_fr T r) (tx_ev T r) (r_rnd T w r 69) then r_lift T (r_rnd T w r) (tx_door T r) (tx_who T r) else r_rnd T w r) else r_rnd T w r) ∧ wkT T (if r_rnd T w r (54 + r) = nI 1 then (if z_due (tx_fr T r) (tx_ev T r) (r_rnd T w r 69) then r_lift T (r_rnd T w r) (tx_door T r) (tx_who T r) else r_rnd T w r) else r_rnd T w r)
    by_cases h1 : r_rnd T w r (54 + r) = nI 1
    · rw [if_pos h1]
      by_cases h2 : z_due (tx_fr T r) (tx_ev T r) (r_rnd T w r 69)
      · rw [if_pos h2]
        exact ⟨wok_lift ih.1 hk (by omega) k.1, wkT_lift ih.2 hk k.2.1 k.1⟩
      · rw [if_neg h2]
        exact ih
    · rw [if_neg h1]
      exact ih
theorem wkT_blow {l : Int32} (hw : wok w) (h : wkT T w) : ∀ n, n ≤ 6 → wkT T (r_blow l w n)
  | 0, _ => h
  | n + 1, hn => by
    have ih := wkT_blow (l := l) hw h n (by omega)
    obtain ⟨k, hk, e⟩ := z_lot_lt l (nI 16 * r_blow l w n 69 + nI 1 + nI n) (n := 4) (by decide) (by decide)
    show wkT T (r_blow1 l (r_blow l w n) n)
    unfold r_blow1
    rw [e, nI_clamp (by omega)]
    by_cases h9 : r_blow l w n (4 * n + k) ≤ 0
    · rw [if_pos h9]
      exact ih
    · rw [if_neg h9]
      exact ⟨fun d h1 h2 => by rw [pk_un (by omega)]; exact ih.1 d h1 h2, fun r h1 h2 => by rw [pk_un (by omega)]; exact ih.2 r h1 h2⟩
theorem wkT_wear (hw : wok w) (h : wkT T w) (hk : tok T) : ∀ n, n ≤ tx_D T → wok (r_wear T w n) ∧ wkT T (r_wear T w n)
  | 0, _ => ⟨hw, h⟩
  | n + 1, hn => by
    have ih := wkT_wear hw h hk n (by omega)
    have h6 : tx_D T ≤ 6 := hk.1.1
    exact ⟨wok_wear1 ih.1 hk (by omega), wkT_fcs ih.2 (by omega)⟩
/-- idle doors, in one -/
def r_idv (w : Nat → Int32) (d : Nat) : Int32 := if w (48 + d) = nI 1 then nI 0 else z_within (w (30 + d) + nI 1) (nI 0) (nI 999)
theorem r_idle_j : ∀ n, n ≤ 6 → ∀ j, r_idle w n j = if 30 ≤ j ∧ j < 30 + n then r_idv w (j - 30) else if 48 ≤ j ∧ j < 48 + n then nI 0 else w j
  | 0, _, j => by rw [if_neg (by omega), if_neg (by omega)]; rfl
  | n + 1, hn, j => by
    have ih := fun j => r_idle_j n (by omega) j
    have e48 : r_idle w n (48 + n) = w (48 + n) := by rw [ih, if_neg (by omega), if_neg (by omega)]
    have e30 : r_idle w n (30 + n) = w (30 + n) := by rw [ih, if_neg (by omega), if_neg (by omega)]
    show upd (upd (r_idle w n) (30 + n) (if r_idle w n (48 + n) = nI 1 then nI 0 else z_within (r_idle w n (30 + n) + nI 1) (nI 0) (nI 999))) (48 + n) (nI 0) j = _
    rw [e48, e30]
    by_cases h1 : j = 48 + n
    · rw [if_neg (c := 30 ≤ j ∧ j < 30 + (n + 1)) (by omega), if_pos (c := 48 ≤ j ∧ j < 48 + (n + 1)) (by omega), h1, pk_us]
    · rw [pk_un h1]
      by_cases h2 : j = 30 + n
      · rw [if_pos (c := 30 ≤ j ∧ j < 30 + (n + 1)) (by omega), h2, pk_us, show 30 + n - 30 = n by omega]
        rfl
      · rw [pk_un h2, ih]
        by_cases h3 : 30 ≤ j ∧ j < 30 + n
        · rw [if_pos h3, if_pos (c := 30 ≤ j ∧ j < 30 + (n + 1)) (by omega)]
        · rw [if_neg h3, if_neg (c := 30 ≤ j ∧ j < 30 + (n + 1)) (by omega)]
          by_cases h4 : 48 ≤ j ∧ j < 48 + n
          · rw [if_pos h4, if_pos (c := 48 ≤ j ∧ j < 48 + (n + 1)) (by omega)]
          · rw [if_neg h4, if_neg (c := 48 ≤ j ∧ j < 48 + (n + 1)) (by omega)]
def r_id2 (w : Nat → Int32) (n : Nat) : Nat → Int32 := fun j => if 30 ≤ j ∧ j < 30 + n then r_idv w (j - 30) else w j
theorem r_id2_0 : r_id2 w 0 = w := by
  funext j
  unfold r_id2
  rw [if_neg (by omega)]
theorem r_id2_s (n : Nat) : upd (r_id2 w n) (30 + n) (r_idv w n) = r_id2 w (n + 1) := by
  funext j
  by_cases h : j = 30 + n
  · rw [h, pk_us]
    unfold r_id2
    rw [if_pos (by omega), show 30 + n - 30 = n by omega]
  · rw [pk_un h]
    unfold r_id2
    by_cases h3 : 30 ≤ j ∧ j < 30 + n
    · rw [if_pos h3, if_pos (by omega)]
    · rw [if_neg h3, if_neg (by omega)]
theorem r_idv_n (hw : wok w) {d : Nat} (hd : d < 6) : (∃ f, f ≤ 999 ∧ r_idv w d = nI f) ∧ r_idv w d = if w (48 + d) = nI 1 then nI 0 else z_min (nI 999) (w (30 + d) + nI 1) := by
  obtain ⟨f, f1, f2⟩ := (hw.2.1 d hd).1
  unfold r_idv
  by_cases h : w (48 + d) = nI 1
  · rw [if_pos h, if_pos h]
    exact ⟨⟨0, by omega, rfl⟩, rfl⟩
  · rw [if_neg h, if_neg h, f2, nI_add]
    obtain ⟨g, g1, g2⟩ := z_within_n (m := 999) (nI (f + 1)) (by decide)
    exact ⟨⟨g, g1, g2⟩, (i_min_plain (f + 1) 999 (by decide) (by omega)).symm⟩
theorem wok_idle (hw : wok w) (h : wkT T w) : ∀ n, n ≤ 6 → wok (r_idle w n) ∧ wkT T (r_idle w n)
  | 0, _ => ⟨hw, h⟩
  | n + 1, hn => by
    have ih := wok_idle hw h n (by omega)
    show wok (r_idle1 (r_idle w n) n) ∧ wkT T (r_idle1 (r_idle w n) n)
    obtain ⟨f, f1, f2⟩ := (r_idv_n ih.1 (d := n) (by omega)).1
    have e : r_idle1 (r_idle w n) n = upd (upd (r_idle w n) (30 + n) (nI f)) (48 + n) (nI 0) := by
      unfold r_idle1
      rw [← f2]
      rfl
    rw [e]
    refine ⟨wok_t (wok_i ih.1 (by omega) f1) (by omega) (Or.inl rfl), fun d h1 h2 => ?_, fun r h1 h2 => ?_⟩
    · by_cases q : d = n
      · rw [q, pk_us]
      · rw [pk_un (by omega), pk_un (by omega)]
        exact ih.2.1 d h1 h2
    · rw [pk_un (by omega), pk_un (by omega)]
      exact ih.2.2 r h1 h2
theorem wok_day {st l : Int32} (hw : wok w) (h : wkT T w) (hk : tok T) : wok (r_day T st l w) ∧ wkT T (r_day T st l w) := by
  have h6 : tx_D T ≤ 6 := hk.1.1
  obtain ⟨a1, a2⟩ := wkT_rnd hw h hk (tx_R T) (Nat.le_refl _)
  have hb : wok (if st = nI 0 ∧ r_isW T l (r_rnd T w (tx_R T)) then r_blow l (r_rnd T w (tx_R T)) (tx_D T) else r_rnd T w (tx_R T)) ∧ wkT T (if st = nI 0 ∧ r_isW T l (r_rnd T w (tx_R T)) then r_blow l (r_rnd T w (tx_R T)) (tx_D T) else r_rnd T w (tx_R T)) := by
    by_cases q : st = nI 0 ∧ r_isW T l (r_rnd T w (tx_R T))
    · rw [if_pos q]
      exact ⟨wok_blow a1 _ h6, wkT_blow a1 a2 _ h6⟩
    · rw [if_neg q]
      exact ⟨a1, a2⟩
  obtain ⟨c1, c2⟩ := wkT_wear hb.1 hb.2 hk (tx_D T) (Nat.le_refl _)
  obtain ⟨e1, e2⟩ := wok_idle c1 c2 (tx_D T) h6
  refine ⟨wok_any e1 (by omega) _, fun d h1 h2 => ?_, fun r h1 h2 => ?_⟩
  · show upd _ 69 _ _ = _
    rw [pk_un (by omega)]
    exact e2.1 d h1 h2
  · show upd _ 69 _ _ = _
    rw [pk_un (by omega)]
    exact e2.2 r h1 h2
theorem wok_days {st l : Int32} (hw : wok w) (h : wkT T w) (hk : tok T) : ∀ n, wok (r_days T st l w n) ∧ wkT T (r_days T st l w n)
  | 0 => ⟨hw, h⟩
  | n + 1 => by
    have ih := wok_days (st := st) (l := l) hw h hk n
    exact wok_day ih.1 ih.2 hk
end C10a
section C10
variable {G : sm_G} {d : Nat} {I : sm_I} {ρ : sm_R} {tp : Nat} {q : tq4} {T : tx} {b : Nat} {w : Nat → Int32} {s : Int32}
/-- skies: drawn, still -/
def cSk (k : Nat) (st : Int32) : Prop := (k = 242 ∧ st = nI 0) ∨ (k = 243 ∧ st = nI 1)
/-- the end of a day: idle doors -/
theorem gb_idle (ht : td ρ b) (hb : 79 ≤ b ∧ b ≤ 882) (J0 : sm_I) (hf0 : cf (tWs b) I J0) (hR : tR J0 b w s) (hw : wok w) (hz : wkT T w) (hT : cT I ρ tp q T) (hk : tok T) (k : Nat) :
    sm_V G xX5_goesBy (d + 406) 112 [.ref b, .ref tp, .ref k, .retAddr 0] [] J0 ρ (sm_Qv (fun I1 ρ1 => ρ1 = ρ ∧ cf (tWs b) I I1 ∧ tR I1 b (upd (r_idle w (tx_D T)) 69 (r_idle w (tx_D T) 69 + nI 1)) s)) := by
  have hd6 : tx_D T ≤ 6 := hk.1.1
  refine wp_iconst (nI 0) 113 rfl dX5_goesBy_112 (by decide) ?_
  refine wp_istore3 114 rfl dX5_goesBy_113 (by decide) rfl ?_
  refine sm_for (P := fun p => ∀ J : sm_I, cf (tWs b) I J → tR J b (r_id2 w p) s → sm_V G xX5_goesBy (d + 406) 114 [.ref b, .ref tp, .ref k, .int (nI p)] [] J ρ _) 0 (tx_D T) (Nat.zero_le _) ?_ (fun p _ hp ih => ?_) J0 hf0 (by rw [r_id2_0]; exact hR)
  · intro J hf hJ
    have hT1 := hT.kept (hf.T (tW_s hb))
    refine wp_iload3 115 rfl dX5_goesBy_114 ?_
    refine wp_aload1 116 rfl dX5_goesBy_115 ?_
    refine wp_getr 119 rfl dX5_goesBy_116 fX5_42_5 (o5 hT1) (p5_0 hT1) ?_
    refine wp_Ve0 122 rfl dX5_goesBy_119 kJ5_size lX5_48 (o18 (cT_d hT1)) (nl rfl) (nl rfl) (s_size (cT_d hT1)) ?_
    refine wp_icmp_ge 125 167 rfl rfl dX5_goesBy_122 (fun c122 => ?_) (fun c122 => absurd (nI_le (Nat.le_refl _) (by omega)) c122)
    refine wp_aload0 168 rfl dX5_goesBy_167 ?_
    refine wp_iconst (nI 0) 169 rfl dX5_goesBy_168 (by decide) ?_
    refine wp_puti 172 rfl dX5_goesBy_169 pX5_69_6 (o6 ht) (⟨rfl, rfl⟩) ?_
    have hi : ∀ j, r_idle w (tx_D T) j = if 30 ≤ j ∧ j < 30 + tx_D T then r_idv w (j - 30) else if 48 ≤ j ∧ j < 48 + tx_D T then nI 0 else w j := r_idle_j _ hd6
    have hJ2 : tR (sm_u J b 7 (nI 0)) b (r_idle w (tx_D T)) s := by
      refine hJ.own (fun j hj => ?_) ?_ ?_ ?_ ?_
      · rw [hi]
        unfold r_id2
        by_cases h3 : 30 ≤ j ∧ j < 30 + tx_D T
        · rw [if_pos h3, if_pos h3]
        · rw [if_neg h3, if_neg h3, if_neg (by omega)]
      · rw [pk_un (by decide), hJ.2.2.2.1]
        refine z_set_congr (fun i hi2 => ?_)
        rw [hi, if_neg (by omega), if_neg (by omega)]
        unfold r_id2
        rw [if_neg (by omega)]
      · rw [pk_us]
        refine (z_set_none _ 6 (fun i hi2 => ?_)).symm
        rw [hi, if_neg (by omega)]
        by_cases h4 : i < tx_D T
        · rw [if_pos (by omega)]
          decide
        · rw [if_neg (by omega), hz.1 i (by omega) hi2]
          decide
      · rw [pk_un (by decide), hJ.2.2.2.2.2.1, hi, if_neg (by omega), if_neg (by omega)]
        unfold r_id2
        rw [if_neg (by omega)]
      · rw [pk_un (by decide)]
        exact hJ.2.2.2.2.2.2
    have e8 : sm_u J b 7 (nI 0) b 8 = r_idle w (tx_D T) 69 := hJ2.2.2.2.2.2.1
    refine wp_aload0 173 rfl dX5_goesBy_172 ?_
    refine wp_dup 174 rfl dX5_goesBy_173 rfl ?_
    refine wp_geti 177 rfl dX5_goesBy_174 fX5_72_6 (o6 ht) ?_
    rw [e8]
    refine wp_iconst (nI 1) 178 rfl dX5_goesBy_177 (by decide) ?_
    refine wp_iadd 179 rfl dX5_goesBy_178 ?_
    refine wp_puti 182 rfl dX5_goesBy_179 pX5_72_6 (o6 ht) (⟨rfl, rfl⟩) ?_
    refine wp_vret dX5_goesBy_182 rfl ?_
    refine ⟨rfl, rfl, (hf.tr (cf.su (by omega))).tr (cf.su (by omega)), ?_⟩
    refine hJ2.own (fun j hj => pk_un (by omega)) ?_ ?_ ?_ ?_
    · rw [pk_un (by decide), hJ2.2.2.2.1]
      exact z_set_congr (fun i hi2 => by rw [pk_un (by omega)])
    · rw [pk_un (by decide), hJ2.2.2.2.2.1]
      exact z_set_congr (fun i hi2 => by rw [pk_un (by omega)])
    · rw [pk_us, pk_us]
    · rw [pk_un (by decide)]
      exact hJ2.2.2.2.2.2.2
  · intro J hf hJ
    have hT1 := hT.kept (hf.T (tW_s hb))
    have e7 : J b 7 = z_set (fun d => w (48 + d) = nI 1) 6 := by
      rw [hJ.2.2.2.2.1]
      refine z_set_congr (fun i hi2 => ?_)
      unfold r_id2
      rw [if_neg (by omega)]
    have e30 : J (b + 9) p = w (30 + p) := by
      rw [(hJ.2.1 p (by omega)).2.1]
      unfold r_id2
      rw [if_neg (by omega)]
    have eb := z_set_bit (fun d => w (48 + d) = nI 1) (n := 6) (r := p) (by decide) (by omega)
    obtain ⟨-, ev⟩ := r_idv_n hw (d := p) (by omega)
    have key : sm_V G xX5_goesBy (d + 406) 160 [.ref b, .ref tp, .ref k, .int (nI p)] [.int (r_idv w p), .int (nI p), .ref (b + 9)] J ρ (sm_Qv (fun I1 ρ1 => ρ1 = ρ ∧ cf (tWs b) I I1 ∧ tR I1 b (upd (r_idle w (tx_D T)) 69 (r_idle w (tx_D T) 69 + nI 1)) s)) := by
      refine wp_iast 161 rfl dX5_goesBy_160 (s6_2 ht) (p) (rfl) (⟨by omega, by decide⟩) ?_
      refine wp_iincN3 164 rfl dX5_goesBy_161 (by decide) rfl ?_
      refine wp_goto 114 rfl dX5_goesBy_164 ?_
      refine ih _ (hf.tr (cf.su (by omega))) ?_
      have := hJ.row (o := 9) (j := 30) (by omega) (dd := p) (by omega) (r_idv w p)
      rw [r_id2_s] at this
      exact this
    refine wp_iload3 115 rfl dX5_goesBy_114 ?_
    refine wp_aload1 116 rfl dX5_goesBy_115 ?_
    refine wp_getr 119 rfl dX5_goesBy_116 fX5_42_5 (o5 hT1) (p5_0 hT1) ?_
    refine wp_Ve0 122 rfl dX5_goesBy_119 kJ5_size lX5_48 (o18 (cT_d hT1)) (nl rfl) (nl rfl) (s_size (cT_d hT1)) ?_
    refine wp_icmp_ge 125 167 rfl rfl dX5_goesBy_122 (fun c122 => absurd c122 (nI_ge hp (by omega))) (fun c122 => ?_)
    refine wp_aload0 126 rfl dX5_goesBy_125 ?_
    refine wp_getr 129 rfl dX5_goesBy_126 fX5_20_6 (o6 ht) (p6_2 ht) ?_
    refine wp_iload3 130 rfl dX5_goesBy_129 ?_
    refine wp_aload0 131 rfl dX5_goesBy_130 ?_
    refine wp_geti 134 rfl dX5_goesBy_131 fX5_69_6 (o6 ht) ?_
    rw [e7]
    refine wp_iload3 135 rfl dX5_goesBy_134 ?_
    refine wp_ishr 136 rfl dX5_goesBy_135 ?_
    refine wp_iconst (nI 1) 137 rfl dX5_goesBy_136 (by decide) ?_
    refine wp_iand 138 rfl dX5_goesBy_137 ?_
    show sm_V G xX5_goesBy (d + 406) 138 _ (.int ((z_set (fun d => w (48 + d) = nI 1) 6 >>> (nI p &&& 31)) &&& nI 1) :: _) J ρ _
    rw [eb]
    by_cases h1 : w (48 + p) = nI 1
    · rw [if_pos h1] at ev ⊢
      rw [ev] at key
      refine wp_iconst (nI 1) 139 rfl dX5_goesBy_138 (by decide) ?_
      refine wp_icmp_ne 142 146 rfl rfl dX5_goesBy_139 (fun c139 => absurd (rfl) c139) (fun c139 => ?_)
      refine wp_iconst (nI 0) 143 rfl dX5_goesBy_142 (by decide) ?_
      refine wp_goto 160 rfl dX5_goesBy_143 ?_
      exact key
    · rw [if_neg h1] at ev ⊢
      rw [ev] at key
      refine wp_iconst (nI 1) 139 rfl dX5_goesBy_138 (by decide) ?_
      refine wp_icmp_ne 142 146 rfl rfl dX5_goesBy_139 (fun c139 => ?_) (fun c139 => absurd c139 (by decide))
      refine wp_sipush (nI 999) 149 rfl dX5_goesBy_146 (by decide) ?_
      refine wp_aload0 150 rfl dX5_goesBy_149 ?_
      refine wp_getr 153 rfl dX5_goesBy_150 fX5_20_6 (o6 ht) (p6_2 ht) ?_
      refine wp_iload3 154 rfl dX5_goesBy_153 ?_
      refine wp_iald 155 rfl dX5_goesBy_154 (s6_2 ht) (p) (by first | rfl | simp only [pk_mul, nI_add]) (⟨by omega, by decide⟩) ?_
      rw [e30]
      refine wp_iconst (nI 1) 156 rfl dX5_goesBy_155 (by decide) ?_
      refine wp_iadd 157 rfl dX5_goesBy_156 ?_
      refine wp_mmin 160 rfl dX5_goesBy_157 q1237 (nl rfl) ?_
      exact key
end C10
