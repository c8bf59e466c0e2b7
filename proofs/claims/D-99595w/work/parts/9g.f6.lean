/-! ===== the component's tokens: read ===== -/
set_option maxRecDepth 100000
/-- a token's sort as the component has it -/
def ctS (c : Nat) : Nat := if c = 0 then 4 else if c = 1 then 0 else if c = 2 then 1 else if c = 3 then 5 else if c < 20 then 2 else 3
/-- a sign's byte -/
def ctC (c : Nat) : Nat := if c = 4 then 59 else if c = 5 then 61 else if c = 6 then 40 else if c = 7 then 41 else if c = 8 then 43 else if c = 9 then 45 else if c = 10 then 42 else if c = 13 then 60 else if c = 15 then 47 else 0
abbrev cGd (c : Nat) : Prop := ¬ c = 0 ∧ ¬ c = 3
abbrev kp (P : Nat × (Nat → Int32)) (k : Nat) : Nat := ky_pos P.1 (ky_c P.1 P.2) k
abbrev kn (P : Nat × (Nat → Int32)) (k : Nat) : Nat := ky_end P.1 (ky_c P.1 P.2) (kp P k)
abbrev kt (P : Nat × (Nat → Int32)) : tkf := ky_tk P.1 P.2
/-- the k-th token as the component has it -/
def cTok (I : sm_I) (P : Nat × (Nat → Int32)) (k : Nat) : Prop := I 69 k = nI (ctS (kt P k).1) ∧ I 70 k = nI (kt P k).2.1 ∧ I 71 k = nI (kn P k) ∧ (4 ≤ (kt P k).1 → (kt P k).1 < 20 → I 72 k = nI (ctC (kt P k).1)) ∧ (20 ≤ (kt P k).1 → I 72 k = nI ((kt P k).1 - 20))
def ctk (I : sm_I) (P : Nat × (Nat → Int32)) : Prop := ∀ k, k ≤ 400 → (∀ j, j < k → cGd (kt P j).1) → cTok I P k
/-- what cutting may change -/
def tJ (I J : sm_I) : Prop := (∀ a, ¬ (a = 66 ∨ 69 ≤ a ∧ a ≤ 72) → J a = I a) ∧ ∀ k, ¬ k = 7 → J 66 k = I 66 k
theorem tJ.rf {I : sm_I} : tJ I I := ⟨fun _ _ => rfl, fun _ _ => rfl⟩
theorem tJ.tr {I J K : sm_I} (h : tJ I J) (h2 : tJ J K) : tJ I K := ⟨fun a ha => (h2.1 a ha).trans (h.1 a ha), fun k hk => (h2.2 k hk).trans (h.2 k hk)⟩
theorem tJ.cP {I J : sm_I} {P : Nat × (Nat → Int32)} (h : tJ I J) (hP : cP I P) : cP J P := by
  obtain ⟨h1, h2, h3⟩ := hP
  refine ⟨(h.2 2 (by decide)).trans h1, h2, fun j hj => ?_⟩
  rw [h.1 68 (by omega)]
  exact h3 j hj
theorem M_ct_69 {I : sm_I} {K j : Nat} {s a b w : Int32} : M_ct I K s a b w 69 j = if j = K then s else I 69 j := by
  simp [M_ct, sm_u, upd]
theorem M_ct_70 {I : sm_I} {K j : Nat} {s a b w : Int32} : M_ct I K s a b w 70 j = if j = K then a else I 70 j := by
  simp [M_ct, sm_u, upd]
theorem M_ct_71 {I : sm_I} {K j : Nat} {s a b w : Int32} : M_ct I K s a b w 71 j = if j = K then b else I 71 j := by
  simp [M_ct, sm_u, upd]
theorem M_ct_72 {I : sm_I} {K j : Nat} {s a b w : Int32} : M_ct I K s a b w 72 j = if j = K then w else I 72 j := by
  simp [M_ct, sm_u, upd]
theorem M_ct_66 {I : sm_I} {K j : Nat} {s a b w : Int32} : M_ct I K s a b w 66 j = if j = 7 then nI (K + 1) else I 66 j := by
  simp [M_ct, sm_u, upd]
theorem M_ct_J {I : sm_I} {K : Nat} {s a b w : Int32} : tJ I (M_ct I K s a b w) := by
  refine ⟨fun x hx => ?_, fun k hk => ?_⟩
  · unfold M_ct
    rw [sm_u_ne _ _ _ (by omega), sm_u_ne _ _ _ (by omega), sm_u_ne _ _ _ (by omega), sm_u_ne _ _ _ (by omega), sm_u_ne _ _ _ (by omega)]
  · rw [M_ct_66, if_neg hk]
def tL (J : sm_I) (P : Nat × (Nat → Int32)) (K : Nat) : Prop := J 66 7 = nI K ∧ ∀ k, k < K → cTok J P k
theorem tL.add {J : sm_I} {P : Nat × (Nat → Int32)} {K : Nat} (h : tL J P K) {s a b : Nat} {w : Int32} (h1 : s = ctS (kt P K).1) (h2 : a = (kt P K).2.1) (h3 : b = kn P K) (h4 : 4 ≤ (kt P K).1 → (kt P K).1 < 20 → w = nI (ctC (kt P K).1)) (h5 : 20 ≤ (kt P K).1 → w = nI ((kt P K).1 - 20)) : tL (M_ct J K (nI s) (nI a) (nI b) w) P (K + 1) := by
  refine ⟨by rw [M_ct_66, if_pos rfl], fun k hk => ?_⟩
  unfold cTok
  rw [M_ct_69, M_ct_70, M_ct_71, M_ct_72]
  by_cases e : k = K
  · subst e
    rw [if_pos rfl, if_pos rfl, if_pos rfl, if_pos rfl, h1, h2, h3]
    exact ⟨rfl, rfl, rfl, h4, h5⟩
  · rw [if_neg e, if_neg e, if_neg e, if_neg e]
    exact h.2 k (by omega)
theorem ky_sg_C : ∀ c : Fin 256, ky_sg c.val ≠ 3 → 4 ≤ ky_sg c.val ∧ ky_sg c.val < 20 ∧ ctC (ky_sg c.val) = c.val := by decide +kernel
theorem ctS_find {nm : Nat} (h : ¬ ky_find nm 21 = 1) : ctS (ky_find nm 21) = 3 ∧ 20 ≤ ky_find nm 21 := by
  rcases ky_find_in nm 21 with e | ⟨e1, e2⟩
  · exact absurd e h
  · refine ⟨?_, e1⟩
    unfold ctS
    rw [if_neg (by omega), if_neg (by omega), if_neg (by omega), if_neg (by omega), if_neg (by omega)]
section F6
variable {G : sm_G} {d : Nat} {I : sm_I} {ρ : sm_R} {P : Nat × (Nat → Int32)} {QQ : sm_O → sm_I → sm_R → Prop}
/-- a token laid, and on -/
theorem tr_add (hK : kd ρ) {J : sm_I} {K k e s : Nat} {w : Int32} {x3 : Value} (hm : J 66 7 = nI K) (hK2 : K ≤ 2000) (hs : s < 128) (hk : k ≤ 2001) (he : e ≤ 2001) (hw : w.toInt16.toInt32 = w) (hx3 : x3.category = 1)
    (kk : sm_V G xX2_read (d + 5) 9 [.ref 66, .int (nI e), .int (nI (if s = 5 then 0 else 1)), .retAddr 0, .retAddr 0, .retAddr 0, .retAddr 0] [] (M_ct J K (nI s) (nI k) (nI e) w) ρ QQ) :
    sm_V G xX2_read (d + 5) 186 [.ref 66, .int (nI k), .int (nI 1), x3, .int (nI e), .int (nI s), .int w] [] J ρ QQ := by
  refine wp_aload0 187 rfl dX2_read_186 ?_
  refine wp_iload5 189 rfl dX2_read_187 ?_
  refine wp_iload1 190 rfl dX2_read_189 ?_
  refine wp_iload4 192 rfl dX2_read_190 ?_
  refine wp_iload6 194 rfl dX2_read_192 ?_
  refine wp_Ve4 197 rfl dX2_read_194 kX2_add lX2_109 (o3 hK) (nl rfl) (nl rfl) (s_tadd hK hm hK2 hs hk he hw) ?_
  refine wp_iload5 199 rfl dX2_read_197 ?_
  refine wp_iconst (nI 5) 200 rfl dX2_read_199 (by decide) ?_
  by_cases h5 : s = 5
  · rw [if_pos h5] at kk
    refine wp_icmp_eq 203 207 rfl rfl dX2_read_200 (fun c200 => ?_) (fun c200 => absurd (by rw [h5]) c200)
    refine wp_iconst (nI 0) 208 rfl dX2_read_207 (by decide) ?_
    refine wp_istore2 209 rfl dX2_read_208 (by decide) rfl ?_
    refine wp_iload4 211 rfl dX2_read_209 ?_
    refine wp_istore1 212 rfl dX2_read_211 (by decide) rfl ?_
    refine wp_goto 9 rfl dX2_read_212 ?_
    exact wp_weakK kk ⟨Or.inr rfl, Or.inr rfl, Or.inr rfl, Or.inl rfl, Or.inl rfl, Or.inl rfl, Or.inl rfl, trivial⟩
  · rw [if_neg h5] at kk
    refine wp_icmp_eq 203 207 rfl rfl dX2_read_200 (fun c200 => absurd c200 (fun z => h5 ((nI_eq (by omega) (by decide)).mp z))) (fun c200 => ?_)
    refine wp_iconst (nI 1) 204 rfl dX2_read_203 (by decide) ?_
    refine wp_goto 208 rfl dX2_read_204 ?_
    refine wp_istore2 209 rfl dX2_read_208 (by decide) rfl ?_
    refine wp_iload4 211 rfl dX2_read_209 ?_
    refine wp_istore1 212 rfl dX2_read_211 (by decide) rfl ?_
    refine wp_goto 9 rfl dX2_read_212 ?_
    exact wp_weakK kk ⟨Or.inr rfl, Or.inr rfl, Or.inr rfl, Or.inl rfl, Or.inl rfl, Or.inl rfl, Or.inl rfl, trivial⟩
/-- the end -/
theorem tr_stop (hK : kd ρ) {J : sm_I} {k : Nat} (kk : QQ (.inl none) J ρ) : sm_V G xX2_read (d + 5) 215 [.ref 66, .int (nI k), .int (nI 0), .retAddr 0, .retAddr 0, .retAddr 0, .retAddr 0] [] J ρ QQ := by
  refine wp_iload2 216 rfl dX2_read_215 ?_
  refine wp_if_eq 219 227 rfl rfl dX2_read_216 (fun c216 => ?_) (fun c216 => absurd (rfl) c216)
  refine wp_vret dX2_read_227 rfl ?_
  exact kk
theorem s_tread (hK : kd ρ) (hP : cP I P) : sm_M G xX2_read (d + 5) [.ref 66] I ρ (sm_Qv (fun I1 ρ1 => ρ1 = ρ ∧ tJ I I1 ∧ ctk I1 P)) := by
  have p2 := hP.2.1
  show sm_V G xX2_read (d + 5) 0 [.ref 66, .retAddr 0, .retAddr 0, .retAddr 0, .retAddr 0, .retAddr 0, .retAddr 0] [] I ρ _
  refine wp_aload0 1 rfl dX2_read_0 ?_
  refine wp_iconst (nI 0) 2 rfl dX2_read_1 (by decide) ?_
  refine wp_puti 5 rfl dX2_read_2 pX2_84_3 (o3 hK) (⟨rfl, rfl⟩) ?_
  refine wp_iconst (nI 0) 6 rfl dX2_read_5 (by decide) ?_
  refine wp_istore1 7 rfl dX2_read_6 (by decide) rfl ?_
  refine wp_iconst (nI 1) 8 rfl dX2_read_7 (by decide) ?_
  refine wp_istore2 9 rfl dX2_read_8 (by decide) rfl ?_
  have g0 : tJ I (sm_u I 66 7 (nI 0)) := ⟨fun a ha => sm_u_ne _ _ _ (by omega), fun k hk => by rw [sm_u_eq, pk_un hk]⟩
  have l0 : tL (sm_u I 66 7 (nI 0)) P 0 := ⟨by rw [sm_u_eq, pk_us], fun k hk => absurd hk (Nat.not_lt_zero _)⟩
  have main : ∀ n k K, P.1 + 1 ≤ n + k → k ≤ P.1 → K ≤ k → ky_sk (ky_c P.1 P.2) k = kp P K → ∀ J : sm_I, tJ I J → tL J P K → (∀ j, j < K → cGd (kt P j).1) → sm_V G xX2_read (d + 5) 9 [.ref 66, .int (nI k), .int (nI 1), .retAddr 0, .retAddr 0, .retAddr 0, .retAddr 0] [] J ρ (sm_Qv (fun I1 ρ1 => ρ1 = ρ ∧ tJ I I1 ∧ ctk I1 P)) := by
    intro n
    induction n with
    | zero => exact fun k K h1 h2 => absurd h1 (by omega)
    | succ n ih =>
      intro k K hn hk hKk hpos J hJ hL hgd
      have hPJ := hJ.cP hP
      have p1 := hPJ.1
      by_cases hlt : k < P.1
      · have eb : J 68 k = sb (ky_c P.1 P.2 k) := hPJ.at hlt
        have c256 := ky_c_256 P.1 P.2 k
        obtain ⟨w32, w9, w10, w13⟩ := sb_w ⟨ky_c P.1 P.2 k, c256⟩
        have w32 : sb (ky_c P.1 P.2 k) = nI 32 ↔ ky_c P.1 P.2 k = 32 := w32
        have w9 : sb (ky_c P.1 P.2 k) = nI 9 ↔ ky_c P.1 P.2 k = 9 := w9
        have w10 : sb (ky_c P.1 P.2 k) = nI 10 ↔ ky_c P.1 P.2 k = 10 := w10
        have w13 : sb (ky_c P.1 P.2 k) = nI 13 ↔ ky_c P.1 P.2 k = 13 := w13
        refine wp_iload1 10 rfl dX2_read_9 ?_
        refine wp_aload0 11 rfl dX2_read_10 ?_
        refine wp_geti 14 rfl dX2_read_11 fX2_76_3 (o3 hK) ?_
        rw [p1]
        refine wp_icmp_ge 17 215 rfl rfl dX2_read_14 (fun c14 => absurd c14 (nI_ge hlt (by omega))) (fun c14 => ?_)
        refine wp_iload2 18 rfl dX2_read_17 ?_
        refine wp_if_eq 21 215 rfl rfl dX2_read_18 (fun c18 => absurd c18 (by decide)) (fun c18 => ?_)
        refine wp_aload0 22 rfl dX2_read_21 ?_
        refine wp_getr 25 rfl dX2_read_22 fX2_59_3 (o3 hK) (p3_1 hK) ?_
        refine wp_iload1 26 rfl dX2_read_25 ?_
        refine wp_bald 27 rfl dX2_read_26 (s3_1 hK) (k) (by first | rfl | simp only [pk_mul, nI_add]) (⟨by omega, by decide⟩) ?_
        rw [eb]
        refine wp_istore3 28 rfl dX2_read_27 (by decide) rfl ?_
        refine wp_iload1 29 rfl dX2_read_28 ?_
        refine wp_iconst (nI 1) 30 rfl dX2_read_29 (by decide) ?_
        refine wp_iadd 31 rfl dX2_read_30 ?_
        rw [nI_add]
        refine wp_istore4 33 rfl dX2_read_31 (by decide) rfl ?_
        by_cases hW : ky_W (ky_c P.1 P.2 k)
        · have hgo := ih (k + 1) K (by omega) (by omega) (by omega) (by rw [← ky_sk_s p2 hW]; exact hpos) J hJ hL hgd
          have hend : sm_V G xX2_read (d + 5) 57 [.ref 66, .int (nI k), .int (nI 1), .int (sb (ky_c P.1 P.2 k)), .int (nI (k + 1)), .retAddr 0, .retAddr 0] [] J ρ (sm_Qv (fun I1 ρ1 => ρ1 = ρ ∧ tJ I I1 ∧ ctk I1 P)) := by
            refine wp_iincN1 60 rfl dX2_read_57 (by decide) rfl ?_
            refine wp_goto 9 rfl dX2_read_60 ?_
            exact wp_weakK hgo ⟨Or.inr rfl, Or.inr rfl, Or.inr rfl, Or.inl rfl, Or.inl rfl, Or.inr rfl, Or.inr rfl, trivial⟩
          by_cases e32 : ky_c P.1 P.2 k = 32
          · refine wp_iload3 34 rfl dX2_read_33 ?_
            refine wp_bipush (nI 32) 36 rfl dX2_read_34 (by decide) ?_
            refine wp_icmp_eq 39 57 rfl rfl dX2_read_36 (fun c36 => ?_) (fun c36 => absurd (w32.mpr e32) c36)
            exact hend
          · by_cases e9 : ky_c P.1 P.2 k = 9
            · refine wp_iload3 34 rfl dX2_read_33 ?_
              refine wp_bipush (nI 32) 36 rfl dX2_read_34 (by decide) ?_
              refine wp_icmp_eq 39 57 rfl rfl dX2_read_36 (fun c36 => absurd c36 (fun z => e32 (w32.mp z))) (fun c36 => ?_)
              refine wp_iload3 40 rfl dX2_read_39 ?_
              refine wp_bipush (nI 9) 42 rfl dX2_read_40 (by decide) ?_
              refine wp_icmp_eq 45 57 rfl rfl dX2_read_42 (fun c42 => ?_) (fun c42 => absurd (w9.mpr e9) c42)
              exact hend
            · by_cases e10 : ky_c P.1 P.2 k = 10
              · refine wp_iload3 34 rfl dX2_read_33 ?_
                refine wp_bipush (nI 32) 36 rfl dX2_read_34 (by decide) ?_
                refine wp_icmp_eq 39 57 rfl rfl dX2_read_36 (fun c36 => absurd c36 (fun z => e32 (w32.mp z))) (fun c36 => ?_)
                refine wp_iload3 40 rfl dX2_read_39 ?_
                refine wp_bipush (nI 9) 42 rfl dX2_read_40 (by decide) ?_
                refine wp_icmp_eq 45 57 rfl rfl dX2_read_42 (fun c42 => absurd c42 (fun z => e9 (w9.mp z))) (fun c42 => ?_)
                refine wp_iload3 46 rfl dX2_read_45 ?_
                refine wp_bipush (nI 10) 48 rfl dX2_read_46 (by decide) ?_
                refine wp_icmp_eq 51 57 rfl rfl dX2_read_48 (fun c48 => ?_) (fun c48 => absurd (w10.mpr e10) c48)
                exact hend
              · have e13 : ky_c P.1 P.2 k = 13 := by unfold ky_W at hW; omega
                refine wp_iload3 34 rfl dX2_read_33 ?_
                refine wp_bipush (nI 32) 36 rfl dX2_read_34 (by decide) ?_
                refine wp_icmp_eq 39 57 rfl rfl dX2_read_36 (fun c36 => absurd c36 (fun z => e32 (w32.mp z))) (fun c36 => ?_)
                refine wp_iload3 40 rfl dX2_read_39 ?_
                refine wp_bipush (nI 9) 42 rfl dX2_read_40 (by decide) ?_
                refine wp_icmp_eq 45 57 rfl rfl dX2_read_42 (fun c42 => absurd c42 (fun z => e9 (w9.mp z))) (fun c42 => ?_)
                refine wp_iload3 46 rfl dX2_read_45 ?_
                refine wp_bipush (nI 10) 48 rfl dX2_read_46 (by decide) ?_
                refine wp_icmp_eq 51 57 rfl rfl dX2_read_48 (fun c48 => absurd c48 (fun z => e10 (w10.mp z))) (fun c48 => ?_)
                refine wp_iload3 52 rfl dX2_read_51 ?_
                refine wp_bipush (nI 13) 54 rfl dX2_read_52 (by decide) ?_
                refine wp_icmp_ne 57 63 rfl rfl dX2_read_54 (fun c54 => absurd (w13.mpr e13) c54) (fun c54 => ?_)
                exact hend
        · have hkp : kp P K = k := by rw [← hpos]; exact ky_sk_o hW
          have hkn : kn P K = ky_end P.1 (ky_c P.1 P.2) k := by unfold kn; rw [hkp]
          have htk : kt P K = ky_at P.1 (ky_c P.1 P.2) k := by
            show ky_at P.1 (ky_c P.1 P.2) (kp P K) = _
            rw [hkp]
          obtain ⟨n1, n2⟩ := ky_end_gt (b := P.2) p2 hlt
          rw [← hkn] at n1 n2
          have hnext : ∀ w s, tL (M_ct J K (nI s) (nI k) (nI (kn P K)) w) P (K + 1) → s = ctS (kt P K).1 → sm_V G xX2_read (d + 5) 9 [.ref 66, .int (nI (kn P K)), .int (nI (if s = 5 then 0 else 1)), .retAddr 0, .retAddr 0, .retAddr 0, .retAddr 0] [] (M_ct J K (nI s) (nI k) (nI (kn P K)) w) ρ (sm_Qv (fun I1 ρ1 => ρ1 = ρ ∧ tJ I I1 ∧ ctk I1 P)) := by
            intro w s hl2 hs
            have hj2 : tJ I (M_ct J K (nI s) (nI k) (nI (kn P K)) w) := hJ.tr M_ct_J
            by_cases h5 : s = 5
            · rw [if_pos h5]
              have h3 : (kt P K).1 = 3 := by
                rw [h5] at hs
                unfold ctS at hs
                repeat' split at hs
                all_goals omega
              have fin : (fun I1 ρ1 => ρ1 = ρ ∧ tJ I I1 ∧ ctk I1 P) (M_ct J K (nI s) (nI k) (nI (kn P K)) w) ρ := ⟨rfl, hj2, fun q hq hg => hl2.2 q (by
                by_cases e : K < q
                · exact absurd h3 (hg K e).2
                · omega)⟩
              have p9 := (hj2.cP hP).1
              by_cases e : kn P K < P.1
              · refine wp_iload1 10 rfl dX2_read_9 ?_
                refine wp_aload0 11 rfl dX2_read_10 ?_
                refine wp_geti 14 rfl dX2_read_11 fX2_76_3 (o3 hK) ?_
                rw [p9]
                refine wp_icmp_ge 17 215 rfl rfl dX2_read_14 (fun c14 => absurd c14 (nI_ge e (by omega))) (fun c14 => ?_)
                refine wp_iload2 18 rfl dX2_read_17 ?_
                refine wp_if_eq 21 215 rfl rfl dX2_read_18 (fun c18 => ?_) (fun c18 => absurd (rfl) c18)
                exact tr_stop hK ⟨rfl, fin⟩
              · refine wp_iload1 10 rfl dX2_read_9 ?_
                refine wp_aload0 11 rfl dX2_read_10 ?_
                refine wp_geti 14 rfl dX2_read_11 fX2_76_3 (o3 hK) ?_
                rw [p9]
                refine wp_icmp_ge 17 215 rfl rfl dX2_read_14 (fun c14 => ?_) (fun c14 => absurd (nI_le (by omega) (by omega)) c14)
                exact tr_stop hK ⟨rfl, fin⟩
            · rw [if_neg h5]
              refine ih (kn P K) (K + 1) (by omega) n2 (by omega) rfl _ hj2 hl2 (fun j hj => ?_)
              by_cases e : j = K
              · rw [e]
                refine ⟨fun z => ?_, fun z => ?_⟩
                · rw [htk] at z
                  unfold ky_at at z
                  rw [if_neg (by omega)] at z
                  have f1 := ky_find_in (ky_nm (ky_c P.1 P.2) k (ky_le (ky_c P.1 P.2) k - k)) 21
                  have f2 := ky_sg_in (ky_c P.1 P.2 k)
                  split at z
                  · have z : (if 8 < ky_le (ky_c P.1 P.2) k - k then 3 else ky_find (ky_nm (ky_c P.1 P.2) k (ky_le (ky_c P.1 P.2) k - k)) 21) = 0 := z
                    split at z <;> omega
                  · split at z
                    · have z : (if 4 < ky_de (ky_c P.1 P.2) k - k then 3 else 2) = 0 := z
                      split at z <;> omega
                    · have z : ky_sg (ky_c P.1 P.2 k) = 0 := z
                      omega
                · apply h5
                  rw [hs, z]
                  rfl
              · exact hgd j (by omega)
          have c1 := sb_n (c := ky_c P.1 P.2 k) c256
          have hadd : ∀ (x3 : Value) (w : Int32) (s : Nat), x3.category = 1 → s < 128 → w.toInt16.toInt32 = w → s = ctS (kt P K).1 → (4 ≤ (kt P K).1 → (kt P K).1 < 20 → w = nI (ctC (kt P K).1)) → (20 ≤ (kt P K).1 → w = nI ((kt P K).1 - 20)) → sm_V G xX2_read (d + 5) 186 [.ref 66, .int (nI k), .int (nI 1), x3, .int (nI (kn P K)), .int (nI s), .int w] [] J ρ (sm_Qv (fun I1 ρ1 => ρ1 = ρ ∧ tJ I I1 ∧ ctk I1 P)) := by
            intro x3 w s hx hs hw e1 e2 e3
            refine tr_add hK hL.1 (by omega) hs (by omega) (by omega) hw hx (hnext w s (hL.add e1 ?_ rfl e2 e3) e1)
            rw [htk]
            unfold ky_at
            rw [if_neg (by omega)]
            split
            · rfl
            · split <;> rfl
          -- the three sorts
          have e32 : ¬ ky_c P.1 P.2 k = 32 := fun z => hW (by unfold ky_W; omega)
          have e9 : ¬ ky_c P.1 P.2 k = 9 := fun z => hW (by unfold ky_W; omega)
          have e10 : ¬ ky_c P.1 P.2 k = 10 := fun z => hW (by unfold ky_W; omega)
          have e13 : ¬ ky_c P.1 P.2 k = 13 := fun z => hW (by unfold ky_W; omega)
          refine wp_iload3 34 rfl dX2_read_33 ?_
          refine wp_bipush (nI 32) 36 rfl dX2_read_34 (by decide) ?_
          refine wp_icmp_eq 39 57 rfl rfl dX2_read_36 (fun c36 => absurd c36 (fun z => e32 (w32.mp z))) (fun c36 => ?_)
          refine wp_iload3 40 rfl dX2_read_39 ?_
          refine wp_bipush (nI 9) 42 rfl dX2_read_40 (by decide) ?_
          refine wp_icmp_eq 45 57 rfl rfl dX2_read_42 (fun c42 => absurd c42 (fun z => e9 (w9.mp z))) (fun c42 => ?_)
          refine wp_iload3 46 rfl dX2_read_45 ?_
          refine wp_bipush (nI 10) 48 rfl dX2_read_46 (by decide) ?_
          refine wp_icmp_eq 51 57 rfl rfl dX2_read_48 (fun c48 => absurd c48 (fun z => e10 (w10.mp z))) (fun c48 => ?_)
          refine wp_iload3 52 rfl dX2_read_51 ?_
          refine wp_bipush (nI 13) 54 rfl dX2_read_52 (by decide) ?_
          refine wp_icmp_ne 57 63 rfl rfl dX2_read_54 (fun c54 => ?_) (fun c54 => absurd c54 (fun z => e13 (w13.mp z)))
          refine wp_iconst (nI 0) 64 rfl dX2_read_63 (by decide) ?_
          refine wp_istore6 66 rfl dX2_read_64 (by decide) rfl ?_
          refine wp_aload0 67 rfl dX2_read_66 ?_
          refine wp_iload1 68 rfl dX2_read_67 ?_
          refine wp_Ve1 71 rfl dX2_read_68 kX2_isLetter lX2_95 (o3 hK) (nl rfl) (nl rfl) (s_tletter hK hPJ (by omega)) ?_
          by_cases hLt : ky_L (ky_c P.1 P.2 k)
          · obtain ⟨a1, a2, a3, a4⟩ := ky_le_s (b := P.2) p2 hk hLt
            have hke : kn P K = ky_le (ky_c P.1 P.2) k := by
              rw [hkn]
              unfold ky_end
              rw [if_neg (by omega), if_pos hLt]
            have htk1 : (kt P K).1 = if 8 < ky_le (ky_c P.1 P.2) k - k then 3 else ky_find (ky_nm (ky_c P.1 P.2) k (ky_le (ky_c P.1 P.2) k - k)) 21 := by
              rw [htk]
              unfold ky_at
              rw [if_neg (by omega), if_pos hLt]
            rw [z_bt hLt]
            refine wp_if_eq 74 126 rfl rfl dX2_read_71 (fun c71 => absurd c71 (by decide)) (fun c71 => ?_)
            refine sm_for (P := fun e => sm_V G xX2_read (d + 5) 74 [.ref 66, .int (nI k), .int (nI 1), .int (sb (ky_c P.1 P.2 k)), .int (nI e), .retAddr 0, .int (nI 0)] [] J ρ (sm_Qv (fun I1 ρ1 => ρ1 = ρ ∧ tJ I I1 ∧ ctk I1 P))) (k + 1) (ky_le (ky_c P.1 P.2) k) a1 ?_ (fun e he1 he2 ihe => ?_)
            · refine wp_aload0 75 rfl dX2_read_74 ?_
              refine wp_iload4 77 rfl dX2_read_75 ?_
              refine wp_Ve1 80 rfl dX2_read_77 kX2_isLetter lX2_95 (o3 hK) (nl rfl) (nl rfl) (s_tletter hK hPJ (by omega)) ?_
              rw [z_bf a3]
              refine wp_if_eq 83 89 rfl rfl dX2_read_80 (fun c80 => ?_) (fun c80 => absurd (rfl) c80)
              refine wp_aload0 90 rfl dX2_read_89 ?_
              refine wp_iload1 91 rfl dX2_read_90 ?_
              refine wp_iload4 93 rfl dX2_read_91 ?_
              refine wp_Vi2 96 rfl dX2_read_93 kX2_word lX2_99 (o3 hK) (nl rfl) (nl rfl) (s_tword hK hPJ (by omega) a2 a4) (fun w Jw ρw hw => ?_)
              refine wp_istore6 98 rfl dX2_read_96 (by decide) rfl ?_
              obtain ⟨e1, e2, hans⟩ := hw
              subst e1
              have e2 := e2.symm
              subst e2
              rcases hans with ⟨i, hi, hwi, rfl⟩ | ⟨rfl, hno⟩
              · have h8 : ky_le (ky_c P.1 P.2) k - k ≤ 8 := by
                  rw [← hwi.1]
                  exact (wl_d ⟨i, hi⟩).2.1
                have hkey := (wIs_key hi h8 (fun j hj => a4 (k + j) (by omega) (by omega))).mp hwi
                have hkind : (kt P K).1 = 20 + i := by
                  rw [htk1, if_neg (by omega)]
                  exact ky_find_some hi hkey 21 hi (Nat.le_refl _)
                rw [← hke]
                refine wp_iload6 100 rfl dX2_read_98 ?_
                refine wp_if_lt 103 107 rfl rfl dX2_read_100 (fun c100 => absurd c100 (nI_pos (by omega))) (fun c100 => ?_)
                refine wp_iconst (nI 3) 104 rfl dX2_read_103 (by decide) ?_
                refine wp_goto 121 rfl dX2_read_104 ?_
                refine wp_istore5 123 rfl dX2_read_121 (by decide) rfl ?_
                refine wp_goto 186 rfl dX2_read_123 ?_
                refine hadd _ _ 3 rfl (by decide) (nar_s ⟨i, by omega⟩) ?_ (fun _ z => ?_) (fun _ => ?_)
                · rw [hkind]
                  unfold ctS
                  rw [if_neg (by omega), if_neg (by omega), if_neg (by omega), if_neg (by omega), if_neg (by omega)]
                · rw [hkind] at z
                  omega
                · rw [hkind, Nat.add_sub_cancel_left]
              · by_cases h8 : 8 < ky_le (ky_c P.1 P.2) k - k
                · have hkind : (kt P K).1 = 3 := by rw [htk1, if_pos h8]
                  refine wp_iload6 100 rfl dX2_read_98 ?_
                  refine wp_if_lt 103 107 rfl rfl dX2_read_100 (fun c100 => ?_) (fun c100 => absurd (by decide) c100)
                  refine wp_iload4 109 rfl dX2_read_107 ?_
                  refine wp_iload1 110 rfl dX2_read_109 ?_
                  refine wp_isub 111 rfl dX2_read_110 ?_
                  rw [pk_sub (by omega)]
                  rw [← hke] at h8 ⊢
                  refine wp_bipush (nI 8) 113 rfl dX2_read_111 (by decide) ?_
                  refine wp_icmp_le 116 120 rfl rfl dX2_read_113 (fun c113 => absurd c113 (nI_ge h8 (by omega))) (fun c113 => ?_)
                  refine wp_iconst (nI 5) 117 rfl dX2_read_116 (by decide) ?_
                  refine wp_goto 121 rfl dX2_read_117 ?_
                  refine wp_istore5 123 rfl dX2_read_121 (by decide) rfl ?_
                  refine wp_goto 186 rfl dX2_read_123 ?_
                  exact hadd _ _ 5 rfl (by decide) nar_s1 (by rw [hkind]; rfl) (fun z => by rw [hkind] at z; omega) (fun z => by rw [hkind] at z; omega)
                · have hkind : (kt P K).1 = 1 := by
                    rw [htk1, if_neg h8]
                    exact ky_find_none 21 (fun i hi z => hno i hi ((wIs_key hi (by omega) (fun j hj => a4 (k + j) (by omega) (by omega))).mpr z))
                  refine wp_iload6 100 rfl dX2_read_98 ?_
                  refine wp_if_lt 103 107 rfl rfl dX2_read_100 (fun c100 => ?_) (fun c100 => absurd (by decide) c100)
                  refine wp_iload4 109 rfl dX2_read_107 ?_
                  refine wp_iload1 110 rfl dX2_read_109 ?_
                  refine wp_isub 111 rfl dX2_read_110 ?_
                  rw [pk_sub (by omega)]
                  rw [← hke] at h8 ⊢
                  refine wp_bipush (nI 8) 113 rfl dX2_read_111 (by decide) ?_
                  refine wp_icmp_le 116 120 rfl rfl dX2_read_113 (fun c113 => ?_) (fun c113 => absurd (nI_le (by omega) (by decide)) c113)
                  refine wp_iconst (nI 0) 121 rfl dX2_read_120 (by decide) ?_
                  refine wp_istore5 123 rfl dX2_read_121 (by decide) rfl ?_
                  refine wp_goto 186 rfl dX2_read_123 ?_
                  exact hadd _ _ 0 rfl (by decide) nar_s1 (by rw [hkind]; rfl) (fun z => by rw [hkind] at z; omega) (fun z => by rw [hkind] at z; omega)
            · have hce := a4 e (by omega) he2
              refine wp_aload0 75 rfl dX2_read_74 ?_
              refine wp_iload4 77 rfl dX2_read_75 ?_
              refine wp_Ve1 80 rfl dX2_read_77 kX2_isLetter lX2_95 (o3 hK) (nl rfl) (nl rfl) (s_tletter hK hPJ (by omega)) ?_
              rw [z_bt hce]
              refine wp_if_eq 83 89 rfl rfl dX2_read_80 (fun c80 => absurd c80 (by decide)) (fun c80 => ?_)
              refine wp_iincN4 86 rfl dX2_read_83 (by decide) rfl ?_
              refine wp_goto 74 rfl dX2_read_86 ?_
              exact ihe
          · rw [z_bf hLt]
            refine wp_if_eq 74 126 rfl rfl dX2_read_71 (fun c71 => ?_) (fun c71 => absurd (rfl) c71)
            refine wp_aload0 127 rfl dX2_read_126 ?_
            refine wp_iload1 128 rfl dX2_read_127 ?_
            refine wp_Ve1 131 rfl dX2_read_128 kX2_isDigit lX2_103 (o3 hK) (nl rfl) (nl rfl) (s_tdigit hK hPJ (by omega)) ?_
            by_cases hDt : ky_D (ky_c P.1 P.2 k)
            · obtain ⟨a1, a2, a3, a4⟩ := ky_de_s (b := P.2) p2 hk hDt
              have hke : kn P K = ky_de (ky_c P.1 P.2) k := by
                rw [hkn]
                unfold ky_end
                rw [if_neg (by omega), if_neg hLt, if_pos hDt]
              have htk1 : (kt P K).1 = if 4 < ky_de (ky_c P.1 P.2) k - k then 3 else 2 := by
                rw [htk]
                unfold ky_at
                rw [if_neg (by omega), if_neg hLt, if_pos hDt]
              rw [z_bt hDt]
              refine wp_if_eq 134 167 rfl rfl dX2_read_131 (fun c131 => absurd c131 (by decide)) (fun c131 => ?_)
              refine sm_for (P := fun e => sm_V G xX2_read (d + 5) 134 [.ref 66, .int (nI k), .int (nI 1), .int (sb (ky_c P.1 P.2 k)), .int (nI e), .retAddr 0, .int (nI 0)] [] J ρ (sm_Qv (fun I1 ρ1 => ρ1 = ρ ∧ tJ I I1 ∧ ctk I1 P))) (k + 1) (ky_de (ky_c P.1 P.2) k) a1 ?_ (fun e he1 he2 ihe => ?_)
              · refine wp_aload0 135 rfl dX2_read_134 ?_
                refine wp_iload4 137 rfl dX2_read_135 ?_
                refine wp_Ve1 140 rfl dX2_read_137 kX2_isDigit lX2_103 (o3 hK) (nl rfl) (nl rfl) (s_tdigit hK hPJ (by omega)) ?_
                rw [z_bf a3]
                refine wp_if_eq 143 149 rfl rfl dX2_read_140 (fun c140 => ?_) (fun c140 => absurd (rfl) c140)
                refine wp_iload4 151 rfl dX2_read_149 ?_
                refine wp_iload1 152 rfl dX2_read_151 ?_
                refine wp_isub 153 rfl dX2_read_152 ?_
                rw [pk_sub (by omega)]
                rw [← hke] at htk1 ⊢
                by_cases h4 : 4 < kn P K - k
                · rw [if_pos h4] at htk1
                  refine wp_iconst (nI 4) 154 rfl dX2_read_153 (by decide) ?_
                  refine wp_icmp_le 157 161 rfl rfl dX2_read_154 (fun c154 => absurd c154 (nI_ge h4 (by omega))) (fun c154 => ?_)
                  refine wp_iconst (nI 5) 158 rfl dX2_read_157 (by decide) ?_
                  refine wp_goto 162 rfl dX2_read_158 ?_
                  refine wp_istore5 164 rfl dX2_read_162 (by decide) rfl ?_
                  refine wp_goto 186 rfl dX2_read_164 ?_
                  exact hadd _ _ 5 rfl (by decide) (by decide) (by rw [htk1]; rfl) (fun z => by rw [htk1] at z; omega) (fun z => by rw [htk1] at z; omega)
                · rw [if_neg h4] at htk1
                  refine wp_iconst (nI 4) 154 rfl dX2_read_153 (by decide) ?_
                  refine wp_icmp_le 157 161 rfl rfl dX2_read_154 (fun c154 => ?_) (fun c154 => absurd (nI_le (by omega) (by decide)) c154)
                  refine wp_iconst (nI 1) 162 rfl dX2_read_161 (by decide) ?_
                  refine wp_istore5 164 rfl dX2_read_162 (by decide) rfl ?_
                  refine wp_goto 186 rfl dX2_read_164 ?_
                  exact hadd _ _ 1 rfl (by decide) (by decide) (by rw [htk1]; rfl) (fun z => by rw [htk1] at z; omega) (fun z => by rw [htk1] at z; omega)
              · have hce := a4 e (by omega) he2
                refine wp_aload0 135 rfl dX2_read_134 ?_
                refine wp_iload4 137 rfl dX2_read_135 ?_
                refine wp_Ve1 140 rfl dX2_read_137 kX2_isDigit lX2_103 (o3 hK) (nl rfl) (nl rfl) (s_tdigit hK hPJ (by omega)) ?_
                rw [z_bt hce]
                refine wp_if_eq 143 149 rfl rfl dX2_read_140 (fun c140 => absurd c140 (by decide)) (fun c140 => ?_)
                refine wp_iincN4 146 rfl dX2_read_143 (by decide) rfl ?_
                refine wp_goto 134 rfl dX2_read_146 ?_
                exact ihe
            · have hke : kn P K = k + 1 := by
                rw [hkn]
                unfold ky_end
                rw [if_neg (by omega), if_neg hLt, if_neg hDt]
              have htk1 : (kt P K).1 = ky_sg (ky_c P.1 P.2 k) := by
                rw [htk]
                unfold ky_at
                rw [if_neg (by omega), if_neg hLt, if_neg hDt]
              rw [z_bf hDt]
              refine wp_if_eq 134 167 rfl rfl dX2_read_131 (fun c131 => ?_) (fun c131 => absurd (rfl) c131)
              refine wp_aload0 168 rfl dX2_read_167 ?_
              refine wp_iload1 169 rfl dX2_read_168 ?_
              refine wp_Ve1 172 rfl dX2_read_169 kX2_sign lX2_106 (o3 hK) (nl rfl) (nl rfl) (s_tsign hK hPJ (by omega)) ?_
              refine wp_istore6 174 rfl dX2_read_172 (by decide) rfl ?_
              rw [← hke]
              unfold sgc
              by_cases h3 : ky_sg (ky_c P.1 P.2 k) = 3
              · rw [if_pos h3]
                rw [h3] at htk1
                refine wp_iload6 176 rfl dX2_read_174 ?_
                refine wp_if_ne 179 183 rfl rfl dX2_read_176 (fun c176 => absurd (rfl) c176) (fun c176 => ?_)
                refine wp_iconst (nI 5) 180 rfl dX2_read_179 (by decide) ?_
                refine wp_goto 184 rfl dX2_read_180 ?_
                refine wp_istore5 186 rfl dX2_read_184 (by decide) rfl ?_
                exact hadd _ _ 5 rfl (by decide) (by decide) (by rw [htk1]; rfl) (fun z => by rw [htk1] at z; omega) (fun z => by rw [htk1] at z; omega)
              · rw [if_neg h3]
                obtain ⟨b1, b2, b3⟩ := ky_sg_C ⟨ky_c P.1 P.2 k, c256⟩ h3
                have b1 : 4 ≤ ky_sg (ky_c P.1 P.2 k) := b1
                have b2 : ky_sg (ky_c P.1 P.2 k) < 20 := b2
                have b3 : ctC (ky_sg (ky_c P.1 P.2 k)) = ky_c P.1 P.2 k := b3
                have b0 : ¬ ky_c P.1 P.2 k = 0 := fun z => h3 (by rw [z]; rfl)
                refine wp_iload6 176 rfl dX2_read_174 ?_
                refine wp_if_ne 179 183 rfl rfl dX2_read_176 (fun c176 => ?_) (fun c176 => absurd c176 (nI_ne0 (by omega) (by omega)))
                refine wp_iconst (nI 2) 184 rfl dX2_read_183 (by decide) ?_
                refine wp_istore5 186 rfl dX2_read_184 (by decide) rfl ?_
                refine hadd _ _ 2 rfl (by decide) (nar_s ⟨ky_c P.1 P.2 k, by omega⟩) ?_ (fun _ _ => ?_) (fun z => ?_)
                · rw [htk1]
                  unfold ctS
                  rw [if_neg (by omega), if_neg (by omega), if_neg (by omega), if_neg (by omega), if_pos b2]
                · rw [htk1, b3]
                · rw [htk1] at z
                  omega
      · have hkn : k = P.1 := by omega
        subst hkn
        have c0 : ky_c P.1 P.2 P.1 = 0 := by
          unfold ky_c
          rw [if_neg (by omega)]
        have hkp : kp P K = P.1 := by
          rw [← hpos]
          exact ky_sk_o (by rw [c0]; unfold ky_W; omega)
        have htk : kt P K = (0, P.1, 0, 0) := by
          show ky_at P.1 (ky_c P.1 P.2) (kp P K) = _
          rw [hkp]
          unfold ky_at
          rw [if_pos (Nat.le_refl _)]
        have hkn2 : kn P K = P.1 := by
          unfold kn
          rw [hkp]
          unfold ky_end
          rw [if_pos (Nat.le_refl _)]
        refine wp_iload1 10 rfl dX2_read_9 ?_
        refine wp_aload0 11 rfl dX2_read_10 ?_
        refine wp_geti 14 rfl dX2_read_11 fX2_76_3 (o3 hK) ?_
        rw [p1]
        refine wp_icmp_ge 17 215 rfl rfl dX2_read_14 (fun c14 => ?_) (fun c14 => absurd (Int32.le_refl _) c14)
        refine wp_iload2 216 rfl dX2_read_215 ?_
        refine wp_if_eq 219 227 rfl rfl dX2_read_216 (fun c216 => absurd c216 (by decide)) (fun c216 => ?_)
        refine wp_aload0 220 rfl dX2_read_219 ?_
        refine wp_iconst (nI 4) 221 rfl dX2_read_220 (by decide) ?_
        refine wp_iload1 222 rfl dX2_read_221 ?_
        refine wp_iload1 223 rfl dX2_read_222 ?_
        refine wp_iconst (nI 0) 224 rfl dX2_read_223 (by decide) ?_
        refine wp_Ve4 227 rfl dX2_read_224 kX2_add lX2_109 (o3 hK) (nl rfl) (nl rfl) (s_tadd hK hL.1 (by omega) (by decide) (by omega) (by omega) (by decide)) ?_
        refine wp_vret dX2_read_227 rfl ?_
        have hl2 := hL.add (s := 4) (a := P.1) (b := P.1) (w := nI 0) (by rw [htk]; rfl) (by rw [htk]) hkn2.symm (fun z => by rw [htk] at z; exact absurd (show 4 ≤ 0 from z) (by decide)) (fun z => by rw [htk] at z; exact absurd (show 20 ≤ 0 from z) (by decide))
        exact ⟨rfl, rfl, hJ.tr M_ct_J, fun q hq hg => hl2.2 q (by
          by_cases e : K < q
          · exact absurd (by rw [htk]) (hg K e).1
          · omega)⟩
  exact main (P.1 + 1) 0 0 (by omega) (Nat.zero_le _) (Nat.le_refl _) rfl _ g0 l0 (fun j hj => absurd hj (Nat.not_lt_zero _))
end F6
