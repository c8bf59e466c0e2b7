/-! ===== reading: expression ===== -/
set_option maxRecDepth 100000
section M32
variable {G : sm_G} {d : Nat} {I : sm_I} {ρ : sm_R} {QQ : sm_O → sm_I → sm_R → Prop}
/-- no sign follows -/
theorem ex_none (hm : md ρ) (tk : tkf) (hw : tw tk) (J : sm_I) (hq : tq J ρ tk) (r : pR) (hr : prs J tk r) (hn : ∀ k ∈ [8, 9, 10, 15], ¬ g_is tk k r) (a : Int32) (b : Value)
    (kk : sm_V G xX10_expression (d + 3) 191 [.ref mM, .int a, .int (nI 0)] [] J ρ QQ) : sm_V G xX10_expression (d + 3) 145 [.ref mM, .int a, b] [] J ρ QQ := by
  have no : ∀ k v, k ∈ [8, 9, 10, 15] → (v = nI 0 ∨ v = nI 1) → (v = nI 1 ↔ g_is tk k r) → v = nI 0 := fun k v hk h01 hv => h01.resolve_right (fun h => hn k hk (hv.mp h))
  refine wp_aload0 146 rfl dX10_expression_145 ?_
  refine wp_bipush (nI 8) 148 rfl dX10_expression_146 (by decide) ?_
  refine wp_Vi1 151 rfl dX10_expression_148 kX10_is lX10_221 (md_M hm) (nl rfl) (nl rfl) (s_is hm tk hq hw r hr 8 (by decide)) (fun v J1 ρ1 hq1 => ?_)
  obtain ⟨rfl, rfl, h01, hv⟩ := hq1
  rw [no 8 v (by decide) h01 hv]
  refine wp_if_ne 154 181 rfl rfl dX10_expression_151 (fun c151 => absurd (rfl) c151) (fun c151 => ?_)
  refine wp_aload0 155 rfl dX10_expression_154 ?_
  refine wp_bipush (nI 9) 157 rfl dX10_expression_155 (by decide) ?_
  refine wp_Vi1 160 rfl dX10_expression_157 kX10_is lX10_221 (md_M hm) (nl rfl) (nl rfl) (s_is hm tk hq hw r hr 9 (by decide)) (fun v J2 ρ2 hq2 => ?_)
  obtain ⟨rfl, rfl, h01, hv⟩ := hq2
  rw [no 9 v (by decide) h01 hv]
  refine wp_if_ne 163 181 rfl rfl dX10_expression_160 (fun c160 => absurd (rfl) c160) (fun c160 => ?_)
  refine wp_aload0 164 rfl dX10_expression_163 ?_
  refine wp_bipush (nI 10) 166 rfl dX10_expression_164 (by decide) ?_
  refine wp_Vi1 169 rfl dX10_expression_166 kX10_is lX10_221 (md_M hm) (nl rfl) (nl rfl) (s_is hm tk hq hw r hr 10 (by decide)) (fun v J3 ρ3 hq3 => ?_)
  obtain ⟨rfl, rfl, h01, hv⟩ := hq3
  rw [no 10 v (by decide) h01 hv]
  refine wp_if_ne 172 181 rfl rfl dX10_expression_169 (fun c169 => absurd (rfl) c169) (fun c169 => ?_)
  refine wp_aload0 173 rfl dX10_expression_172 ?_
  refine wp_bipush (nI 15) 175 rfl dX10_expression_173 (by decide) ?_
  refine wp_Vi1 178 rfl dX10_expression_175 kX10_is lX10_221 (md_M hm) (nl rfl) (nl rfl) (s_is hm tk hq hw r hr 15 (by decide)) (fun v J4 ρ4 hq4 => ?_)
  obtain ⟨rfl, rfl, h01, hv⟩ := hq4
  rw [no 15 v (by decide) h01 hv]
  refine wp_if_eq 181 185 rfl rfl dX10_expression_178 (fun c178 => ?_) (fun c178 => absurd (rfl) c178)
  refine wp_iconst (nI 0) 186 rfl dX10_expression_185 (by decide) ?_
  refine wp_istore2 187 rfl dX10_expression_186 (by decide) rfl ?_
  refine wp_iload2 188 rfl dX10_expression_187 ?_
  refine wp_if_ne 191 210 rfl rfl dX10_expression_188 (fun c188 => absurd (rfl) c188) (fun c188 => ?_)
  exact kk
theorem s_come (hm : md ρ) (b : Bool) (c0 c1 : Nat) (p s : List Nat) (e : ex) (hs : ∀ k r, s = k :: r → co_stop b k) (hp : ∀ k ∈ p, ¬ co_stop b k) (hw : wtR I (p ++ s)) (hc : cdR I c0 c1 e) (hl : c0 + e.length + p.length ≤ c1) (v : Int32) (hv : v = if b = true then nI 1 else nI 0) : sm_M G xX10_comesOut (d + 1) [.ref mM, .int v] I ρ (sm_Qv (fun I1 ρ1 => ρ1 = ρ ∧ emF c0 c1 I I1 ∧ wtR I1 s ∧ cdR I1 c0 c1 (e ++ p.map (fun k => (co_c k, nI 0))))) := by
  rw [hv]
  exact s_comesOut hm b c0 c1 s hs p I e (.retAddr 0) hp hw hc hl
/-- all that waits comes out, and the end -/
theorem ex_ret (hm : md ρ) (J : sm_I) (c0 c1 : Nat) (p s : List Nat) (e : ex) (hs : ∀ k r, s = k :: r → k = 6) (hp : ∀ k ∈ p, ¬ k = 6) (hw : wtR J (p ++ s)) (hc : cdR J c0 c1 e) (hl : c0 + e.length + p.length ≤ c1) (a b : Value)
    (kk : ∀ J1, emF c0 c1 J J1 → wtR J1 s → cdR J1 c0 c1 (e ++ p.map (fun k => (co_c k, nI 0))) → QQ (.inl none) J1 ρ) : sm_V G xX10_expression (d + 3) 204 [.ref mM, a, b] [] J ρ QQ := by
  refine wp_aload0 205 rfl dX10_expression_204 ?_
  refine wp_iconst (nI 0) 206 rfl dX10_expression_205 (by decide) ?_
  refine wp_Vv1 209 rfl dX10_expression_206 kX10_comesOut lX10_305 (md_M hm) (nl rfl) (nl rfl) (s_come hm false c0 c1 p s e (fun k r h => Or.inl (hs k r h)) (fun k hk h => h.elim (hp k hk) (fun q => absurd q.1 (by decide))) hw hc hl _ rfl) (fun J1 ρ1 hq1 => ?_)
  obtain ⟨rfl, hf, hw1, hc1⟩ := hq1
  refine wp_vret dX10_expression_209 rfl ?_
  exact kk J1 hf hw1 hc1
/-- a fault behind a unit: the end -/
theorem ex_96f (hm : md ρ) (tk : tkf) (hw : tw tk) (J : sm_I) (hq : tq J ρ tk) (n j : Nat) (hr : prs J tk (.inl (n, j))) (c0 c1 : Nat) (p s : List Nat) (e : ex) (hs : ∀ k r, s = k :: r → k = 6) (hp : ∀ k ∈ p, ¬ k = 6) (hwt : wtR J (p ++ s)) (hc : cdR J c0 c1 e) (hl : c0 + e.length + p.length ≤ c1) (op : Nat) (h12 : J mM 12 = nI op) (hop : op < 1000) (b : Value)
    (kk : ∀ J1, xF c0 c1 J J1 → prs J1 tk (.inl (n, j)) → QQ (.inl none) J1 ρ) : sm_V G xX10_expression (d + 3) 96 [.ref mM, .int (nI 0), b] [] J ρ QQ := by
  have end_ : ∀ (K : sm_I) (b : Value), xF c0 c1 J K → prs K tk (.inl (n, j)) → wtR K (p ++ s) → cdR K c0 c1 e → sm_V G xX10_expression (d + 3) 204 [.ref mM, .int (nI 0), b] [] K ρ QQ := fun K b hx hrK hwK hcK => ex_ret hm K c0 c1 p s e hs hp hwK hcK hl _ _ (fun J1 hf _ _ => kk J1 (hx.tr hf.x) (hrK.kept hf.1 (by decide)))
  refine wp_aload0 97 rfl dX10_expression_96 ?_
  refine wp_bipush (nI 7) 99 rfl dX10_expression_97 (by decide) ?_
  refine wp_Vi1 102 rfl dX10_expression_99 kX10_is lX10_221 (md_M hm) (nl rfl) (nl rfl) (s_is hm tk hq hw _ hr 7 (by decide)) (fun v J1 ρ1 hq1 => ?_)
  obtain ⟨rfl, rfl, h01, hv⟩ := hq1
  rw [h01.resolve_right (fun h => hv.mp h)]
  refine wp_if_eq 105 145 rfl rfl dX10_expression_102 (fun c102 => ?_) (fun c102 => absurd (rfl) c102)
  refine ex_none hm tk hw J1 hq _ hr (fun k _ h => h) (nI 0) b ?_
  refine wp_aload0 192 rfl dX10_expression_191 ?_
  refine wp_geti 195 rfl dX10_expression_192 fX10_230_10 (md_M hm) ?_
  rw [h12]
  by_cases h0 : op = 0
  · refine wp_iload1 196 rfl dX10_expression_195 ?_
    refine wp_icmp_le 199 204 rfl rfl dX10_expression_196 (fun c196 => ?_) (fun c196 => absurd (by rw [h0]; decide) c196)
    exact end_ J1 _ xF.rf hr hwt hc
  · refine wp_iload1 196 rfl dX10_expression_195 ?_
    refine wp_icmp_le 199 204 rfl rfl dX10_expression_196 (fun c196 => absurd c196 (nI_ge (by omega) (by omega))) (fun c196 => ?_)
    refine wp_aload0 200 rfl dX10_expression_199 ?_
    refine wp_iconst (nI 1) 201 rfl dX10_expression_200 (by decide) ?_
    refine wp_Vv1 204 rfl dX10_expression_201 kX10_fail lX10_218 (md_M hm) (nl rfl) (nl rfl) (s_fail hm tk hq _ hr 1 (Or.inl rfl)) (fun J2 ρ2 hq2 => ?_)
    obtain ⟨rfl, hf2, hp2⟩ := hq2
    exact end_ J2 _ (hf2.x (by decide)) hp2 ⟨(hf2.2 47 (by decide)).trans hwt.1, hwt.2.1, fun i k hi => by rw [hf2.1 m_waits (by decide) (by decide)]; exact hwt.2.2 i k hi⟩ (hc.kept hf2 (by decide))
end M32
