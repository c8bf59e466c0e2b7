/-! ===== the law: a method with handlers is called ===== -/
set_option maxRecDepth 100000
def sm_CW (X : sm_X) (y : MethodName) (na : Nat) : Prop := Cond.codeWith y X.2.1 X.2.2.1 X.2.2.2.1 X.2.2.2.2.2 ∈ lw_all ∧ y.cls = X.1 ∧ y.name = X.2.2.2.2.1 ∧ plainName y.cls = true ∧ (y.cls ≠ "java/lang/invoke/MethodHandle" ∧ y.cls ≠ "java/lang/invoke/VarHandle" ∧ (parseMethodDescriptor y.desc).map (fun d => d.parameters.length) = some na) ∧ Cond.initialized y.cls ∈ lw_all ∧ X.2.2.1 ≤ 41
theorem sm_metW {G : sm_G} {X : sm_X} {y : MethodName} {na d : Nat} {As : List Value} {I I' : sm_I} {ρ ρ' : sm_R} {o : sm_O} (hC : sm_CW X y na) (hl : (sm_exp As).length ≤ X.2.2.1) (h : sm_Sem G X d 0 (sm_en X.2.2.1 As) [] I ρ o I' ρ') :
    vy_Met G.1 y (wsW_ y X.2.1 X.2.2.1 X.2.2.2.1 X.2.2.2.2.2) (sm_rm d (ρ'.2.2.2.1 - ρ.2.2.2.1) (ρ'.2.2.2.2 - ρ.2.2.2.2)) (va_Pc (As.map (sm_cv G)) (sm_B G I ρ)) (sm_Qc G o I' ρ') (sm_XC G o I' ρ') (ρ'.2.2.2.1 - ρ.2.2.2.1) (ρ'.2.2.2.2 - ρ.2.2.2.2) (sm_A G) := by
  obtain ⟨hcode, hcls, hname, hplain, hy, hini, hm⟩ := hC
  refine vy_ofWH (cc := X.2.1) (maxL := X.2.2.1) (ret := X.2.2.2.1) hplain rfl ?_
  intro p e s m args below meth c s₁ B hml hv
  obtain ⟨rfl, hgood, hcst, hrep⟩ := hv
  have hts0 := atoms_spec (ws := wsW_ y X.2.1 X.2.2.1 X.2.2.2.1 X.2.2.2.2.2) B.pre
  have hts : ∀ w ∈ lw_all, w.before _ s = true := fun w h => hts0 w (List.mem_cons_of_mem _ h)
  have hle : (lg_sl (As.map (sm_cv G))).length ≤ X.2.2.1 := by rw [sm_sl_len]; exact hl
  have hlv := lv_entry (As.map (sm_cv G)) (n := X.2.2.1) hle
  have htb : c.exceptionTable.toList = tableOf X.2.2.2.2.2 := vy_table (x := y) B (hts0 _ List.mem_cons_self)
  rw [lg_entry_eq]
  refine h.2.2 p e _ s m _ below meth c s.heap [] 0 0 _ _ _ ⟨B.exec, B.bytes, hml, B.returns, (name_of_methodNamed B.named B.method).1.trans hname, htb, B.notSynchronized, ?_, hts, hgood, hcst⟩ (Nat.le_refl _) (Nat.le_refl _) (by omega) (Nat.le_refl _) (by omega) (Nat.le_refl _) hrep va_S.rf (sm_Lv.entry hlv)
  rw [← hcls]
  exact findClass_of_methodNamed B.named
section WPW
variable {G : sm_G} {X : sm_X} {d pc : Nat} {lv st : List Value} {I : sm_I} {ρ : sm_R} {Q : sm_O → sm_I → sm_R → Prop}
theorem wp_callVW {t a nn : Nat} {ix : Nat} {Xc : sm_X} {y : MethodName} {na : Nat} {Qc : sm_O → sm_I → sm_R → Prop} {As rest : List Value} (n : Nat) (hn : pc + 3 = n) (hC : sm_CW Xc y na) (hd : decode X.2.1 pc = .ok (.invokevirtual ix, 3)) (hl : sm_LV X.1 ix t y) (hs : ρ.2.2.1 a = (t, nn)) (hlen : As.length = na) (hsl : (sm_exp (.ref a :: As)).length ≤ Xc.2.2.1) (hrs : (rest.map fun v => v.category).sum ≤ 8) (hM : sm_M G Xc d (.ref a :: As) I ρ Qc) (k : ∀ v I1 ρ1, Qc (.inl v) I1 ρ1 → sm_V G X (d + 1) n lv (v.toList ++ rest) I1 ρ1 Q) (kx : ∀ b I1 ρ1, Qc (.inr b) I1 ρ1 → sm_VX G X (d + 1) pc lv b I1 ρ1 Q) : sm_V G X (d + 1) pc lv (As.reverse ++ .ref a :: rest) I ρ Q := by
  obtain ⟨o, I1, ρ1, hq, hsem⟩ := hM
  refine sm_call (o := o) (I1 := I1) (ρ1 := ρ1) (rest := rest) n hn hsem.1 hsem.2.1 (sm_Qc G o I1 ρ1 _) (fun a b c h => h) (fun p e R s m args below meth c H locs cells slots ls F a1 a2 a3 a4 RP LV hG => ?_) (fun v hv => k v I1 ρ1 (by rw [← hv]; exact hq)) (fun b hb => kx b I1 ρ1 (by rw [← hb]; exact hq))
  have hmet := sm_metW hC hsl hsem
  obtain ⟨hcode, hcls, hname, hplain, hy, hini, hm⟩ := hC
  obtain ⟨hx, hb, hml, hr, hnm, hex, hlk, hown, hts, hgood, hcst⟩ := F
  have hpre : ∀ U : State, U.heap = H → s.WarmedH U.vm → va_Pc (List.map (sm_cv G) (.ref a :: As)) (sm_B G I ρ) ((List.map (sm_cv G) (.ref a :: As)).toArray) U := fun U hU hW => ⟨rfl, sm_Good.moved hW hgood, ⟨hcst.1, by rw [hU]; exact hG, sm_K2.moved hW hcst.2.2⟩, by rw [hU]; exact RP⟩
  have hrm : (sm_rm d (ρ1.2.2.2.1 - ρ.2.2.2.1) (ρ1.2.2.2.2 - ρ.2.2.2.2)).frames + 1 ≤ R.frames ∧ 8 + (Xc.2.2.1 + 11) + (sm_rm d (ρ1.2.2.2.1 - ρ.2.2.2.1) (ρ1.2.2.2.2 - ρ.2.2.2.2)).locals ≤ R.locals := ⟨a1, by show 8 + (Xc.2.2.1 + 11) + 60 * d ≤ R.locals; omega⟩
  have hstk : (rest.map (sm_cv G)).map (fun v => v.category) = rest.map (fun v => v.category) := by
    rw [List.map_map]
    exact List.map_congr_left fun v _ => sm_cv_cat G v
  obtain ⟨⟨T, N, hcl⟩, h0, h1, l1, l2, l3⟩ := hl
  exact vy_runVX (As := As.map (sm_cv G)) (rest := rest.map (sm_cv G)) ⟨hx, hb, hml, hown, hts⟩ hmet (vy_cwVW na hts (lw_VW l1 l2 l3 hini hcode) rfl rfl rfl ⟨rfl, hy⟩ hrm) ⟨sm_blind, sm_recv hgood RP hs h0 h1 hcl, hpre⟩ rfl (by rw [List.length_map]; exact hlen) LV.1 (by show List.map (sm_cv G) _ = _; rw [List.map_append, List.map_reverse]; rfl) (lv_room (by rw [hstk]; exact hrs)) hd ⟨a3, a4⟩
end WPW
theorem kX0_read : sm_CW xX0_read yX0_read 0 := ⟨q595, rfl, rfl, by decide +kernel, ⟨by decide +kernel, by decide +kernel, by decide +kernel⟩, q115, by decide⟩
