/-! ===== a heap that grows ===== -/
set_option maxRecDepth 100000
/-- old cells are kept: numbers but for A's, references but for B's -/
def gF (A B : Nat → Prop) (I : sm_I) (ρ : sm_R) (I1 : sm_I) (ρ1 : sm_R) : Prop := (ρ.2.2.2.1 ≤ ρ1.2.2.2.1 ∧ ρ.2.2.2.2 ≤ ρ1.2.2.2.2 ∧ ∀ a, ρ1.2.2.2.1 + 64 ≤ a → ρ1.2.2.1 a = ρ.2.2.1 a) ∧ (∀ a, a < ρ.2.2.2.1 + 64 → ρ1.2.2.1 a = ρ.2.2.1 a ∧ ρ1.1 a = ρ.1 a) ∧ (∀ a, a < ρ.2.2.2.1 + 64 → ¬ A a → I1 a = I a) ∧ ∀ a, a < ρ.2.2.2.1 + 64 → ¬ B a → ρ1.2.1 a = ρ.2.1 a
section GF
variable {A B A' B' : Nat → Prop} {I I1 I2 : sm_I} {ρ ρ1 ρ2 : sm_R}
theorem gF.rf : gF A B I ρ I ρ := ⟨⟨Nat.le_refl _, Nat.le_refl _, fun _ _ => rfl⟩, fun _ _ => ⟨rfl, rfl⟩, fun _ _ _ => rfl, fun _ _ _ => rfl⟩
theorem gF.tr (h : gF A B I ρ I1 ρ1) (h2 : gF A' B' I1 ρ1 I2 ρ2) (hA : ∀ a, a < ρ.2.2.2.1 + 64 → A' a → A a) (hB : ∀ a, a < ρ.2.2.2.1 + 64 → B' a → B a) : gF A B I ρ I2 ρ2 := by
  obtain ⟨⟨a1, a2, a6⟩, a3, a4, a5⟩ := h
  obtain ⟨⟨b1, b2, b6⟩, b3, b4, b5⟩ := h2
  have hl : ∀ a, a < ρ.2.2.2.1 + 64 → a < ρ1.2.2.2.1 + 64 := fun a ha => by
    omega
  exact ⟨⟨by omega, by omega, fun a ha => (b6 a ha).trans (a6 a (by omega))⟩, fun a ha => ⟨(b3 a (hl a ha)).1.trans (a3 a ha).1, (b3 a (hl a ha)).2.trans (a3 a ha).2⟩, fun a ha hn => (b4 a (hl a ha) (fun z => hn (hA a ha z))).trans (a4 a ha hn), fun a ha hn => (b5 a (hl a ha) (fun z => hn (hB a ha z))).trans (a5 a ha hn)⟩
theorem gF.wk (h : gF A' B' I ρ I1 ρ1) (hA : ∀ a, a < ρ.2.2.2.1 + 64 → A' a → A a) (hB : ∀ a, a < ρ.2.2.2.1 + 64 → B' a → B a) : gF A B I ρ I1 ρ1 := gF.tr gF.rf h hA hB
theorem gF.nw (t n sl : Nat) : gF A B I ρ (sm_zI I (ρ.2.2.2.1 + 64)) (sm_nR ρ t n sl) :=
  ⟨⟨by show ρ.2.2.2.1 ≤ ρ.2.2.2.1 + 1; omega, by show ρ.2.2.2.2 ≤ ρ.2.2.2.2 + sl; omega, fun a ha => if_neg (by have : ρ.2.2.2.1 + 1 + 64 ≤ a := ha; omega)⟩, fun a ha => ⟨if_neg (by omega), if_neg (by omega)⟩, fun a ha _ => sm_zI_ne I (by omega), fun a ha _ => if_neg (by omega)⟩
theorem gF.u {a k : Nat} {v : Int32} : gF (fun x => x = a) B I ρ (sm_u I a k v) ρ := ⟨⟨Nat.le_refl _, Nat.le_refl _, fun _ _ => rfl⟩, fun _ _ => ⟨rfl, rfl⟩, fun b _ hn => sm_u_ne I k v hn, fun _ _ _ => rfl⟩
theorem gF.p {a k : Nat} {v : Option Nat} : gF A (fun x => x = a) I ρ I (ρ.1, sm_up ρ.2.1 a k v, ρ.2.2) := ⟨⟨Nat.le_refl _, Nat.le_refl _, fun _ _ => rfl⟩, fun _ _ => ⟨rfl, rfl⟩, fun _ _ _ => rfl, fun b _ hn => sm_up_ne ρ.2.1 k v hn⟩
theorem gF.i (h : ∀ a, ¬ A a → I1 a = I a) : gF A B I ρ I1 ρ := ⟨⟨Nat.le_refl _, Nat.le_refl _, fun _ _ => rfl⟩, fun _ _ => ⟨rfl, rfl⟩, fun a _ hn => h a hn, fun _ _ _ => rfl⟩
theorem gF.eI (h : gF A B I ρ I1 ρ1) {a : Nat} (ha : a < ρ.2.2.2.1 + 64) (hn : ¬ A a) : I1 a = I a := h.2.2.1 a ha hn
theorem gF.eP (h : gF A B I ρ I1 ρ1) {a : Nat} (ha : a < ρ.2.2.2.1 + 64) (hn : ¬ B a) : ρ1.2.1 a = ρ.2.1 a := h.2.2.2 a ha hn
theorem gF.eS (h : gF A B I ρ I1 ρ1) {a : Nat} (ha : a < ρ.2.2.2.1 + 64) : ρ1.2.2.1 a = ρ.2.2.1 a := (h.2.1 a ha).1
theorem gF.nxl (h : gF A B I ρ I1 ρ1) : ρ.2.2.2.1 + 64 ≤ ρ1.2.2.2.1 + 64 := by
  have := h.1.1
  omega
theorem gF.In (h : gF A B I ρ I1 ρ1) (hi : sm_In ρ) : sm_In ρ1 := fun a ha => by
  have h1 := h.1.1
  by_cases hl : ρ1.2.2.2.1 + 64 ≤ a
  · rw [h.1.2.2 a hl] at ha
    have := hi a ha
    omega
  · by_cases h2 : a < ρ.2.2.2.1 + 64
    · rw [(h.2.1 a h2).1] at ha
      have := hi a ha
      omega
    · omega
end GF
theorem td.g {ρ ρ1 : sm_R} {b : Nat} (h : td ρ b) (hs : ∀ a, a < 898 → ρ1.2.2.1 a = ρ.2.2.1 a) (hp : ∀ a, 66 ≤ a → a < 898 → a ≠ 73 → ρ1.2.1 a = ρ.2.1 a) (hb : 74 ≤ b) (hb2 : b + 16 ≤ 898) : td ρ1 b :=
  ⟨(hs _ (by omega)).trans (o6 h),
    (congrFun (hp _ (by omega) (by omega) (by omega)) _).trans (p6_0 h),
    (congrFun (hp _ (by omega) (by omega) (by omega)) _).trans (p6_1 h),
    (congrFun (hp _ (by omega) (by omega) (by omega)) _).trans (p6_2 h),
    (congrFun (hp _ (by omega) (by omega) (by omega)) _).trans (p6_3 h),
    (congrFun (hp _ (by omega) (by omega) (by omega)) _).trans (p6_4 h),
    (congrFun (hp _ (by omega) (by omega) (by omega)) _).trans (p6_5 h),
    (congrFun (hp _ (by omega) (by omega) (by omega)) _).trans (p6_10 h),
    (congrFun (hp _ (by omega) (by omega) (by omega)) _).trans (p6_11 h),
    (hs _ (by omega)).trans (s6_0 h),
    fun j hj => (congrFun (hp _ (by omega) (by omega) (by omega)) _).trans (e6_0 h hj),
    fun j hj => (hs _ (by omega)).trans (i6_0 h hj),
    (hs _ (by omega)).trans (s6_1 h),
    (hs _ (by omega)).trans (s6_2 h),
    (hs _ (by omega)).trans (s6_3 h),
    (hs _ (by omega)).trans (s6_4 h),
    (hs _ (by omega)).trans (s6_5 h),
    (hs _ (by omega)).trans (s6_10 h),
    (hs _ (by omega)).trans (o7 h),
    (congrFun (hp _ (by omega) (by omega) (by omega)) _).trans (p7_0 h),
    (hs _ (by omega)).trans (s7_0 h)⟩
theorem kd.g {ρ ρ1 : sm_R} (h : kd ρ) (hs : ∀ a, a < 898 → ρ1.2.2.1 a = ρ.2.2.1 a) (hp : ∀ a, 66 ≤ a → a < 898 → a ≠ 73 → ρ1.2.1 a = ρ.2.1 a) (h73 : ∀ k, k ≠ 2 → ρ1.2.1 73 k = ρ.2.1 73 k) (h64 : ∀ k, k ≠ 3 → ρ1.2.1 64 k = ρ.2.1 64 k) : kd ρ1 :=
  ⟨(hs _ (by omega)).trans (o1 h),
    (h64 0 (by decide)).trans (p1_0 h),
    (h64 1 (by decide)).trans (p1_1 h),
    (h64 2 (by decide)).trans (p1_2 h),
    (h64 7 (by decide)).trans (p1_7 h),
    (h64 8 (by decide)).trans (p1_8 h),
    (h64 9 (by decide)).trans (p1_9 h),
    (h64 10 (by decide)).trans (p1_10 h),
    (h64 11 (by decide)).trans (p1_11 h),
    (h64 12 (by decide)).trans (p1_12 h),
    (h64 13 (by decide)).trans (p1_13 h),
    (h64 14 (by decide)).trans (p1_14 h),
    (h64 15 (by decide)).trans (p1_15 h),
    (h64 16 (by decide)).trans (p1_16 h),
    (h64 18 (by decide)).trans (p1_18 h),
    (h64 19 (by decide)).trans (p1_19 h),
    (h64 20 (by decide)).trans (p1_20 h),
    (h64 21 (by decide)).trans (p1_21 h),
    (hs _ (by omega)).trans (o2 h),
    (hs _ (by omega)).trans (o3 h),
    (congrFun (hp _ (by omega) (by omega) (by omega)) _).trans (p3_0 h),
    (congrFun (hp _ (by omega) (by omega) (by omega)) _).trans (p3_1 h),
    (congrFun (hp _ (by omega) (by omega) (by omega)) _).trans (p3_3 h),
    (congrFun (hp _ (by omega) (by omega) (by omega)) _).trans (p3_4 h),
    (congrFun (hp _ (by omega) (by omega) (by omega)) _).trans (p3_5 h),
    (congrFun (hp _ (by omega) (by omega) (by omega)) _).trans (p3_6 h),
    (hs _ (by omega)).trans (s3_0 h),
    fun j hj => (congrFun (hp _ (by omega) (by omega) (by omega)) _).trans (e3_0 h hj),
    (hs _ (by omega)).trans (s3_1 h),
    (hs _ (by omega)).trans (s3_3 h),
    (hs _ (by omega)).trans (s3_4 h),
    (hs _ (by omega)).trans (s3_5 h),
    (hs _ (by omega)).trans (s3_6 h),
    (hs _ (by omega)).trans (o4 h),
    (h73 0 (by decide)).trans (p4_0 h),
    (h73 1 (by decide)).trans (p4_1 h),
    (hs _ (by omega)).trans (s1_9 h),
    fun j hj => (congrFun (hp _ (by omega) (by omega) (by omega)) _).trans (e1_9 h hj),
    (hs _ (by omega)).trans (s1_10 h),
    fun j hj => (congrFun (hp _ (by omega) (by omega) (by omega)) _).trans (e1_10 h hj),
    (hs _ (by omega)).trans (s1_11 h),
    fun j hj => (congrFun (hp _ (by omega) (by omega) (by omega)) _).trans (e1_11 h hj),
    (hs _ (by omega)).trans (o8 h),
    (hs _ (by omega)).trans (o9 h),
    (hs _ (by omega)).trans (s1_14 h),
    (hs _ (by omega)).trans (s1_15 h),
    (hs _ (by omega)).trans (s1_16 h),
    fun j hj => (congrFun (hp _ (by omega) (by omega) (by omega)) _).trans (e1_16 h hj),
    fun j hj => (hs _ (by omega)).trans (i1_16 h hj),
    (hs _ (by omega)).trans (s1_18 h),
    (hs _ (by omega)).trans (s1_19 h),
    (hs _ (by omega)).trans (s1_20 h),
    (hs _ (by omega)).trans (s1_21 h),
    (k_town h).g hs hp (by omega) (by omega),
    (k_trial h).g hs hp (by omega) (by omega),
    fun j hj => (k_past h hj).g hs hp (by omega) (by omega),
    fun j hj => (k_slot h hj).g hs hp (by omega) (by omega),
    fun j hj => (k_laid h hj).g hs hp (by omega) (by omega)⟩
theorem gF.kd {A B : Nat → Prop} {I I1 : sm_I} {ρ ρ1 : sm_R} (h : gF A B I ρ I1 ρ1) (hK : kd ρ) (hn : 943 ≤ ρ.2.2.2.1 + 64) (hB : ∀ a, a < 943 → ¬ B a) : kd ρ1 :=
  hK.g (fun a ha => h.eS (by omega)) (fun a _ ha _ => h.eP (by omega) (hB a (by omega))) (fun k _ => congrFun (h.eP (by omega) (hB 73 (by decide))) k) (fun k _ => congrFun (h.eP (by omega) (hB 64 (by decide))) k)
