/-! ===== numbers of the component: how far apart, signs, sets of bits ===== -/
set_option maxRecDepth 100000
theorem z_off_n {a b : Nat} (ha : a ≤ 1000000) (hb : b ≤ 1000000) : z_off (nI a) (nI b) = nI (if a < b then b - a else a - b) := by
  unfold z_off
  by_cases h : a < b
  · rw [if_pos (nI_lt h (by omega)), if_pos h, pk_sub (by omega)]
  · rw [if_neg (nI_nlt (by omega) (by omega)), if_neg h, pk_sub (by omega)]
/-- Math.abs, Math.min, Math.max as the code has them -/
abbrev z_abs (x : Int32) : Int32 := if 0 ≤ x then x else 0 - x
abbrev z_min (x y : Int32) : Int32 := if y < x then y else x
abbrev z_max (x y : Int32) : Int32 := if x < y then y else x
theorem z_abs_off {a b : Nat} (ha : a ≤ 1000000) (hb : b ≤ 1000000) : z_abs (nI a - nI b) = z_off (nI a) (nI b) := by
  rw [z_off_n ha hb]
  unfold z_abs
  by_cases h : a < b
  · have hn : ¬ 0 ≤ nI a - nI b := Int32.not_le.mpr (pk_sneg (by omega) h)
    rw [if_neg hn, if_pos h, Int32.zero_sub, Int32.neg_sub, pk_sub (by omega)]
  · rw [if_neg h, pk_sub (by omega), if_pos (nI_pos' (n := a - b) (by omega))]
/-- Integer.signum -/
def z_sgn (x : Int32) : Int32 := (x >>> (nI 31 &&& 31)) ||| ((-x).toUInt32 >>> ((nI 31).toUInt32 &&& Int32.toUInt32 31)).toInt32
theorem z_sgn_d : ∀ m : Fin 100, z_sgn (nI m.val) = (if m.val = 0 then 0 else 1) ∧ z_sgn (-(nI m.val)) = if m.val = 0 then 0 else -1 := by decide +kernel
theorem z_sgn_1 {m : Nat} (h0 : 0 < m) (h : m < 100) : z_sgn (nI m) = 1 := by
  rw [(z_sgn_d ⟨m, h⟩).1]
  exact if_neg (by show ¬ m = 0; omega)
theorem z_sgn_m {m : Nat} (h0 : 0 < m) (h : m < 100) : z_sgn (-(nI m)) = -1 := by
  rw [(z_sgn_d ⟨m, h⟩).2]
  exact if_neg (by show ¬ m = 0; omega)
theorem z_sgn_0 : z_sgn (nI 0) = 0 := by decide +kernel
theorem z_sgn_d2 {a b : Nat} (ha : a ≤ 99) (hb : b ≤ 99) : z_sgn (nI b - nI a) = if a < b then 1 else if a = b then 0 else -1 := by
  by_cases h : a < b
  · rw [if_pos h, pk_sub (by omega)]
    exact z_sgn_1 (by omega) (by omega)
  · rw [if_neg h]
    by_cases e : a = b
    · rw [if_pos e, e, pk_sub (Nat.le_refl _), Nat.sub_self]
      exact z_sgn_0
    · rw [if_neg e, ← Int32.neg_sub, pk_sub (by omega)]
      exact z_sgn_m (by omega) (by omega)
theorem z_sgn_tow {a b : Nat} (ha : a ≤ 99) (hb : b ≤ 99) (m : Int32) (h : a = b → m = 0) : nI a + z_sgn (nI b - nI a) * m = z_tow (nI a) (nI b) m := by
  rw [z_sgn_d2 ha hb]
  unfold z_tow
  by_cases h1 : a < b
  · rw [if_pos h1, if_pos (nI_lt h1 (by omega)), Int32.one_mul]
  · rw [if_neg h1, if_neg (nI_nlt (by omega) (by omega))]
    by_cases e : a = b
    · rw [if_pos e, h e]
      simp
    · rw [if_neg e, Int32.sub_eq_add_neg, Int32.neg_eq_neg_one_mul m]
/-- a set of bits, as a number -/
def z_sN (P : Nat → Prop) [DecidablePred P] : Nat → Nat
  | 0 => 0
  | n + 1 => z_sN P n + (if P n then 2 ^ n else 0)
theorem z_sN_lt (P : Nat → Prop) [DecidablePred P] : ∀ n, z_sN P n < 2 ^ n
  | 0 => (show 0 < 1 by decide)
  | n + 1 => by
    have ih := z_sN_lt P n
    have e : 2 ^ (n + 1) = 2 ^ n + 2 ^ n := by rw [Nat.pow_succ]; omega
    show z_sN P n + (if P n then 2 ^ n else 0) < 2 ^ (n + 1)
    by_cases h : P n
    · rw [if_pos h]; omega
    · rw [if_neg h]; omega
theorem z_bor_d : ∀ n : Fin 10, ∀ m : Fin (2 ^ n.val), nI m.val ||| nI 1 <<< (nI n.val &&& 31) = nI (m.val + 2 ^ n.val) := by decide +kernel
theorem z_set_n (P : Nat → Prop) [DecidablePred P] : ∀ n, n ≤ 10 → z_set P n = nI (z_sN P n)
  | 0, _ => rfl
  | n + 1, h => by
    have ih := z_set_n P n (by omega)
    show (if P n then z_set P n ||| nI 1 <<< (nI n &&& 31) else z_set P n) = nI (z_sN P n + (if P n then 2 ^ n else 0))
    by_cases hp : P n
    · rw [if_pos hp, if_pos hp, ih]
      exact z_bor_d ⟨n, by omega⟩ ⟨z_sN P n, z_sN_lt P n⟩
    · rw [if_neg hp, if_neg hp, ih]
      rfl
theorem z_sN_bit (P : Nat → Prop) [DecidablePred P] {r : Nat} : ∀ n, r < n → z_sN P n / 2 ^ r % 2 = if P r then 1 else 0
  | 0, h => absurd h (Nat.not_lt_zero _)
  | n + 1, h => by
    have lt := z_sN_lt P n
    show (z_sN P n + (if P n then 2 ^ n else 0)) / 2 ^ r % 2 = _
    by_cases e : r = n
    · subst e
      by_cases hp : P r
      · rw [if_pos hp, if_pos hp, Nat.add_div_right _ (Nat.two_pow_pos r), Nat.div_eq_of_lt lt]
      · rw [if_neg hp, if_neg hp, Nat.add_zero, Nat.div_eq_of_lt lt]
    · have ih := z_sN_bit P n (r := r) (by omega)
      by_cases hp : P n
      · rw [if_pos hp]
        obtain ⟨k, hk⟩ : ∃ k, n = r + (k + 1) := ⟨n - r - 1, by omega⟩
        have e2 : 2 ^ n = 2 ^ r * (2 * 2 ^ k) := by rw [hk, Nat.pow_add, Nat.pow_succ, Nat.mul_comm (2 ^ k) 2]
        rw [e2, Nat.add_mul_div_left _ _ (Nat.two_pow_pos r), Nat.add_mul_mod_self_left]
        exact ih
      · rw [if_neg hp, Nat.add_zero]
        exact ih
theorem z_bis_d : ∀ m : Fin 1024, ∀ r : Fin 10, (nI m.val >>> (nI r.val &&& 31)) &&& nI 1 = nI (m.val / 2 ^ r.val % 2) := by decide +kernel
theorem z_bis2 {m r : Nat} (hm : m < 1024) (hr : r < 10) : (nI m >>> (nI r &&& 31)) &&& nI 1 = nI (m / 2 ^ r % 2) := z_bis_d ⟨m, hm⟩ ⟨r, hr⟩
theorem z_sN_1024 (P : Nat → Prop) [DecidablePred P] {n : Nat} (h : n ≤ 10) : z_sN P n < 1024 := Nat.lt_of_lt_of_le (z_sN_lt P n) (Nat.le_trans (Nat.pow_le_pow_right (by decide) h) (by decide))
/-- a bit of a set -/
theorem z_set_bit (P : Nat → Prop) [DecidablePred P] {n r : Nat} (hn : n ≤ 10) (hr : r < n) : (z_set P n >>> (nI r &&& 31)) &&& nI 1 = if P r then nI 1 else nI 0 := by
  rw [z_set_n P n hn, z_bis2 (z_sN_1024 P hn) (by omega), z_sN_bit P n hr]
  by_cases h : P r
  · rw [if_pos h, if_pos h]
  · rw [if_neg h, if_neg h]
theorem z_set_congr {P Q : Nat → Prop} [DecidablePred P] [DecidablePred Q] : ∀ {n : Nat}, (∀ i, i < n → (P i ↔ Q i)) → z_set P n = z_set Q n
  | 0, _ => rfl
  | n + 1, h => by
    show (if P n then z_set P n ||| nI 1 <<< (nI n &&& 31) else z_set P n) = if Q n then z_set Q n ||| nI 1 <<< (nI n &&& 31) else z_set Q n
    rw [z_set_congr (fun i hi => h i (by omega))]
    by_cases hp : P n
    · rw [if_pos hp, if_pos ((h n (by omega)).mp hp)]
    · rw [if_neg hp, if_neg (fun q => hp ((h n (by omega)).mpr q))]
theorem z_sN_set (P Q : Nat → Prop) [DecidablePred P] [DecidablePred Q] {r : Nat} (h : ∀ i, ¬ i = r → (Q i ↔ P i)) : ∀ n, z_sN Q n + (if r < n ∧ P r then 2 ^ r else 0) = z_sN P n + (if r < n ∧ Q r then 2 ^ r else 0)
  | 0 => by rw [if_neg (by omega), if_neg (by omega)]; rfl
  | n + 1 => by
    have ih := z_sN_set P Q h n
    show z_sN Q n + (if Q n then 2 ^ n else 0) + _ = z_sN P n + (if P n then 2 ^ n else 0) + _
    by_cases e : r = n
    · subst e
      rw [if_neg (by omega), if_neg (by omega)] at ih
      have i1 : (r < r + 1 ∧ P r) ↔ P r := ⟨fun q => q.2, fun q => ⟨by omega, q⟩⟩
      have i2 : (r < r + 1 ∧ Q r) ↔ Q r := ⟨fun q => q.2, fun q => ⟨by omega, q⟩⟩
      simp only [i1, i2]
      omega
    · have i1 : (r < n + 1 ∧ P r) ↔ (r < n ∧ P r) := ⟨fun q => ⟨by omega, q.2⟩, fun q => ⟨by omega, q.2⟩⟩
      have i2 : (r < n + 1 ∧ Q r) ↔ (r < n ∧ Q r) := ⟨fun q => ⟨by omega, q.2⟩, fun q => ⟨by omega, q.2⟩⟩
      have i3 : (if Q n then 2 ^ n else 0) = if P n then 2 ^ n else 0 := by
        by_cases hp : P n
        · rw [if_pos hp, if_pos ((h n (fun q => e q.symm)).mpr hp)]
        · rw [if_neg hp, if_neg (fun q => hp ((h n (fun q => e q.symm)).mp q))]
      simp only [i1, i2, i3]
      omega
theorem z_bor10 : ∀ m : Fin 1024, ∀ r : Fin 10, nI m.val ||| nI 1 <<< (nI r.val &&& 31) = nI (if m.val / 2 ^ r.val % 2 = 1 then m.val else m.val + 2 ^ r.val) := by decide +kernel
theorem z_bcl10 : ∀ m : Fin 1024, ∀ r : Fin 10, nI m.val &&& (nI 1 <<< (nI r.val &&& 31) ^^^ (-1)) = nI (if m.val / 2 ^ r.val % 2 = 1 then m.val - 2 ^ r.val else m.val) := by decide +kernel
theorem z_bxo10 : ∀ m : Fin 1024, ∀ r : Fin 10, nI m.val ^^^ nI 1 <<< (nI r.val &&& 31) = nI (if m.val / 2 ^ r.val % 2 = 1 then m.val - 2 ^ r.val else m.val + 2 ^ r.val) := by decide +kernel
/-- a bit is set, cleared, turned -/
theorem z_set_or (P Q : Nat → Prop) [DecidablePred P] [DecidablePred Q] {n r : Nat} (hn : n ≤ 10) (hr : r < n) (h : ∀ i, ¬ i = r → (Q i ↔ P i)) (hq : Q r) : z_set P n ||| nI 1 <<< (nI r &&& 31) = z_set Q n := by
  rw [z_set_n P n hn, z_set_n Q n hn]
  refine (z_bor10 ⟨z_sN P n, z_sN_1024 P hn⟩ ⟨r, by omega⟩).trans ?_
  have e := z_sN_set P Q h n
  have hb : z_sN P n / 2 ^ r % 2 = if P r then 1 else 0 := z_sN_bit P n hr
  show nI (if z_sN P n / 2 ^ r % 2 = 1 then z_sN P n else z_sN P n + 2 ^ r) = _
  congr 1
  rw [if_pos (c := r < n ∧ Q r) ⟨hr, hq⟩] at e
  by_cases hp : P r
  · rw [if_pos hp] at hb
    rw [if_pos (c := r < n ∧ P r) ⟨hr, hp⟩] at e
    rw [if_pos hb]
    omega
  · rw [if_neg hp] at hb
    rw [if_neg (c := r < n ∧ P r) (fun q => hp q.2)] at e
    rw [if_neg (by omega)]
    omega
theorem z_set_cl (P Q : Nat → Prop) [DecidablePred P] [DecidablePred Q] {n r : Nat} (hn : n ≤ 10) (hr : r < n) (h : ∀ i, ¬ i = r → (Q i ↔ P i)) (hq : ¬ Q r) : z_set P n &&& (nI 1 <<< (nI r &&& 31) ^^^ (-1)) = z_set Q n := by
  rw [z_set_n P n hn, z_set_n Q n hn]
  refine (z_bcl10 ⟨z_sN P n, z_sN_1024 P hn⟩ ⟨r, by omega⟩).trans ?_
  have e := z_sN_set P Q h n
  have hb : z_sN P n / 2 ^ r % 2 = if P r then 1 else 0 := z_sN_bit P n hr
  show nI (if z_sN P n / 2 ^ r % 2 = 1 then z_sN P n - 2 ^ r else z_sN P n) = _
  congr 1
  rw [if_neg (c := r < n ∧ Q r) (fun q => hq q.2)] at e
  by_cases hp : P r
  · rw [if_pos hp] at hb
    rw [if_pos (c := r < n ∧ P r) ⟨hr, hp⟩] at e
    rw [if_pos hb]
    omega
  · rw [if_neg hp] at hb
    rw [if_neg (c := r < n ∧ P r) (fun q => hp q.2)] at e
    rw [if_neg (by omega)]
    omega
theorem z_set_xo (P Q : Nat → Prop) [DecidablePred P] [DecidablePred Q] {n r : Nat} (hn : n ≤ 10) (hr : r < n) (h : ∀ i, ¬ i = r → (Q i ↔ P i)) (hq : Q r ↔ ¬ P r) : z_set P n ^^^ nI 1 <<< (nI r &&& 31) = z_set Q n := by
  rw [z_set_n P n hn, z_set_n Q n hn]
  refine (z_bxo10 ⟨z_sN P n, z_sN_1024 P hn⟩ ⟨r, by omega⟩).trans ?_
  have e := z_sN_set P Q h n
  have hb : z_sN P n / 2 ^ r % 2 = if P r then 1 else 0 := z_sN_bit P n hr
  show nI (if z_sN P n / 2 ^ r % 2 = 1 then z_sN P n - 2 ^ r else z_sN P n + 2 ^ r) = _
  congr 1
  by_cases hp : P r
  · rw [if_pos hp] at hb
    rw [if_pos (c := r < n ∧ P r) ⟨hr, hp⟩, if_neg (c := r < n ∧ Q r) (fun q => (hq.mp q.2) hp)] at e
    rw [if_pos hb]
    omega
  · rw [if_neg hp] at hb
    rw [if_neg (c := r < n ∧ P r) (fun q => hp q.2), if_pos (c := r < n ∧ Q r) ⟨hr, hq.mpr hp⟩] at e
    rw [if_neg (by omega)]
    omega
/-- all of R bits -/
theorem z_all_d : ∀ R : Fin 11, nI 1 <<< (nI R.val &&& 31) - nI 1 = nI (2 ^ R.val - 1) := by decide +kernel
theorem z_sN_all (P : Nat → Prop) [DecidablePred P] {R : Nat} (h : ∀ i, P i ↔ i < R) : ∀ n, z_sN P n = 2 ^ (if n < R then n else R) - 1
  | 0 => by
    show 0 = _
    by_cases h0 : 0 < R
    · rw [if_pos h0]
    · rw [if_neg h0, show R = 0 by omega]
  | n + 1 => by
    show z_sN P n + (if P n then 2 ^ n else 0) = _
    rw [z_sN_all P h n]
    by_cases hp : P n
    · have hr := (h n).mp hp
      rw [if_pos hp, if_pos hr]
      have p1 := Nat.two_pow_pos n
      by_cases h1 : n + 1 < R
      · rw [if_pos h1, Nat.pow_succ]; omega
      · rw [if_neg h1, show R = n + 1 by omega, Nat.pow_succ]; omega
    · have hr : ¬ n < R := fun q => hp ((h n).mpr q)
      rw [if_neg hp, if_neg hr, if_neg (by omega), Nat.add_zero]
theorem z_set_all (P : Nat → Prop) [DecidablePred P] {R : Nat} (hR : R ≤ 10) (h : ∀ i, i < 10 → (P i ↔ i < R)) : nI 1 <<< (nI R &&& 31) - nI 1 = z_set P 10 := by
  rw [z_set_congr (Q := fun i => i < R) h, z_set_n _ 10 (Nat.le_refl _), z_sN_all (fun i => i < R) (R := R) (fun i => Iff.rfl) 10, if_neg (by omega)]
  exact z_all_d ⟨R, by omega⟩
/-- Integer.bitCount -/
def z_bc1 (x : Int32) : Int32 := x - ((x.toUInt32 >>> ((nI 1).toUInt32 &&& Int32.toUInt32 31)).toInt32 &&& 1431655765)
def z_bc2 (x : Int32) : Int32 := (x &&& 858993459) + ((x.toUInt32 >>> ((nI 2).toUInt32 &&& Int32.toUInt32 31)).toInt32 &&& 858993459)
def z_bc3 (x : Int32) : Int32 := (x + (x.toUInt32 >>> ((nI 4).toUInt32 &&& Int32.toUInt32 31)).toInt32) &&& 252645135
def z_bc4 (x : Int32) : Int32 := x + (x.toUInt32 >>> ((nI 8).toUInt32 &&& Int32.toUInt32 31)).toInt32
def z_bc5 (x : Int32) : Int32 := x + (x.toUInt32 >>> ((nI 16).toUInt32 &&& Int32.toUInt32 31)).toInt32
def z_bct (x : Int32) : Int32 := z_bc5 (z_bc4 (z_bc3 (z_bc2 (z_bc1 x)))) &&& nI 63
theorem z_bct_d : ∀ m : Fin 1024, z_bct (nI m.val) = z_bits (nI m.val) := by decide +kernel
theorem z_bct_set (P : Nat → Prop) [DecidablePred P] {n : Nat} (hn : n ≤ 10) : z_bct (z_set P n) = z_bits (z_set P n) := by
  rw [z_set_n P n hn]
  exact z_bct_d ⟨z_sN P n, z_sN_1024 P hn⟩
