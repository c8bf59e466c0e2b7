/-! ===== the law's entry: what the statement gives ===== -/
set_option maxRecDepth 100000
def tmS (i : Nat) : Term := .string (sm_strs.getD i ("", 0, "")).1 (sm_strs.getD i ("", 0, "")).2.1
def lf_N : List Cond := flatC (Jvm.Cond.and given_1 narrow_1)
theorem lf_ex : ∀ i : Fin 22, Cond.exactly (tmS i.val) "java/lang/String" ∈ lf_N := by decide +kernel
theorem lf_co : ∀ i : Fin 22, Cond.eq (.field (tmS i.val) "java/lang/String" "coder" "B") (.int 0) ∈ lf_N := by decide +kernel
theorem lf_ar : ∀ i : Fin 22, Cond.arrayOf (.field (tmS i.val) "java/lang/String" "value" "[B") .byte ∈ lf_N := by decide +kernel
theorem lf_le : ∀ i : Fin 22, Cond.eq (.length (.field (tmS i.val) "java/lang/String" "value" "[B")) (.int (Int32.ofNat (sm_len.getD i.val 0))) ∈ lf_N := by decide +kernel
theorem lf_el : ∀ i : Fin 22, ∀ j : Fin 6, j.val < sm_len.getD i.val 0 → Cond.eq (.elem (.field (tmS i.val) "java/lang/String" "value" "[B") (.int (Int32.ofNat j.val))) (.int ((sm_byt.getD i.val []).getD j.val 0)) ∈ lf_N := by decide +kernel
theorem lf_1 : Cond.isRef (.static "java/lang/Throwable" "UNASSIGNED_STACK" "[Ljava/lang/StackTraceElement;") ∈ lf_N := by decide +kernel
theorem lf_2 : Cond.isRef (.static "java/lang/Throwable" "SUPPRESSED_SENTINEL" "Ljava/util/List;") ∈ lf_N := by decide +kernel
theorem lf_3 : Cond.isRef (.static "jdk/internal/util/Preconditions" "SIOOBE_FORMATTER" "Ljava/util/function/BiFunction;") ∈ lf_N := by decide +kernel
theorem lf_4 : Cond.arrayOf (.static "java/util/ArrayList" "DEFAULTCAPACITY_EMPTY_ELEMENTDATA" "[Ljava/lang/Object;") (.object "java/lang/Object") ∈ lf_N := by decide +kernel
theorem lf_5 : Cond.eq (.length (.static "java/util/ArrayList" "DEFAULTCAPACITY_EMPTY_ELEMENTDATA" "[Ljava/lang/Object;")) (.int 0) ∈ lf_N := by decide +kernel
theorem lf_6 : Cond.eq (.static "java/lang/String" "COMPACT_STRINGS" "Z") (.int 1) ∈ lf_N := by decide +kernel
