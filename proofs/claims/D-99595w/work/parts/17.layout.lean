/-! ===== where the permanent cells lie ===== -/
set_option maxRecDepth 100000
abbrev mM : Nat := 898
abbrev m_tape : Nat := 899
abbrev m_text : Nat := 900
abbrev m_tKind : Nat := 901
abbrev m_tPlace : Nat := 902
abbrev m_tValue : Nat := 903
abbrev m_tName : Nat := 904
abbrev m_keys : Nat := 905
abbrev m_nameOf : Nat := 906
abbrev m_nameAt : Nat := 907
abbrev m_doors : Nat := 908
abbrev m_firstFace : Nat := 909
abbrev m_callers : Nat := 910
abbrev m_faceOf : Nat := 911
abbrev m_rounds : Nat := 912
abbrev m_whoOf : Nat := 913
abbrev m_doorOf : Nat := 914
abbrev m_everyOf : Nat := 915
abbrev m_fromOf : Nat := 916
abbrev m_wind : Nat := 917
abbrev m_near : Nat := 918
abbrev m_seed : Nat := 919
abbrev m_lawFirst : Nat := 920
abbrev m_lawLast : Nat := 921
abbrev m_hasTest : Nat := 922
abbrev m_testFrom : Nat := 923
abbrev m_testMid : Nat := 924
abbrev m_testTo : Nat := 925
abbrev m_termTo : Nat := 926
abbrev m_code : Nat := 927
abbrev m_codeInt : Nat := 928
abbrev m_waits : Nat := 929
abbrev m_variables : Nat := 930
abbrev m_pile : Nat := 931
abbrev m_now : Nat := 932
abbrev m_row : Nat := 933
abbrev m_goesBy : Nat := 934
abbrev m_history : Nat := 935
abbrev m_leastFrom : Nat := 936
abbrev m_busyOf : Nat := 937
abbrev m_toldDoor : Nat := 938
abbrev m_toldPart : Nat := 939
abbrev m_toldWay : Nat := 940
abbrev m_isHeld : Nat := 941
abbrev m_heldRows : Nat := 942
/-- the model's arrays: field, address, shape -/
def md_L : List (Nat × Nat × Nat × Nat) := [(1, m_tape, 101, 2000), (3, m_text, 101, 2000), (5, m_tKind, 100, 403), (6, m_tPlace, 100, 403), (7, m_tValue, 100, 403), (8, m_tName, 104, 403), (9, m_keys, 104, 21), (21, m_nameOf, 104, 11), (22, m_nameAt, 100, 11), (23, m_doors, 100, 2), (24, m_firstFace, 100, 48), (25, m_callers, 100, 2), (26, m_faceOf, 100, 40), (27, m_rounds, 100, 2), (28, m_whoOf, 100, 20), (29, m_doorOf, 100, 20), (30, m_everyOf, 100, 20), (31, m_fromOf, 100, 20), (32, m_wind, 100, 2), (33, m_near, 100, 2), (34, m_seed, 100, 2), (35, m_lawFirst, 100, 6), (36, m_lawLast, 100, 6), (38, m_hasTest, 103, 260), (39, m_testFrom, 100, 260), (40, m_testMid, 100, 260), (41, m_testTo, 100, 260), (42, m_termTo, 100, 260), (44, m_code, 100, 840), (45, m_codeInt, 100, 840), (46, m_waits, 100, 64), (48, m_variables, 100, 9), (49, m_pile, 100, 400), (51, m_now, 100, 70), (52, m_row, 100, 70), (55, m_goesBy, 100, 4), (57, m_history, 100, 2800), (58, m_leastFrom, 100, 224), (59, m_busyOf, 100, 5), (61, m_toldDoor, 100, 20), (62, m_toldPart, 100, 20), (63, m_toldWay, 100, 20), (64, m_isHeld, 103, 3), (65, m_heldRows, 100, 210)]
def md (ρ : sm_R) : Prop := ρ.2.2.1 mM = (10, 0) ∧ ∀ e ∈ md_L, ρ.2.1 mM e.1 = some e.2.1 ∧ ρ.2.2.1 e.2.1 = e.2.2
theorem md_M {ρ : sm_R} (h : md ρ) : ρ.2.2.1 mM = (10, 0) := h.1
theorem mp_tape {ρ : sm_R} (h : md ρ) : ρ.2.1 mM 1 = some m_tape := (h.2 (1, m_tape, 101, 2000) (List.mem_of_getElem? (i := 0) rfl)).1
theorem ms_tape {ρ : sm_R} (h : md ρ) : ρ.2.2.1 m_tape = (101, 2000) := (h.2 (1, m_tape, 101, 2000) (List.mem_of_getElem? (i := 0) rfl)).2
theorem mp_text {ρ : sm_R} (h : md ρ) : ρ.2.1 mM 3 = some m_text := (h.2 (3, m_text, 101, 2000) (List.mem_of_getElem? (i := 1) rfl)).1
theorem ms_text {ρ : sm_R} (h : md ρ) : ρ.2.2.1 m_text = (101, 2000) := (h.2 (3, m_text, 101, 2000) (List.mem_of_getElem? (i := 1) rfl)).2
theorem mp_tKind {ρ : sm_R} (h : md ρ) : ρ.2.1 mM 5 = some m_tKind := (h.2 (5, m_tKind, 100, 403) (List.mem_of_getElem? (i := 2) rfl)).1
theorem ms_tKind {ρ : sm_R} (h : md ρ) : ρ.2.2.1 m_tKind = (100, 403) := (h.2 (5, m_tKind, 100, 403) (List.mem_of_getElem? (i := 2) rfl)).2
theorem mp_tPlace {ρ : sm_R} (h : md ρ) : ρ.2.1 mM 6 = some m_tPlace := (h.2 (6, m_tPlace, 100, 403) (List.mem_of_getElem? (i := 3) rfl)).1
theorem ms_tPlace {ρ : sm_R} (h : md ρ) : ρ.2.2.1 m_tPlace = (100, 403) := (h.2 (6, m_tPlace, 100, 403) (List.mem_of_getElem? (i := 3) rfl)).2
theorem mp_tValue {ρ : sm_R} (h : md ρ) : ρ.2.1 mM 7 = some m_tValue := (h.2 (7, m_tValue, 100, 403) (List.mem_of_getElem? (i := 4) rfl)).1
theorem ms_tValue {ρ : sm_R} (h : md ρ) : ρ.2.2.1 m_tValue = (100, 403) := (h.2 (7, m_tValue, 100, 403) (List.mem_of_getElem? (i := 4) rfl)).2
theorem mp_tName {ρ : sm_R} (h : md ρ) : ρ.2.1 mM 8 = some m_tName := (h.2 (8, m_tName, 104, 403) (List.mem_of_getElem? (i := 5) rfl)).1
theorem ms_tName {ρ : sm_R} (h : md ρ) : ρ.2.2.1 m_tName = (104, 403) := (h.2 (8, m_tName, 104, 403) (List.mem_of_getElem? (i := 5) rfl)).2
theorem mp_keys {ρ : sm_R} (h : md ρ) : ρ.2.1 mM 9 = some m_keys := (h.2 (9, m_keys, 104, 21) (List.mem_of_getElem? (i := 6) rfl)).1
theorem ms_keys {ρ : sm_R} (h : md ρ) : ρ.2.2.1 m_keys = (104, 21) := (h.2 (9, m_keys, 104, 21) (List.mem_of_getElem? (i := 6) rfl)).2
theorem mp_nameOf {ρ : sm_R} (h : md ρ) : ρ.2.1 mM 21 = some m_nameOf := (h.2 (21, m_nameOf, 104, 11) (List.mem_of_getElem? (i := 7) rfl)).1
theorem ms_nameOf {ρ : sm_R} (h : md ρ) : ρ.2.2.1 m_nameOf = (104, 11) := (h.2 (21, m_nameOf, 104, 11) (List.mem_of_getElem? (i := 7) rfl)).2
theorem mp_nameAt {ρ : sm_R} (h : md ρ) : ρ.2.1 mM 22 = some m_nameAt := (h.2 (22, m_nameAt, 100, 11) (List.mem_of_getElem? (i := 8) rfl)).1
theorem ms_nameAt {ρ : sm_R} (h : md ρ) : ρ.2.2.1 m_nameAt = (100, 11) := (h.2 (22, m_nameAt, 100, 11) (List.mem_of_getElem? (i := 8) rfl)).2
theorem mp_doors {ρ : sm_R} (h : md ρ) : ρ.2.1 mM 23 = some m_doors := (h.2 (23, m_doors, 100, 2) (List.mem_of_getElem? (i := 9) rfl)).1
theorem ms_doors {ρ : sm_R} (h : md ρ) : ρ.2.2.1 m_doors = (100, 2) := (h.2 (23, m_doors, 100, 2) (List.mem_of_getElem? (i := 9) rfl)).2
theorem mp_firstFace {ρ : sm_R} (h : md ρ) : ρ.2.1 mM 24 = some m_firstFace := (h.2 (24, m_firstFace, 100, 48) (List.mem_of_getElem? (i := 10) rfl)).1
theorem ms_firstFace {ρ : sm_R} (h : md ρ) : ρ.2.2.1 m_firstFace = (100, 48) := (h.2 (24, m_firstFace, 100, 48) (List.mem_of_getElem? (i := 10) rfl)).2
theorem mp_callers {ρ : sm_R} (h : md ρ) : ρ.2.1 mM 25 = some m_callers := (h.2 (25, m_callers, 100, 2) (List.mem_of_getElem? (i := 11) rfl)).1
theorem ms_callers {ρ : sm_R} (h : md ρ) : ρ.2.2.1 m_callers = (100, 2) := (h.2 (25, m_callers, 100, 2) (List.mem_of_getElem? (i := 11) rfl)).2
theorem mp_faceOf {ρ : sm_R} (h : md ρ) : ρ.2.1 mM 26 = some m_faceOf := (h.2 (26, m_faceOf, 100, 40) (List.mem_of_getElem? (i := 12) rfl)).1
theorem ms_faceOf {ρ : sm_R} (h : md ρ) : ρ.2.2.1 m_faceOf = (100, 40) := (h.2 (26, m_faceOf, 100, 40) (List.mem_of_getElem? (i := 12) rfl)).2
theorem mp_rounds {ρ : sm_R} (h : md ρ) : ρ.2.1 mM 27 = some m_rounds := (h.2 (27, m_rounds, 100, 2) (List.mem_of_getElem? (i := 13) rfl)).1
theorem ms_rounds {ρ : sm_R} (h : md ρ) : ρ.2.2.1 m_rounds = (100, 2) := (h.2 (27, m_rounds, 100, 2) (List.mem_of_getElem? (i := 13) rfl)).2
theorem mp_whoOf {ρ : sm_R} (h : md ρ) : ρ.2.1 mM 28 = some m_whoOf := (h.2 (28, m_whoOf, 100, 20) (List.mem_of_getElem? (i := 14) rfl)).1
theorem ms_whoOf {ρ : sm_R} (h : md ρ) : ρ.2.2.1 m_whoOf = (100, 20) := (h.2 (28, m_whoOf, 100, 20) (List.mem_of_getElem? (i := 14) rfl)).2
theorem mp_doorOf {ρ : sm_R} (h : md ρ) : ρ.2.1 mM 29 = some m_doorOf := (h.2 (29, m_doorOf, 100, 20) (List.mem_of_getElem? (i := 15) rfl)).1
theorem ms_doorOf {ρ : sm_R} (h : md ρ) : ρ.2.2.1 m_doorOf = (100, 20) := (h.2 (29, m_doorOf, 100, 20) (List.mem_of_getElem? (i := 15) rfl)).2
theorem mp_everyOf {ρ : sm_R} (h : md ρ) : ρ.2.1 mM 30 = some m_everyOf := (h.2 (30, m_everyOf, 100, 20) (List.mem_of_getElem? (i := 16) rfl)).1
theorem ms_everyOf {ρ : sm_R} (h : md ρ) : ρ.2.2.1 m_everyOf = (100, 20) := (h.2 (30, m_everyOf, 100, 20) (List.mem_of_getElem? (i := 16) rfl)).2
theorem mp_fromOf {ρ : sm_R} (h : md ρ) : ρ.2.1 mM 31 = some m_fromOf := (h.2 (31, m_fromOf, 100, 20) (List.mem_of_getElem? (i := 17) rfl)).1
theorem ms_fromOf {ρ : sm_R} (h : md ρ) : ρ.2.2.1 m_fromOf = (100, 20) := (h.2 (31, m_fromOf, 100, 20) (List.mem_of_getElem? (i := 17) rfl)).2
theorem mp_wind {ρ : sm_R} (h : md ρ) : ρ.2.1 mM 32 = some m_wind := (h.2 (32, m_wind, 100, 2) (List.mem_of_getElem? (i := 18) rfl)).1
theorem ms_wind {ρ : sm_R} (h : md ρ) : ρ.2.2.1 m_wind = (100, 2) := (h.2 (32, m_wind, 100, 2) (List.mem_of_getElem? (i := 18) rfl)).2
theorem mp_near {ρ : sm_R} (h : md ρ) : ρ.2.1 mM 33 = some m_near := (h.2 (33, m_near, 100, 2) (List.mem_of_getElem? (i := 19) rfl)).1
theorem ms_near {ρ : sm_R} (h : md ρ) : ρ.2.2.1 m_near = (100, 2) := (h.2 (33, m_near, 100, 2) (List.mem_of_getElem? (i := 19) rfl)).2
theorem mp_seed {ρ : sm_R} (h : md ρ) : ρ.2.1 mM 34 = some m_seed := (h.2 (34, m_seed, 100, 2) (List.mem_of_getElem? (i := 20) rfl)).1
theorem ms_seed {ρ : sm_R} (h : md ρ) : ρ.2.2.1 m_seed = (100, 2) := (h.2 (34, m_seed, 100, 2) (List.mem_of_getElem? (i := 20) rfl)).2
theorem mp_lawFirst {ρ : sm_R} (h : md ρ) : ρ.2.1 mM 35 = some m_lawFirst := (h.2 (35, m_lawFirst, 100, 6) (List.mem_of_getElem? (i := 21) rfl)).1
theorem ms_lawFirst {ρ : sm_R} (h : md ρ) : ρ.2.2.1 m_lawFirst = (100, 6) := (h.2 (35, m_lawFirst, 100, 6) (List.mem_of_getElem? (i := 21) rfl)).2
theorem mp_lawLast {ρ : sm_R} (h : md ρ) : ρ.2.1 mM 36 = some m_lawLast := (h.2 (36, m_lawLast, 100, 6) (List.mem_of_getElem? (i := 22) rfl)).1
theorem ms_lawLast {ρ : sm_R} (h : md ρ) : ρ.2.2.1 m_lawLast = (100, 6) := (h.2 (36, m_lawLast, 100, 6) (List.mem_of_getElem? (i := 22) rfl)).2
theorem mp_hasTest {ρ : sm_R} (h : md ρ) : ρ.2.1 mM 38 = some m_hasTest := (h.2 (38, m_hasTest, 103, 260) (List.mem_of_getElem? (i := 23) rfl)).1
theorem ms_hasTest {ρ : sm_R} (h : md ρ) : ρ.2.2.1 m_hasTest = (103, 260) := (h.2 (38, m_hasTest, 103, 260) (List.mem_of_getElem? (i := 23) rfl)).2
theorem mp_testFrom {ρ : sm_R} (h : md ρ) : ρ.2.1 mM 39 = some m_testFrom := (h.2 (39, m_testFrom, 100, 260) (List.mem_of_getElem? (i := 24) rfl)).1
theorem ms_testFrom {ρ : sm_R} (h : md ρ) : ρ.2.2.1 m_testFrom = (100, 260) := (h.2 (39, m_testFrom, 100, 260) (List.mem_of_getElem? (i := 24) rfl)).2
theorem mp_testMid {ρ : sm_R} (h : md ρ) : ρ.2.1 mM 40 = some m_testMid := (h.2 (40, m_testMid, 100, 260) (List.mem_of_getElem? (i := 25) rfl)).1
theorem ms_testMid {ρ : sm_R} (h : md ρ) : ρ.2.2.1 m_testMid = (100, 260) := (h.2 (40, m_testMid, 100, 260) (List.mem_of_getElem? (i := 25) rfl)).2
theorem mp_testTo {ρ : sm_R} (h : md ρ) : ρ.2.1 mM 41 = some m_testTo := (h.2 (41, m_testTo, 100, 260) (List.mem_of_getElem? (i := 26) rfl)).1
theorem ms_testTo {ρ : sm_R} (h : md ρ) : ρ.2.2.1 m_testTo = (100, 260) := (h.2 (41, m_testTo, 100, 260) (List.mem_of_getElem? (i := 26) rfl)).2
theorem mp_termTo {ρ : sm_R} (h : md ρ) : ρ.2.1 mM 42 = some m_termTo := (h.2 (42, m_termTo, 100, 260) (List.mem_of_getElem? (i := 27) rfl)).1
theorem ms_termTo {ρ : sm_R} (h : md ρ) : ρ.2.2.1 m_termTo = (100, 260) := (h.2 (42, m_termTo, 100, 260) (List.mem_of_getElem? (i := 27) rfl)).2
theorem mp_code {ρ : sm_R} (h : md ρ) : ρ.2.1 mM 44 = some m_code := (h.2 (44, m_code, 100, 840) (List.mem_of_getElem? (i := 28) rfl)).1
theorem ms_code {ρ : sm_R} (h : md ρ) : ρ.2.2.1 m_code = (100, 840) := (h.2 (44, m_code, 100, 840) (List.mem_of_getElem? (i := 28) rfl)).2
theorem mp_codeInt {ρ : sm_R} (h : md ρ) : ρ.2.1 mM 45 = some m_codeInt := (h.2 (45, m_codeInt, 100, 840) (List.mem_of_getElem? (i := 29) rfl)).1
theorem ms_codeInt {ρ : sm_R} (h : md ρ) : ρ.2.2.1 m_codeInt = (100, 840) := (h.2 (45, m_codeInt, 100, 840) (List.mem_of_getElem? (i := 29) rfl)).2
theorem mp_waits {ρ : sm_R} (h : md ρ) : ρ.2.1 mM 46 = some m_waits := (h.2 (46, m_waits, 100, 64) (List.mem_of_getElem? (i := 30) rfl)).1
theorem ms_waits {ρ : sm_R} (h : md ρ) : ρ.2.2.1 m_waits = (100, 64) := (h.2 (46, m_waits, 100, 64) (List.mem_of_getElem? (i := 30) rfl)).2
theorem mp_variables {ρ : sm_R} (h : md ρ) : ρ.2.1 mM 48 = some m_variables := (h.2 (48, m_variables, 100, 9) (List.mem_of_getElem? (i := 31) rfl)).1
theorem ms_variables {ρ : sm_R} (h : md ρ) : ρ.2.2.1 m_variables = (100, 9) := (h.2 (48, m_variables, 100, 9) (List.mem_of_getElem? (i := 31) rfl)).2
theorem mp_pile {ρ : sm_R} (h : md ρ) : ρ.2.1 mM 49 = some m_pile := (h.2 (49, m_pile, 100, 400) (List.mem_of_getElem? (i := 32) rfl)).1
theorem ms_pile {ρ : sm_R} (h : md ρ) : ρ.2.2.1 m_pile = (100, 400) := (h.2 (49, m_pile, 100, 400) (List.mem_of_getElem? (i := 32) rfl)).2
theorem mp_now {ρ : sm_R} (h : md ρ) : ρ.2.1 mM 51 = some m_now := (h.2 (51, m_now, 100, 70) (List.mem_of_getElem? (i := 33) rfl)).1
theorem ms_now {ρ : sm_R} (h : md ρ) : ρ.2.2.1 m_now = (100, 70) := (h.2 (51, m_now, 100, 70) (List.mem_of_getElem? (i := 33) rfl)).2
theorem mp_row {ρ : sm_R} (h : md ρ) : ρ.2.1 mM 52 = some m_row := (h.2 (52, m_row, 100, 70) (List.mem_of_getElem? (i := 34) rfl)).1
theorem ms_row {ρ : sm_R} (h : md ρ) : ρ.2.2.1 m_row = (100, 70) := (h.2 (52, m_row, 100, 70) (List.mem_of_getElem? (i := 34) rfl)).2
theorem mp_goesBy {ρ : sm_R} (h : md ρ) : ρ.2.1 mM 55 = some m_goesBy := (h.2 (55, m_goesBy, 100, 4) (List.mem_of_getElem? (i := 35) rfl)).1
theorem ms_goesBy {ρ : sm_R} (h : md ρ) : ρ.2.2.1 m_goesBy = (100, 4) := (h.2 (55, m_goesBy, 100, 4) (List.mem_of_getElem? (i := 35) rfl)).2
theorem mp_history {ρ : sm_R} (h : md ρ) : ρ.2.1 mM 57 = some m_history := (h.2 (57, m_history, 100, 2800) (List.mem_of_getElem? (i := 36) rfl)).1
theorem ms_history {ρ : sm_R} (h : md ρ) : ρ.2.2.1 m_history = (100, 2800) := (h.2 (57, m_history, 100, 2800) (List.mem_of_getElem? (i := 36) rfl)).2
theorem mp_leastFrom {ρ : sm_R} (h : md ρ) : ρ.2.1 mM 58 = some m_leastFrom := (h.2 (58, m_leastFrom, 100, 224) (List.mem_of_getElem? (i := 37) rfl)).1
theorem ms_leastFrom {ρ : sm_R} (h : md ρ) : ρ.2.2.1 m_leastFrom = (100, 224) := (h.2 (58, m_leastFrom, 100, 224) (List.mem_of_getElem? (i := 37) rfl)).2
theorem mp_busyOf {ρ : sm_R} (h : md ρ) : ρ.2.1 mM 59 = some m_busyOf := (h.2 (59, m_busyOf, 100, 5) (List.mem_of_getElem? (i := 38) rfl)).1
theorem ms_busyOf {ρ : sm_R} (h : md ρ) : ρ.2.2.1 m_busyOf = (100, 5) := (h.2 (59, m_busyOf, 100, 5) (List.mem_of_getElem? (i := 38) rfl)).2
theorem mp_toldDoor {ρ : sm_R} (h : md ρ) : ρ.2.1 mM 61 = some m_toldDoor := (h.2 (61, m_toldDoor, 100, 20) (List.mem_of_getElem? (i := 39) rfl)).1
theorem ms_toldDoor {ρ : sm_R} (h : md ρ) : ρ.2.2.1 m_toldDoor = (100, 20) := (h.2 (61, m_toldDoor, 100, 20) (List.mem_of_getElem? (i := 39) rfl)).2
theorem mp_toldPart {ρ : sm_R} (h : md ρ) : ρ.2.1 mM 62 = some m_toldPart := (h.2 (62, m_toldPart, 100, 20) (List.mem_of_getElem? (i := 40) rfl)).1
theorem ms_toldPart {ρ : sm_R} (h : md ρ) : ρ.2.2.1 m_toldPart = (100, 20) := (h.2 (62, m_toldPart, 100, 20) (List.mem_of_getElem? (i := 40) rfl)).2
theorem mp_toldWay {ρ : sm_R} (h : md ρ) : ρ.2.1 mM 63 = some m_toldWay := (h.2 (63, m_toldWay, 100, 20) (List.mem_of_getElem? (i := 41) rfl)).1
theorem ms_toldWay {ρ : sm_R} (h : md ρ) : ρ.2.2.1 m_toldWay = (100, 20) := (h.2 (63, m_toldWay, 100, 20) (List.mem_of_getElem? (i := 41) rfl)).2
theorem mp_isHeld {ρ : sm_R} (h : md ρ) : ρ.2.1 mM 64 = some m_isHeld := (h.2 (64, m_isHeld, 103, 3) (List.mem_of_getElem? (i := 42) rfl)).1
theorem ms_isHeld {ρ : sm_R} (h : md ρ) : ρ.2.2.1 m_isHeld = (103, 3) := (h.2 (64, m_isHeld, 103, 3) (List.mem_of_getElem? (i := 42) rfl)).2
theorem mp_heldRows {ρ : sm_R} (h : md ρ) : ρ.2.1 mM 65 = some m_heldRows := (h.2 (65, m_heldRows, 100, 210) (List.mem_of_getElem? (i := 43) rfl)).1
theorem ms_heldRows {ρ : sm_R} (h : md ρ) : ρ.2.2.1 m_heldRows = (100, 210) := (h.2 (65, m_heldRows, 100, 210) (List.mem_of_getElem? (i := 43) rfl)).2
