/-! the pure state: codes against the reference's cells, printed by wip/gen/gen_sigma.py -/
def nN (n : Nat) : Int32 := if n = 1000 then -9 else nI n
def nS (n : Nat) : Int32 := if n = 0 then -1 else nI (n - 1)
def rpv (k n : Nat) : Int32 := if k = 0 then nI n else if k = 1 then nN n else nS n
def repT : List (Nat × Nat × Nat × Nat) := [(1, 137, 64, 0), (2, 138, 24, 0), (3, 139, 24, 1), (4, 140, 96, 0), (5, 141, 24, 0), (6, 142, 24, 1), (7, 143, 24, 1), (8, 144, 24, 1), (9, 145, 60, 0), (10, 146, 60, 0), (11, 147, 60, 0), (12, 148, 60, 0), (13, 149, 60, 0), (14, 150, 60, 0), (15, 151, 3, 0), (16, 152, 3, 0), (17, 153, 3, 0), (18, 175, 8, 1), (19, 176, 8, 0), (20, 177, 8, 0), (21, 178, 8, 0), (22, 179, 8, 1), (23, 180, 4, 2), (24, 181, 4, 0), (25, 173, 2, 0)]
def scT : List (Nat × Nat × Nat) := [(56, 0, 0), (57, 0, 1), (59, 0, 2), (67, 0, 3), (74, 26, 0), (78, 26, 1), (97, 26, 2), (55, 26, 3)]
/-- the reference has the state s -/
def TR (s : Nat → Nat → Nat) (G : AH) : Prop := (∀ q ∈ repT, ∀ i, i < q.2.2.1 → hI G q.2.1 i = rpv q.2.2.2 (s q.1 i)) ∧ ∀ q ∈ scT, hI G 136 q.1 = nI (s q.2.1 q.2.2)
theorem tr_isWall {s : Nat → Nat → Nat} {G : AH} (h : TR s G) {i : Nat} (hi : i < 64) : hI G 137 i = nI (s 1 i) := h.1 (1, 137, 64, 0) (by decide) i hi
theorem tr_kind {s : Nat → Nat → Nat} {G : AH} (h : TR s G) {i : Nat} (hi : i < 24) : hI G 138 i = nI (s 2 i) := h.1 (2, 138, 24, 0) (by decide) i hi
theorem tr_at {s : Nat → Nat → Nat} {G : AH} (h : TR s G) {i : Nat} (hi : i < 24) : hI G 139 i = nN (s 3 i) := h.1 (3, 139, 24, 1) (by decide) i hi
theorem tr_boxes {s : Nat → Nat → Nat} {G : AH} (h : TR s G) {i : Nat} (hi : i < 96) : hI G 140 i = nI (s 4 i) := h.1 (4, 140, 96, 0) (by decide) i hi
theorem tr_isTrusted {s : Nat → Nat → Nat} {G : AH} (h : TR s G) {i : Nat} (hi : i < 24) : hI G 141 i = nI (s 5 i) := h.1 (5, 141, 24, 0) (by decide) i hi
theorem tr_moverOf {s : Nat → Nat → Nat} {G : AH} (h : TR s G) {i : Nat} (hi : i < 24) : hI G 142 i = nN (s 6 i) := h.1 (6, 142, 24, 1) (by decide) i hi
theorem tr_tickOf {s : Nat → Nat → Nat} {G : AH} (h : TR s G) {i : Nat} (hi : i < 24) : hI G 143 i = nN (s 7 i) := h.1 (7, 143, 24, 1) (by decide) i hi
theorem tr_map {s : Nat → Nat → Nat} {G : AH} (h : TR s G) {i : Nat} (hi : i < 24) : hI G 144 i = nN (s 8 i) := h.1 (8, 144, 24, 1) (by decide) i hi
theorem tr_kindOf {s : Nat → Nat → Nat} {G : AH} (h : TR s G) {i : Nat} (hi : i < 60) : hI G 145 i = nI (s 9 i) := h.1 (9, 145, 60, 0) (by decide) i hi
theorem tr_one {s : Nat → Nat → Nat} {G : AH} (h : TR s G) {i : Nat} (hi : i < 60) : hI G 146 i = nI (s 10 i) := h.1 (10, 146, 60, 0) (by decide) i hi
theorem tr_two {s : Nat → Nat → Nat} {G : AH} (h : TR s G) {i : Nat} (hi : i < 60) : hI G 147 i = nI (s 11 i) := h.1 (11, 147, 60, 0) (by decide) i hi
theorem tr_pOf {s : Nat → Nat → Nat} {G : AH} (h : TR s G) {i : Nat} (hi : i < 60) : hI G 148 i = nI (s 12 i) := h.1 (12, 148, 60, 0) (by decide) i hi
theorem tr_qOf {s : Nat → Nat → Nat} {G : AH} (h : TR s G) {i : Nat} (hi : i < 60) : hI G 149 i = nI (s 13 i) := h.1 (13, 149, 60, 0) (by decide) i hi
theorem tr_isOn {s : Nat → Nat → Nat} {G : AH} (h : TR s G) {i : Nat} (hi : i < 60) : hI G 150 i = nI (s 14 i) := h.1 (14, 150, 60, 0) (by decide) i hi
theorem tr_firstOfMover {s : Nat → Nat → Nat} {G : AH} (h : TR s G) {i : Nat} (hi : i < 3) : hI G 151 i = nI (s 15 i) := h.1 (15, 151, 3, 0) (by decide) i hi
theorem tr_ticks {s : Nat → Nat → Nat} {G : AH} (h : TR s G) {i : Nat} (hi : i < 3) : hI G 152 i = nI (s 16 i) := h.1 (16, 152, 3, 0) (by decide) i hi
theorem tr_reach {s : Nat → Nat → Nat} {G : AH} (h : TR s G) {i : Nat} (hi : i < 3) : hI G 153 i = nI (s 17 i) := h.1 (17, 153, 3, 0) (by decide) i hi
theorem tr_heldWhat {s : Nat → Nat → Nat} {G : AH} (h : TR s G) {i : Nat} (hi : i < 8) : hI G 175 i = nN (s 18 i) := h.1 (18, 175, 8, 1) (by decide) i hi
theorem tr_heldNumber {s : Nat → Nat → Nat} {G : AH} (h : TR s G) {i : Nat} (hi : i < 8) : hI G 176 i = nI (s 19 i) := h.1 (19, 176, 8, 0) (by decide) i hi
theorem tr_heldKind {s : Nat → Nat → Nat} {G : AH} (h : TR s G) {i : Nat} (hi : i < 8) : hI G 177 i = nI (s 20 i) := h.1 (20, 177, 8, 0) (by decide) i hi
theorem tr_heldSum {s : Nat → Nat → Nat} {G : AH} (h : TR s G) {i : Nat} (hi : i < 8) : hI G 178 i = nI (s 21 i) := h.1 (21, 178, 8, 0) (by decide) i hi
theorem tr_heldMore {s : Nat → Nat → Nat} {G : AH} (h : TR s G) {i : Nat} (hi : i < 8) : hI G 179 i = nN (s 22 i) := h.1 (22, 179, 8, 1) (by decide) i hi
theorem tr_sheetSize {s : Nat → Nat → Nat} {G : AH} (h : TR s G) {i : Nat} (hi : i < 4) : hI G 180 i = nS (s 23 i) := h.1 (23, 180, 4, 2) (by decide) i hi
theorem tr_sheetLane {s : Nat → Nat → Nat} {G : AH} (h : TR s G) {i : Nat} (hi : i < 4) : hI G 181 i = nI (s 24 i) := h.1 (24, 181, 4, 0) (by decide) i hi
theorem tr_isKept {s : Nat → Nat → Nat} {G : AH} (h : TR s G) {i : Nat} (hi : i < 2) : hI G 173 i = nI (s 25 i) := h.1 (25, 173, 2, 0) (by decide) i hi
theorem tr_wide {s : Nat → Nat → Nat} {G : AH} (h : TR s G) : hI G 136 56 = nI (s 0 0) := h.2 (56, 0, 0) (by decide)
theorem tr_high {s : Nat → Nat → Nat} {G : AH} (h : TR s G) : hI G 136 57 = nI (s 0 1) := h.2 (57, 0, 1) (by decide)
theorem tr_things {s : Nat → Nat → Nat} {G : AH} (h : TR s G) : hI G 136 59 = nI (s 0 2) := h.2 (59, 0, 2) (by decide)
theorem tr_measures {s : Nat → Nat → Nat} {G : AH} (h : TR s G) : hI G 136 67 = nI (s 0 3) := h.2 (67, 0, 3) (by decide)
theorem tr_movers {s : Nat → Nat → Nat} {G : AH} (h : TR s G) : hI G 136 74 = nI (s 26 0) := h.2 (74, 26, 0) (by decide)
theorem tr_isAlone {s : Nat → Nat → Nat} {G : AH} (h : TR s G) : hI G 136 78 = nI (s 26 1) := h.2 (78, 26, 1) (by decide)
theorem tr_lastTrials {s : Nat → Nat → Nat} {G : AH} (h : TR s G) : hI G 136 97 = nI (s 26 2) := h.2 (97, 26, 2) (by decide)
theorem tr_fault {s : Nat → Nat → Nat} {G : AH} (h : TR s G) : hI G 136 55 = nI (s 26 3) := h.2 (55, 26, 3) (by decide)
theorem TR.of {s : Nat → Nat → Nat} {G G' : AH} (h : TR s G) (h1 : ∀ q ∈ repT, ∀ i, i < q.2.2.1 → hI G' q.2.1 i = hI G q.2.1 i) (h2 : ∀ q ∈ scT, hI G' 136 q.1 = hI G 136 q.1) : TR s G' := ⟨fun q hq i hi => (h1 q hq i hi).trans (h.1 q hq i hi), fun q hq => (h2 q hq).trans (h.2 q hq)⟩
def QL : List Nat := [154, 155, 156, 157, 158, 159, 160, 161, 162, 163, 164, 165, 166, 167, 168, 169, 170, 171, 172, 183]
def QF : List Nat := [80, 81, 82, 90, 92, 96, 98, 101, 103, 104, 105, 106, 107, 108, 109, 110, 111, 112, 113, 114, 115, 116, 117, 118, 119, 123, 124]
def TWL : List Nat := [136, 137, 138, 139, 140, 141, 142, 143, 144, 145, 146, 147, 148, 149, 150, 151, 152, 153, 154, 155, 156, 157, 158, 159, 160, 161, 162, 163, 164, 165, 166, 167, 168, 169, 170, 171, 172, 173, 174, 175, 176, 177, 178, 179, 180, 181, 182, 183]
