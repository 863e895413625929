/-! the bundle of what lies where, and accessors *(printed by c2lib.py)* -/
set_option maxRecDepth 100000
def iPl (s : cT) (i n : Nat) : Prop := s.1 (30 + i) = (1, 8) ∧ s.2.2.2 (30 + i) 0 = some (40 + i) ∧ s.2.2.2 (30 + i) 1 = some (50 + i) ∧ s.1 (40 + i) = (1, 3) ∧ n ≤ 5 ∧ lst s (50 + i) (60 + i) n (fun j => 70 + 8 * i + j) ∧ ∀ j, j < n → s.1 (70 + 8 * i + j) = (1, 9)
def iRu (s : cT) (np : Nat) (nt : Nat → Nat) : Prop := s.1 2 = (1, 2) ∧ s.2.2.2 2 0 = some 3 ∧ s.2.2.2 2 1 = some 5 ∧ s.2.2.2 2 2 = some 7 ∧ s.2.2.2 2 3 = some 8 ∧ s.2.2.2 2 4 = some 9 ∧ s.1 7 = (1, 3) ∧ s.1 8 = (1, 3) ∧ s.1 9 = (1, 3) ∧ np ≤ 4 ∧ lst s 3 4 np (fun i => 30 + i) ∧ ∀ i, i < np → iPl s i (nt i)
abbrev iN : Type := Nat × (Nat × (Nat × (Nat × (Nat → Nat))))
/-- N = (o, nf, no, np, nt) -/
def iH (p : cP) (s : cT) (g : zH) (N : iN) : Prop := okP p s ∧ okG p g ∧ iX s N.1 ∧ iBk s N.1 N.2.1 N.2.2.1 ∧ iRu s N.2.2.2.1 N.2.2.2.2 ∧ 200 ≤ N.1
section AC
variable {p : cP} {s : cT} {g : zH} {N : iN}
theorem a_X_sh (h : iH p s g N) : s.1 1 = (1, 0) := h.2.2.1.1
theorem a_X_ck (h : iH p s g N) : cko (cH p s g) (p.1 1) 0 = some () := c_cko h.1 (a_X_sh h)
theorem a_X_R0 (h : iH p s g N) : gR (cH p s g) (p.1 1) 0 0 = some (p.1 2) := c_gR h.1 (a_X_sh h) rfl (h.2.2.1.2.1)
theorem a_X_R1 (h : iH p s g N) : gR (cH p s g) (p.1 1) 0 1 = some (p.1 (N.1 + 10)) := c_gR h.1 (a_X_sh h) rfl (h.2.2.1.2.2.1)
theorem a_X_R2 (h : iH p s g N) : gR (cH p s g) (p.1 1) 0 2 = some (p.1 21) := c_gR h.1 (a_X_sh h) rfl (h.2.2.1.2.2.2.1)
theorem a_X_R3 (h : iH p s g N) : gR (cH p s g) (p.1 1) 0 3 = some (p.1 22) := c_gR h.1 (a_X_sh h) rfl (h.2.2.1.2.2.2.2.1)
theorem a_X_R4 (h : iH p s g N) : gR (cH p s g) (p.1 1) 0 4 = some (p.1 26) := c_gR h.1 (a_X_sh h) rfl (h.2.2.1.2.2.2.2.2.1)
theorem a_X_R5 (h : iH p s g N) : gR (cH p s g) (p.1 1) 0 5 = some (p.1 24) := c_gR h.1 (a_X_sh h) rfl (h.2.2.1.2.2.2.2.2.2.1)
theorem a_X_R6 (h : iH p s g N) : gR (cH p s g) (p.1 1) 0 6 = some (p.1 23) := c_gR h.1 (a_X_sh h) rfl (h.2.2.1.2.2.2.2.2.2.2.1)
theorem a_X_I7 (h : iH p s g N) : gI (cH p s g) (p.1 1) 0 7 = some (s.2.1 1 7) := c_gI h.1 (a_X_sh h) rfl
theorem a_X_pI7 (h : iH p s g N) (v : Int32) : pF (cH p s g) (p.1 1) 0 7 (.int v) = some (cH p (uI s 1 7 v) g) := c_pI h.1 (a_X_sh h) rfl
theorem a_X_I8 (h : iH p s g N) : gI (cH p s g) (p.1 1) 0 8 = some (s.2.1 1 8) := c_gI h.1 (a_X_sh h) rfl
theorem a_X_pI8 (h : iH p s g N) (v : Int32) : pF (cH p s g) (p.1 1) 0 8 (.int v) = some (cH p (uI s 1 8 v) g) := c_pI h.1 (a_X_sh h) rfl
theorem a_X_I9 (h : iH p s g N) : gI (cH p s g) (p.1 1) 0 9 = some (s.2.1 1 9) := c_gI h.1 (a_X_sh h) rfl
theorem a_X_pI9 (h : iH p s g N) (v : Int32) : pF (cH p s g) (p.1 1) 0 9 (.int v) = some (cH p (uI s 1 9 v) g) := c_pI h.1 (a_X_sh h) rfl
theorem a_Ru_sh (h : iH p s g N) : s.1 2 = (1, 2) := h.2.2.2.2.1.1
theorem a_Ru_ck (h : iH p s g N) : cko (cH p s g) (p.1 2) 2 = some () := c_cko h.1 (a_Ru_sh h)
theorem a_Ru_R0 (h : iH p s g N) : gR (cH p s g) (p.1 2) 2 0 = some (p.1 3) := c_gR h.1 (a_Ru_sh h) rfl (h.2.2.2.2.1.2.1)
theorem a_Ru_R1 (h : iH p s g N) : gR (cH p s g) (p.1 2) 2 1 = some (p.1 5) := c_gR h.1 (a_Ru_sh h) rfl (h.2.2.2.2.1.2.2.1)
theorem a_Ru_R2 (h : iH p s g N) : gR (cH p s g) (p.1 2) 2 2 = some (p.1 7) := c_gR h.1 (a_Ru_sh h) rfl (h.2.2.2.2.1.2.2.2.1)
theorem a_Ru_R3 (h : iH p s g N) : gR (cH p s g) (p.1 2) 2 3 = some (p.1 8) := c_gR h.1 (a_Ru_sh h) rfl (h.2.2.2.2.1.2.2.2.2.1)
theorem a_Ru_R4 (h : iH p s g N) : gR (cH p s g) (p.1 2) 2 4 = some (p.1 9) := c_gR h.1 (a_Ru_sh h) rfl (h.2.2.2.2.1.2.2.2.2.2.1)
theorem a_Ru_L5 (h : iH p s g N) : gL (cH p s g) (p.1 2) 2 5 = some (s.2.2.1 2 5) := c_gL h.1 (a_Ru_sh h) rfl
theorem a_Ru_pL5 (h : iH p s g N) (v : Int64) : pF (cH p s g) (p.1 2) 2 5 (.long v) = some (cH p (uL s 2 5 v) g) := c_pL h.1 (a_Ru_sh h) rfl
theorem a_Ru_L6 (h : iH p s g N) : gL (cH p s g) (p.1 2) 2 6 = some (s.2.2.1 2 6) := c_gL h.1 (a_Ru_sh h) rfl
theorem a_Ru_pL6 (h : iH p s g N) (v : Int64) : pF (cH p s g) (p.1 2) 2 6 (.long v) = some (cH p (uL s 2 6 v) g) := c_pL h.1 (a_Ru_sh h) rfl
theorem a_Ru_I7 (h : iH p s g N) : gI (cH p s g) (p.1 2) 2 7 = some (s.2.1 2 7) := c_gI h.1 (a_Ru_sh h) rfl
theorem a_Ru_pI7 (h : iH p s g N) (v : Int32) : pF (cH p s g) (p.1 2) 2 7 (.int v) = some (cH p (uI s 2 7 v) g) := c_pI h.1 (a_Ru_sh h) rfl
theorem a_Ru_I8 (h : iH p s g N) : gI (cH p s g) (p.1 2) 2 8 = some (s.2.1 2 8) := c_gI h.1 (a_Ru_sh h) rfl
theorem a_Ru_pI8 (h : iH p s g N) (v : Int32) : pF (cH p s g) (p.1 2) 2 8 (.int v) = some (cH p (uI s 2 8 v) g) := c_pI h.1 (a_Ru_sh h) rfl
theorem a_Ru_I9 (h : iH p s g N) : gI (cH p s g) (p.1 2) 2 9 = some (s.2.1 2 9) := c_gI h.1 (a_Ru_sh h) rfl
theorem a_Ru_pI9 (h : iH p s g N) (v : Int32) : pF (cH p s g) (p.1 2) 2 9 (.int v) = some (cH p (uI s 2 9 v) g) := c_pI h.1 (a_Ru_sh h) rfl
theorem a_Bk_sh (h : iH p s g N) : s.1 (N.1 + 10) = (1, 4) := h.2.2.2.1.1
theorem a_Bk_ck (h : iH p s g N) : cko (cH p s g) (p.1 (N.1 + 10)) 4 = some () := c_cko h.1 (a_Bk_sh h)
theorem a_Bk_R0 (h : iH p s g N) : gR (cH p s g) (p.1 (N.1 + 10)) 4 0 = some (p.1 (N.1 + 11)) := c_gR h.1 (a_Bk_sh h) rfl (h.2.2.2.1.2.1)
theorem a_Bk_R1 (h : iH p s g N) : gR (cH p s g) (p.1 (N.1 + 10)) 4 1 = some (p.1 (N.1 + 13)) := c_gR h.1 (a_Bk_sh h) rfl (h.2.2.2.1.2.2.1)
theorem a_Bk_R2 (h : iH p s g N) : gR (cH p s g) (p.1 (N.1 + 10)) 4 2 = some (p.1 (N.1 + 15)) := c_gR h.1 (a_Bk_sh h) rfl (h.2.2.2.1.2.2.2.1)
theorem a_Bk_R3 (h : iH p s g N) : gR (cH p s g) (p.1 (N.1 + 10)) 4 3 = some (p.1 (N.1 + 19)) := c_gR h.1 (a_Bk_sh h) rfl (h.2.2.2.1.2.2.2.2.1)
theorem a_Bk_R4 (h : iH p s g N) : gR (cH p s g) (p.1 (N.1 + 10)) 4 4 = some (p.1 (N.1 + 20)) := c_gR h.1 (a_Bk_sh h) rfl (h.2.2.2.1.2.2.2.2.2.1)
theorem a_Bk_I5 (h : iH p s g N) : gI (cH p s g) (p.1 (N.1 + 10)) 4 5 = some (s.2.1 (N.1 + 10) 5) := c_gI h.1 (a_Bk_sh h) rfl
theorem a_Bk_pI5 (h : iH p s g N) (v : Int32) : pF (cH p s g) (p.1 (N.1 + 10)) 4 5 (.int v) = some (cH p (uI s (N.1 + 10) 5 v) g) := c_pI h.1 (a_Bk_sh h) rfl
theorem a_Bk_R6 (h : iH p s g N) : gR (cH p s g) (p.1 (N.1 + 10)) 4 6 = some (p.1 1) := c_gR h.1 (a_Bk_sh h) rfl (h.2.2.2.1.2.2.2.2.2.2.1)
theorem a_Gr_sh (h : iH p s g N) : s.1 (N.1 + 15) = (1, 5) := h.2.2.2.1.2.2.2.2.2.2.2.2.2.2.2.1.1
theorem a_Gr_ck (h : iH p s g N) : cko (cH p s g) (p.1 (N.1 + 15)) 5 = some () := c_cko h.1 (a_Gr_sh h)
theorem a_Gr_R0 (h : iH p s g N) : gR (cH p s g) (p.1 (N.1 + 15)) 5 0 = some (p.1 (N.1 + 16)) := c_gR h.1 (a_Gr_sh h) rfl (h.2.2.2.1.2.2.2.2.2.2.2.2.2.2.2.1.2.1)
theorem a_Gr_R1 (h : iH p s g N) : gR (cH p s g) (p.1 (N.1 + 15)) 5 1 = some (p.1 (N.1 + 17)) := c_gR h.1 (a_Gr_sh h) rfl (h.2.2.2.1.2.2.2.2.2.2.2.2.2.2.2.1.2.2.1)
theorem a_Gr_R2 (h : iH p s g N) : gR (cH p s g) (p.1 (N.1 + 15)) 5 2 = some (p.1 (N.1 + 18)) := c_gR h.1 (a_Gr_sh h) rfl (h.2.2.2.1.2.2.2.2.2.2.2.2.2.2.2.1.2.2.2.1)
theorem a_Fr_sh (h : iH p s g N) {i : Nat} (hi : i < N.2.1) : s.1 (N.1 + 130 + i) = (1, 10) := (h.2.2.2.1.2.2.2.2.2.2.2.2.2.2.2.2.1 i hi).1
theorem a_Fr_ck (h : iH p s g N) {i : Nat} (hi : i < N.2.1) : cko (cH p s g) (p.1 (N.1 + 130 + i)) 10 = some () := c_cko h.1 (a_Fr_sh h hi)
theorem a_Fr_R0 (h : iH p s g N) {i : Nat} (hi : i < N.2.1) : gR (cH p s g) (p.1 (N.1 + 130 + i)) 10 0 = some (p.1 (N.1 + 140 + i)) := c_gR h.1 (a_Fr_sh h hi) rfl ((h.2.2.2.1.2.2.2.2.2.2.2.2.2.2.2.2.1 i hi).2.1)
theorem a_Fr_R1 (h : iH p s g N) {i : Nat} (hi : i < N.2.1) : gR (cH p s g) (p.1 (N.1 + 130 + i)) 10 1 = some (p.1 (N.1 + 150 + i)) := c_gR h.1 (a_Fr_sh h hi) rfl ((h.2.2.2.1.2.2.2.2.2.2.2.2.2.2.2.2.1 i hi).2.2.1)
theorem a_Fr_R2 (h : iH p s g N) {i : Nat} (hi : i < N.2.1) : gR (cH p s g) (p.1 (N.1 + 130 + i)) 10 2 = some (p.1 (N.1 + 160 + i)) := c_gR h.1 (a_Fr_sh h hi) rfl ((h.2.2.2.1.2.2.2.2.2.2.2.2.2.2.2.2.1 i hi).2.2.2.1)
theorem a_Fr_I3 (h : iH p s g N) {i : Nat} (hi : i < N.2.1) : gI (cH p s g) (p.1 (N.1 + 130 + i)) 10 3 = some (s.2.1 (N.1 + 130 + i) 3) := c_gI h.1 (a_Fr_sh h hi) rfl
theorem a_Fr_pI3 (h : iH p s g N) {i : Nat} (hi : i < N.2.1) (v : Int32) : pF (cH p s g) (p.1 (N.1 + 130 + i)) 10 3 (.int v) = some (cH p (uI s (N.1 + 130 + i) 3 v) g) := c_pI h.1 (a_Fr_sh h hi) rfl
theorem a_Fr_I4 (h : iH p s g N) {i : Nat} (hi : i < N.2.1) : gI (cH p s g) (p.1 (N.1 + 130 + i)) 10 4 = some (s.2.1 (N.1 + 130 + i) 4) := c_gI h.1 (a_Fr_sh h hi) rfl
theorem a_Fr_pI4 (h : iH p s g N) {i : Nat} (hi : i < N.2.1) (v : Int32) : pF (cH p s g) (p.1 (N.1 + 130 + i)) 10 4 (.int v) = some (cH p (uI s (N.1 + 130 + i) 4 v) g) := c_pI h.1 (a_Fr_sh h hi) rfl
theorem a_Fr_I5 (h : iH p s g N) {i : Nat} (hi : i < N.2.1) : gI (cH p s g) (p.1 (N.1 + 130 + i)) 10 5 = some (s.2.1 (N.1 + 130 + i) 5) := c_gI h.1 (a_Fr_sh h hi) rfl
theorem a_Fr_pI5 (h : iH p s g N) {i : Nat} (hi : i < N.2.1) (v : Int32) : pF (cH p s g) (p.1 (N.1 + 130 + i)) 10 5 (.int v) = some (cH p (uI s (N.1 + 130 + i) 5 v) g) := c_pI h.1 (a_Fr_sh h hi) rfl
theorem a_Fr_I6 (h : iH p s g N) {i : Nat} (hi : i < N.2.1) : gI (cH p s g) (p.1 (N.1 + 130 + i)) 10 6 = some (s.2.1 (N.1 + 130 + i) 6) := c_gI h.1 (a_Fr_sh h hi) rfl
theorem a_Fr_pI6 (h : iH p s g N) {i : Nat} (hi : i < N.2.1) (v : Int32) : pF (cH p s g) (p.1 (N.1 + 130 + i)) 10 6 (.int v) = some (cH p (uI s (N.1 + 130 + i) 6 v) g) := c_pI h.1 (a_Fr_sh h hi) rfl
theorem a_Fr_I7 (h : iH p s g N) {i : Nat} (hi : i < N.2.1) : gI (cH p s g) (p.1 (N.1 + 130 + i)) 10 7 = some (s.2.1 (N.1 + 130 + i) 7) := c_gI h.1 (a_Fr_sh h hi) rfl
theorem a_Fr_pI7 (h : iH p s g N) {i : Nat} (hi : i < N.2.1) (v : Int32) : pF (cH p s g) (p.1 (N.1 + 130 + i)) 10 7 (.int v) = some (cH p (uI s (N.1 + 130 + i) 7 v) g) := c_pI h.1 (a_Fr_sh h hi) rfl
theorem a_Fr_L8 (h : iH p s g N) {i : Nat} (hi : i < N.2.1) : gL (cH p s g) (p.1 (N.1 + 130 + i)) 10 8 = some (s.2.2.1 (N.1 + 130 + i) 8) := c_gL h.1 (a_Fr_sh h hi) rfl
theorem a_Fr_pL8 (h : iH p s g N) {i : Nat} (hi : i < N.2.1) (v : Int64) : pF (cH p s g) (p.1 (N.1 + 130 + i)) 10 8 (.long v) = some (cH p (uL s (N.1 + 130 + i) 8 v) g) := c_pL h.1 (a_Fr_sh h hi) rfl
theorem a_Fr_L9 (h : iH p s g N) {i : Nat} (hi : i < N.2.1) : gL (cH p s g) (p.1 (N.1 + 130 + i)) 10 9 = some (s.2.2.1 (N.1 + 130 + i) 9) := c_gL h.1 (a_Fr_sh h hi) rfl
theorem a_Fr_pL9 (h : iH p s g N) {i : Nat} (hi : i < N.2.1) (v : Int64) : pF (cH p s g) (p.1 (N.1 + 130 + i)) 10 9 (.long v) = some (cH p (uL s (N.1 + 130 + i) 9 v) g) := c_pL h.1 (a_Fr_sh h hi) rfl
theorem a_Fr_L10 (h : iH p s g N) {i : Nat} (hi : i < N.2.1) : gL (cH p s g) (p.1 (N.1 + 130 + i)) 10 10 = some (s.2.2.1 (N.1 + 130 + i) 10) := c_gL h.1 (a_Fr_sh h hi) rfl
theorem a_Fr_pL10 (h : iH p s g N) {i : Nat} (hi : i < N.2.1) (v : Int64) : pF (cH p s g) (p.1 (N.1 + 130 + i)) 10 10 (.long v) = some (cH p (uL s (N.1 + 130 + i) 10 v) g) := c_pL h.1 (a_Fr_sh h hi) rfl
theorem a_Tr_sh (h : iH p s g N) {i : Nat} (hi : i < N.2.1) : s.1 (N.1 + 140 + i) = (1, 11) := (h.2.2.2.1.2.2.2.2.2.2.2.2.2.2.2.2.1 i hi).2.2.2.2.1
theorem a_Tr_ck (h : iH p s g N) {i : Nat} (hi : i < N.2.1) : cko (cH p s g) (p.1 (N.1 + 140 + i)) 11 = some () := c_cko h.1 (a_Tr_sh h hi)
theorem a_Tr_I0 (h : iH p s g N) {i : Nat} (hi : i < N.2.1) : gI (cH p s g) (p.1 (N.1 + 140 + i)) 11 0 = some (s.2.1 (N.1 + 140 + i) 0) := c_gI h.1 (a_Tr_sh h hi) rfl
theorem a_Tr_pI0 (h : iH p s g N) {i : Nat} (hi : i < N.2.1) (v : Int32) : pF (cH p s g) (p.1 (N.1 + 140 + i)) 11 0 (.int v) = some (cH p (uI s (N.1 + 140 + i) 0 v) g) := c_pI h.1 (a_Tr_sh h hi) rfl
theorem a_Tr_I1 (h : iH p s g N) {i : Nat} (hi : i < N.2.1) : gI (cH p s g) (p.1 (N.1 + 140 + i)) 11 1 = some (s.2.1 (N.1 + 140 + i) 1) := c_gI h.1 (a_Tr_sh h hi) rfl
theorem a_Tr_pI1 (h : iH p s g N) {i : Nat} (hi : i < N.2.1) (v : Int32) : pF (cH p s g) (p.1 (N.1 + 140 + i)) 11 1 (.int v) = some (cH p (uI s (N.1 + 140 + i) 1 v) g) := c_pI h.1 (a_Tr_sh h hi) rfl
theorem a_Tr_I2 (h : iH p s g N) {i : Nat} (hi : i < N.2.1) : gI (cH p s g) (p.1 (N.1 + 140 + i)) 11 2 = some (s.2.1 (N.1 + 140 + i) 2) := c_gI h.1 (a_Tr_sh h hi) rfl
theorem a_Tr_pI2 (h : iH p s g N) {i : Nat} (hi : i < N.2.1) (v : Int32) : pF (cH p s g) (p.1 (N.1 + 140 + i)) 11 2 (.int v) = some (cH p (uI s (N.1 + 140 + i) 2 v) g) := c_pI h.1 (a_Tr_sh h hi) rfl
theorem a_Tr_I3 (h : iH p s g N) {i : Nat} (hi : i < N.2.1) : gI (cH p s g) (p.1 (N.1 + 140 + i)) 11 3 = some (s.2.1 (N.1 + 140 + i) 3) := c_gI h.1 (a_Tr_sh h hi) rfl
theorem a_Tr_pI3 (h : iH p s g N) {i : Nat} (hi : i < N.2.1) (v : Int32) : pF (cH p s g) (p.1 (N.1 + 140 + i)) 11 3 (.int v) = some (cH p (uI s (N.1 + 140 + i) 3 v) g) := c_pI h.1 (a_Tr_sh h hi) rfl
theorem a_Tr_I4 (h : iH p s g N) {i : Nat} (hi : i < N.2.1) : gI (cH p s g) (p.1 (N.1 + 140 + i)) 11 4 = some (s.2.1 (N.1 + 140 + i) 4) := c_gI h.1 (a_Tr_sh h hi) rfl
theorem a_Tr_pI4 (h : iH p s g N) {i : Nat} (hi : i < N.2.1) (v : Int32) : pF (cH p s g) (p.1 (N.1 + 140 + i)) 11 4 (.int v) = some (cH p (uI s (N.1 + 140 + i) 4 v) g) := c_pI h.1 (a_Tr_sh h hi) rfl
theorem a_Tr_I5 (h : iH p s g N) {i : Nat} (hi : i < N.2.1) : gI (cH p s g) (p.1 (N.1 + 140 + i)) 11 5 = some (s.2.1 (N.1 + 140 + i) 5) := c_gI h.1 (a_Tr_sh h hi) rfl
theorem a_Tr_pI5 (h : iH p s g N) {i : Nat} (hi : i < N.2.1) (v : Int32) : pF (cH p s g) (p.1 (N.1 + 140 + i)) 11 5 (.int v) = some (cH p (uI s (N.1 + 140 + i) 5 v) g) := c_pI h.1 (a_Tr_sh h hi) rfl
theorem a_Tr_L6 (h : iH p s g N) {i : Nat} (hi : i < N.2.1) : gL (cH p s g) (p.1 (N.1 + 140 + i)) 11 6 = some (s.2.2.1 (N.1 + 140 + i) 6) := c_gL h.1 (a_Tr_sh h hi) rfl
theorem a_Tr_pL6 (h : iH p s g N) {i : Nat} (hi : i < N.2.1) (v : Int64) : pF (cH p s g) (p.1 (N.1 + 140 + i)) 11 6 (.long v) = some (cH p (uL s (N.1 + 140 + i) 6 v) g) := c_pL h.1 (a_Tr_sh h hi) rfl
theorem a_Ou_sh (h : iH p s g N) {i : Nat} (hi : i < N.2.2.1) : s.1 (N.1 + 170 + i) = (1, 13) := h.2.2.2.1.2.2.2.2.2.2.2.2.2.2.2.2.2.1 i hi
theorem a_Ou_ck (h : iH p s g N) {i : Nat} (hi : i < N.2.2.1) : cko (cH p s g) (p.1 (N.1 + 170 + i)) 13 = some () := c_cko h.1 (a_Ou_sh h hi)
theorem a_Ou_I0 (h : iH p s g N) {i : Nat} (hi : i < N.2.2.1) : gI (cH p s g) (p.1 (N.1 + 170 + i)) 13 0 = some (s.2.1 (N.1 + 170 + i) 0) := c_gI h.1 (a_Ou_sh h hi) rfl
theorem a_Ou_pI0 (h : iH p s g N) {i : Nat} (hi : i < N.2.2.1) (v : Int32) : pF (cH p s g) (p.1 (N.1 + 170 + i)) 13 0 (.int v) = some (cH p (uI s (N.1 + 170 + i) 0 v) g) := c_pI h.1 (a_Ou_sh h hi) rfl
theorem a_Ou_I1 (h : iH p s g N) {i : Nat} (hi : i < N.2.2.1) : gI (cH p s g) (p.1 (N.1 + 170 + i)) 13 1 = some (s.2.1 (N.1 + 170 + i) 1) := c_gI h.1 (a_Ou_sh h hi) rfl
theorem a_Ou_pI1 (h : iH p s g N) {i : Nat} (hi : i < N.2.2.1) (v : Int32) : pF (cH p s g) (p.1 (N.1 + 170 + i)) 13 1 (.int v) = some (cH p (uI s (N.1 + 170 + i) 1 v) g) := c_pI h.1 (a_Ou_sh h hi) rfl
theorem a_Ou_L2 (h : iH p s g N) {i : Nat} (hi : i < N.2.2.1) : gL (cH p s g) (p.1 (N.1 + 170 + i)) 13 2 = some (s.2.2.1 (N.1 + 170 + i) 2) := c_gL h.1 (a_Ou_sh h hi) rfl
theorem a_Ou_pL2 (h : iH p s g N) {i : Nat} (hi : i < N.2.2.1) (v : Int64) : pF (cH p s g) (p.1 (N.1 + 170 + i)) 13 2 (.long v) = some (cH p (uL s (N.1 + 170 + i) 2 v) g) := c_pL h.1 (a_Ou_sh h hi) rfl
theorem a_Pl_sh (h : iH p s g N) {i : Nat} (hi : i < N.2.2.2.1) : s.1 (30 + i) = (1, 8) := (h.2.2.2.2.1.2.2.2.2.2.2.2.2.2.2.2 i hi).1
theorem a_Pl_ck (h : iH p s g N) {i : Nat} (hi : i < N.2.2.2.1) : cko (cH p s g) (p.1 (30 + i)) 8 = some () := c_cko h.1 (a_Pl_sh h hi)
theorem a_Pl_R0 (h : iH p s g N) {i : Nat} (hi : i < N.2.2.2.1) : gR (cH p s g) (p.1 (30 + i)) 8 0 = some (p.1 (40 + i)) := c_gR h.1 (a_Pl_sh h hi) rfl ((h.2.2.2.2.1.2.2.2.2.2.2.2.2.2.2.2 i hi).2.1)
theorem a_Pl_R1 (h : iH p s g N) {i : Nat} (hi : i < N.2.2.2.1) : gR (cH p s g) (p.1 (30 + i)) 8 1 = some (p.1 (50 + i)) := c_gR h.1 (a_Pl_sh h hi) rfl ((h.2.2.2.2.1.2.2.2.2.2.2.2.2.2.2.2 i hi).2.2.1)
theorem a_Ti_sh (h : iH p s g N) {i j : Nat} (hi : i < N.2.2.2.1) (hj : j < N.2.2.2.2 i) : s.1 (70 + 8 * i + j) = (1, 9) := (h.2.2.2.2.1.2.2.2.2.2.2.2.2.2.2.2 i hi).2.2.2.2.2.2 j hj
theorem a_Ti_ck (h : iH p s g N) {i j : Nat} (hi : i < N.2.2.2.1) (hj : j < N.2.2.2.2 i) : cko (cH p s g) (p.1 (70 + 8 * i + j)) 9 = some () := c_cko h.1 (a_Ti_sh h hi hj)
theorem a_Ti_L0 (h : iH p s g N) {i j : Nat} (hi : i < N.2.2.2.1) (hj : j < N.2.2.2.2 i) : gL (cH p s g) (p.1 (70 + 8 * i + j)) 9 0 = some (s.2.2.1 (70 + 8 * i + j) 0) := c_gL h.1 (a_Ti_sh h hi hj) rfl
theorem a_Ti_pL0 (h : iH p s g N) {i j : Nat} (hi : i < N.2.2.2.1) (hj : j < N.2.2.2.2 i) (v : Int64) : pF (cH p s g) (p.1 (70 + 8 * i + j)) 9 0 (.long v) = some (cH p (uL s (70 + 8 * i + j) 0 v) g) := c_pL h.1 (a_Ti_sh h hi hj) rfl
theorem a_Ti_I1 (h : iH p s g N) {i j : Nat} (hi : i < N.2.2.2.1) (hj : j < N.2.2.2.2 i) : gI (cH p s g) (p.1 (70 + 8 * i + j)) 9 1 = some (s.2.1 (70 + 8 * i + j) 1) := c_gI h.1 (a_Ti_sh h hi hj) rfl
theorem a_Ti_pI1 (h : iH p s g N) {i j : Nat} (hi : i < N.2.2.2.1) (hj : j < N.2.2.2.2 i) (v : Int32) : pF (cH p s g) (p.1 (70 + 8 * i + j)) 9 1 (.int v) = some (cH p (uI s (70 + 8 * i + j) 1 v) g) := c_pI h.1 (a_Ti_sh h hi hj) rfl
theorem a_Cr_sh (h : iH p s g N) : s.1 7 = (1, 3) := h.2.2.2.2.1.2.2.2.2.2.2.1
theorem a_Cr_ck (h : iH p s g N) : cko (cH p s g) (p.1 7) 3 = some () := c_cko h.1 (a_Cr_sh h)
theorem a_Cr_I0 (h : iH p s g N) : gI (cH p s g) (p.1 7) 3 0 = some (s.2.1 7 0) := c_gI h.1 (a_Cr_sh h) rfl
theorem a_Cr_pI0 (h : iH p s g N) (v : Int32) : pF (cH p s g) (p.1 7) 3 0 (.int v) = some (cH p (uI s 7 0 v) g) := c_pI h.1 (a_Cr_sh h) rfl
theorem a_In_sh (h : iH p s g N) : s.1 8 = (1, 3) := h.2.2.2.2.1.2.2.2.2.2.2.2.1
theorem a_In_ck (h : iH p s g N) : cko (cH p s g) (p.1 8) 3 = some () := c_cko h.1 (a_In_sh h)
theorem a_In_I0 (h : iH p s g N) : gI (cH p s g) (p.1 8) 3 0 = some (s.2.1 8 0) := c_gI h.1 (a_In_sh h) rfl
theorem a_In_pI0 (h : iH p s g N) (v : Int32) : pF (cH p s g) (p.1 8) 3 0 (.int v) = some (cH p (uI s 8 0 v) g) := c_pI h.1 (a_In_sh h) rfl
theorem a_Ad_sh (h : iH p s g N) : s.1 9 = (1, 3) := h.2.2.2.2.1.2.2.2.2.2.2.2.2.1
theorem a_Ad_ck (h : iH p s g N) : cko (cH p s g) (p.1 9) 3 = some () := c_cko h.1 (a_Ad_sh h)
theorem a_Ad_I0 (h : iH p s g N) : gI (cH p s g) (p.1 9) 3 0 = some (s.2.1 9 0) := c_gI h.1 (a_Ad_sh h) rfl
theorem a_Ad_pI0 (h : iH p s g N) (v : Int32) : pF (cH p s g) (p.1 9) 3 0 (.int v) = some (cH p (uI s 9 0 v) g) := c_pI h.1 (a_Ad_sh h) rfl
theorem a_Av_sh (h : iH p s g N) {i : Nat} (hi : i < N.2.2.2.1) : s.1 (40 + i) = (1, 3) := (h.2.2.2.2.1.2.2.2.2.2.2.2.2.2.2.2 i hi).2.2.2.1
theorem a_Av_ck (h : iH p s g N) {i : Nat} (hi : i < N.2.2.2.1) : cko (cH p s g) (p.1 (40 + i)) 3 = some () := c_cko h.1 (a_Av_sh h hi)
theorem a_Av_I0 (h : iH p s g N) {i : Nat} (hi : i < N.2.2.2.1) : gI (cH p s g) (p.1 (40 + i)) 3 0 = some (s.2.1 (40 + i) 0) := c_gI h.1 (a_Av_sh h hi) rfl
theorem a_Av_pI0 (h : iH p s g N) {i : Nat} (hi : i < N.2.2.2.1) (v : Int32) : pF (cH p s g) (p.1 (40 + i)) 3 0 (.int v) = some (cH p (uI s (40 + i) 0 v) g) := c_pI h.1 (a_Av_sh h hi) rfl
theorem a_own_sh (h : iH p s g N) : s.1 (N.1 + 16) = (2 + 2, 900) := h.2.2.2.1.2.2.2.2.2.2.2.2.2.2.2.1.2.2.2.2.1
theorem a_own_len (h : iH p s g N) : lenA (cH p s g) (p.1 (N.1 + 16)) = some (Int32.ofNat 900) := c_len h.1 (a_own_sh h)
theorem a_own_d (h : iH p s g N) {j : Int32} (hj : ¬ (j < 0 ∨ 900 ≤ j.toNatClampNeg)) : dI (cH p s g) (p.1 (N.1 + 16)) 2 j = some (s.2.1 (N.1 + 16) j.toNatClampNeg) := c_dI h.1 (a_own_sh h) (Or.inr (Or.inl rfl)) hj
theorem a_own_s (h : iH p s g N) {j : Int32} (hj : ¬ (j < 0 ∨ 900 ≤ j.toNatClampNeg)) (v : Int32) : sI (cH p s g) (p.1 (N.1 + 16)) 2 j v = some (cH p (uI s (N.1 + 16) j.toNatClampNeg v) g) := c_sI h.1 (a_own_sh h) (Or.inr (Or.inl rfl)) hj
theorem a_rea_sh (h : iH p s g N) : s.1 (N.1 + 17) = (0 + 2, 900) := h.2.2.2.1.2.2.2.2.2.2.2.2.2.2.2.1.2.2.2.2.2.1
theorem a_rea_len (h : iH p s g N) : lenA (cH p s g) (p.1 (N.1 + 17)) = some (Int32.ofNat 900) := c_len h.1 (a_rea_sh h)
theorem a_rea_d (h : iH p s g N) {j : Int32} (hj : ¬ (j < 0 ∨ 900 ≤ j.toNatClampNeg)) : dI (cH p s g) (p.1 (N.1 + 17)) 0 j = some (s.2.1 (N.1 + 17) j.toNatClampNeg) := c_dI h.1 (a_rea_sh h) (Or.inl rfl) hj
theorem a_rea_s (h : iH p s g N) {j : Int32} (hj : ¬ (j < 0 ∨ 900 ≤ j.toNatClampNeg)) (v : Int32) : sI (cH p s g) (p.1 (N.1 + 17)) 0 j v = some (cH p (uI s (N.1 + 17) j.toNatClampNeg v) g) := c_sI h.1 (a_rea_sh h) (Or.inl rfl) hj
theorem a_isr_sh (h : iH p s g N) : s.1 (N.1 + 18) = (3 + 2, 900) := h.2.2.2.1.2.2.2.2.2.2.2.2.2.2.2.1.2.2.2.2.2.2
theorem a_isr_len (h : iH p s g N) : lenA (cH p s g) (p.1 (N.1 + 18)) = some (Int32.ofNat 900) := c_len h.1 (a_isr_sh h)
theorem a_isr_d (h : iH p s g N) {j : Int32} (hj : ¬ (j < 0 ∨ 900 ≤ j.toNatClampNeg)) : dI (cH p s g) (p.1 (N.1 + 18)) 3 j = some (s.2.1 (N.1 + 18) j.toNatClampNeg) := c_dI h.1 (a_isr_sh h) (Or.inr (Or.inr rfl)) hj
theorem a_isr_s (h : iH p s g N) {j : Int32} (hj : ¬ (j < 0 ∨ 900 ≤ j.toNatClampNeg)) (v : Int32) : sI (cH p s g) (p.1 (N.1 + 18)) 3 j v = some (cH p (uI s (N.1 + 18) j.toNatClampNeg v) g) := c_sI h.1 (a_isr_sh h) (Or.inr (Or.inr rfl)) hj
theorem a_sal_sh (h : iH p s g N) {i : Nat} (hi : i < N.2.1) : s.1 (N.1 + 160 + i) = (1 + 2, 60) := (h.2.2.2.1.2.2.2.2.2.2.2.2.2.2.2.2.1 i hi).2.2.2.2.2.2
theorem a_sal_len (h : iH p s g N) {i : Nat} (hi : i < N.2.1) : lenA (cH p s g) (p.1 (N.1 + 160 + i)) = some (Int32.ofNat 60) := c_len h.1 (a_sal_sh h hi)
theorem a_sal_d (h : iH p s g N) {i : Nat} (hi : i < N.2.1) {j : Int32} (hj : ¬ (j < 0 ∨ 60 ≤ j.toNatClampNeg)) : dL (cH p s g) (p.1 (N.1 + 160 + i)) j = some (s.2.2.1 (N.1 + 160 + i) j.toNatClampNeg) := c_dL h.1 (a_sal_sh h hi) hj
theorem a_sal_s (h : iH p s g N) {i : Nat} (hi : i < N.2.1) {j : Int32} (hj : ¬ (j < 0 ∨ 60 ≤ j.toNatClampNeg)) (v : Int64) : sL (cH p s g) (p.1 (N.1 + 160 + i)) j v = some (cH p (uL s (N.1 + 160 + i) j.toNatClampNeg v) g) := c_sL h.1 (a_sal_sh h hi) hj
theorem a_inv_sh (h : iH p s g N) {i : Nat} (hi : i < N.2.1) : s.1 (N.1 + 150 + i) = (5 + 2, 60) := (h.2.2.2.1.2.2.2.2.2.2.2.2.2.2.2.2.1 i hi).2.2.2.2.2.1
theorem a_inv_len (h : iH p s g N) {i : Nat} (hi : i < N.2.1) : lenA (cH p s g) (p.1 (N.1 + 150 + i)) = some (Int32.ofNat 60) := c_len h.1 (a_inv_sh h hi)
theorem a_inv_d (h : iH p s g N) {i : Nat} (hi : i < N.2.1) {j : Int32} (hj : ¬ (j < 0 ∨ 60 ≤ j.toNatClampNeg)) {d : Nat} (hd : s.2.2.2 (N.1 + 150 + i) j.toNatClampNeg = some d) : dR (cH p s g) (p.1 (N.1 + 150 + i)) 5 j = some (p.1 d) := c_dR h.1 (a_inv_sh h hi) (Or.inr (Or.inl rfl)) hj hd
theorem a_spe_sh (h : iH p s g N) : s.1 (N.1 + 20) = (1 + 2, 3) := h.2.2.2.1.2.2.2.2.2.2.2.2.2.2.2.2.2.2.2.2
theorem a_spe_len (h : iH p s g N) : lenA (cH p s g) (p.1 (N.1 + 20)) = some (Int32.ofNat 3) := c_len h.1 (a_spe_sh h)
theorem a_spe_d (h : iH p s g N) {j : Int32} (hj : ¬ (j < 0 ∨ 3 ≤ j.toNatClampNeg)) : dL (cH p s g) (p.1 (N.1 + 20)) j = some (s.2.2.1 (N.1 + 20) j.toNatClampNeg) := c_dL h.1 (a_spe_sh h) hj
theorem a_spe_s (h : iH p s g N) {j : Int32} (hj : ¬ (j < 0 ∨ 3 ≤ j.toNatClampNeg)) (v : Int64) : sL (cH p s g) (p.1 (N.1 + 20)) j v = some (cH p (uL s (N.1 + 20) j.toNatClampNeg v) g) := c_sL h.1 (a_spe_sh h) hj
theorem a_del_sh (h : iH p s g N) : s.1 (N.1 + 19) = (5 + 2, 8) := h.2.2.2.1.2.2.2.2.2.2.2.2.2.2.2.2.2.2.1
theorem a_del_len (h : iH p s g N) : lenA (cH p s g) (p.1 (N.1 + 19)) = some (Int32.ofNat 8) := c_len h.1 (a_del_sh h)
theorem a_del_d (h : iH p s g N) {j : Int32} (hj : ¬ (j < 0 ∨ 8 ≤ j.toNatClampNeg)) {d : Nat} (hd : s.2.2.2 (N.1 + 19) j.toNatClampNeg = some d) : dR (cH p s g) (p.1 (N.1 + 19)) 5 j = some (p.1 d) := c_dR h.1 (a_del_sh h) (Or.inr (Or.inl rfl)) hj hd
theorem a_row_sh (h : iH p s g N) {i : Nat} (hi : i < 8) : s.1 (N.1 + 190 + i) = (1 + 2, 8) := (h.2.2.2.1.2.2.2.2.2.2.2.2.2.2.2.2.2.2.2.1 i hi).2
theorem a_row_len (h : iH p s g N) {i : Nat} (hi : i < 8) : lenA (cH p s g) (p.1 (N.1 + 190 + i)) = some (Int32.ofNat 8) := c_len h.1 (a_row_sh h hi)
theorem a_row_d (h : iH p s g N) {i : Nat} (hi : i < 8) {j : Int32} (hj : ¬ (j < 0 ∨ 8 ≤ j.toNatClampNeg)) : dL (cH p s g) (p.1 (N.1 + 190 + i)) j = some (s.2.2.1 (N.1 + 190 + i) j.toNatClampNeg) := c_dL h.1 (a_row_sh h hi) hj
theorem a_row_s (h : iH p s g N) {i : Nat} (hi : i < 8) {j : Int32} (hj : ¬ (j < 0 ∨ 8 ≤ j.toNatClampNeg)) (v : Int64) : sL (cH p s g) (p.1 (N.1 + 190 + i)) j v = some (cH p (uL s (N.1 + 190 + i) j.toNatClampNeg v) g) := c_sL h.1 (a_row_sh h hi) hj
theorem a_bef_sh (h : iH p s g N) : s.1 22 = (2 + 2, 900) := h.2.2.1.2.2.2.2.2.2.2.2.2.1
theorem a_bef_len (h : iH p s g N) : lenA (cH p s g) (p.1 22) = some (Int32.ofNat 900) := c_len h.1 (a_bef_sh h)
theorem a_bef_d (h : iH p s g N) {j : Int32} (hj : ¬ (j < 0 ∨ 900 ≤ j.toNatClampNeg)) : dI (cH p s g) (p.1 22) 2 j = some (s.2.1 22 j.toNatClampNeg) := c_dI h.1 (a_bef_sh h) (Or.inr (Or.inl rfl)) hj
theorem a_bef_s (h : iH p s g N) {j : Int32} (hj : ¬ (j < 0 ∨ 900 ≤ j.toNatClampNeg)) (v : Int32) : sI (cH p s g) (p.1 22) 2 j v = some (cH p (uI s 22 j.toNatClampNeg v) g) := c_sI h.1 (a_bef_sh h) (Or.inr (Or.inl rfl)) hj
theorem a_buf_sh (h : iH p s g N) : s.1 23 = (2 + 2, 1500) := h.2.2.1.2.2.2.2.2.2.2.2.2.2
theorem a_buf_len (h : iH p s g N) : lenA (cH p s g) (p.1 23) = some (Int32.ofNat 1500) := c_len h.1 (a_buf_sh h)
theorem a_buf_d (h : iH p s g N) {j : Int32} (hj : ¬ (j < 0 ∨ 1500 ≤ j.toNatClampNeg)) : dI (cH p s g) (p.1 23) 2 j = some (s.2.1 23 j.toNatClampNeg) := c_dI h.1 (a_buf_sh h) (Or.inr (Or.inl rfl)) hj
theorem a_buf_s (h : iH p s g N) {j : Int32} (hj : ¬ (j < 0 ∨ 1500 ≤ j.toNatClampNeg)) (v : Int32) : sI (cH p s g) (p.1 23) 2 j v = some (cH p (uI s 23 j.toNatClampNeg v) g) := c_sI h.1 (a_buf_sh h) (Or.inr (Or.inl rfl)) hj
theorem a_sna_sh (h : iH p s g N) : s.1 21 = (6 + 2, 2) := h.2.2.1.2.2.2.2.2.2.2.2.1
theorem a_sna_len (h : iH p s g N) : lenA (cH p s g) (p.1 21) = some (Int32.ofNat 2) := c_len h.1 (a_sna_sh h)
theorem a_sna_d (h : iH p s g N) {j : Int32} (hj : ¬ (j < 0 ∨ 2 ≤ j.toNatClampNeg)) {d : Nat} (hd : s.2.2.2 21 j.toNatClampNeg = some d) : dR (cH p s g) (p.1 21) 6 j = some (p.1 d) := c_dR h.1 (a_sna_sh h) (Or.inr (Or.inr rfl)) hj hd
theorem a_FL_l (h : iH p s g N) : lst s (N.1 + 11) (N.1 + 12) N.2.1 (fun i => N.1 + 130 + i) := h.2.2.2.1.2.2.2.2.2.2.2.2.2.1
theorem a_FL_ck (h : iH p s g N) : cko (cH p s g) (p.1 (N.1 + 11)) 15 = some () := c_cko h.1 (a_FL_l h).1
theorem a_FL_n (h : iH p s g N) (E : zE) : f_J2_size E (p.1 (N.1 + 11)) (cH p s g) = some (Int32.ofNat N.2.1, cH p s g) := b_size h.1 (a_FL_l h) E
theorem a_FL_g (h : iH p s g N) (E : zE) {k : Nat} (hk : k < N.2.1) : f_J2_get E (p.1 (N.1 + 11)) (Int32.ofNat k) (cH p s g) = some (p.1 ((fun i => N.1 + 130 + i) k), cH p s g) := b_get h.1 (a_FL_l h) E hk
theorem a_OL_l (h : iH p s g N) : lst s (N.1 + 13) (N.1 + 14) N.2.2.1 (fun i => N.1 + 170 + i) := h.2.2.2.1.2.2.2.2.2.2.2.2.2.2.1
theorem a_OL_ck (h : iH p s g N) : cko (cH p s g) (p.1 (N.1 + 13)) 15 = some () := c_cko h.1 (a_OL_l h).1
theorem a_OL_n (h : iH p s g N) (E : zE) : f_J2_size E (p.1 (N.1 + 13)) (cH p s g) = some (Int32.ofNat N.2.2.1, cH p s g) := b_size h.1 (a_OL_l h) E
theorem a_OL_g (h : iH p s g N) (E : zE) {k : Nat} (hk : k < N.2.2.1) : f_J2_get E (p.1 (N.1 + 13)) (Int32.ofNat k) (cH p s g) = some (p.1 ((fun i => N.1 + 170 + i) k), cH p s g) := b_get h.1 (a_OL_l h) E hk
theorem a_PL_l (h : iH p s g N) : lst s 3 4 N.2.2.2.1 (fun i => 30 + i) := h.2.2.2.2.1.2.2.2.2.2.2.2.2.2.2.1
theorem a_PL_ck (h : iH p s g N) : cko (cH p s g) (p.1 3) 15 = some () := c_cko h.1 (a_PL_l h).1
theorem a_PL_n (h : iH p s g N) (E : zE) : f_J2_size E (p.1 3) (cH p s g) = some (Int32.ofNat N.2.2.2.1, cH p s g) := b_size h.1 (a_PL_l h) E
theorem a_PL_g (h : iH p s g N) (E : zE) {k : Nat} (hk : k < N.2.2.2.1) : f_J2_get E (p.1 3) (Int32.ofNat k) (cH p s g) = some (p.1 ((fun i => 30 + i) k), cH p s g) := b_get h.1 (a_PL_l h) E hk
theorem a_TL_l (h : iH p s g N) {i : Nat} (hi : i < N.2.2.2.1) : lst s (50 + i) (60 + i) (N.2.2.2.2 i) (fun j => 70 + 8 * i + j) := (h.2.2.2.2.1.2.2.2.2.2.2.2.2.2.2.2 i hi).2.2.2.2.2.1
theorem a_TL_ck (h : iH p s g N) {i : Nat} (hi : i < N.2.2.2.1) : cko (cH p s g) (p.1 (50 + i)) 15 = some () := c_cko h.1 (a_TL_l h hi).1
theorem a_TL_n (h : iH p s g N) {i : Nat} (hi : i < N.2.2.2.1) (E : zE) : f_J2_size E (p.1 (50 + i)) (cH p s g) = some (Int32.ofNat (N.2.2.2.2 i), cH p s g) := b_size h.1 (a_TL_l h hi) E
theorem a_TL_g (h : iH p s g N) {i : Nat} (hi : i < N.2.2.2.1) (E : zE) {k : Nat} (hk : k < (N.2.2.2.2 i)) : f_J2_get E (p.1 (50 + i)) (Int32.ofNat k) (cH p s g) = some (p.1 ((fun j => 70 + 8 * i + j) k), cH p s g) := b_get h.1 (a_TL_l h hi) E hk
theorem lst_uI {c arr n : Nat} {el : Nat → Nat} (h : lst s c arr n el) {d k : Nat} {v : Int32} (hd : d ≠ c) : lst (uI s d k v) c arr n el := ⟨h.1, h.2.1, (congrFun (cu_ne s.2.1 (va_up (s.2.1 d) k v) (Ne.symm hd)) 2).trans h.2.2.1, h.2.2.2⟩
theorem lst_uL {c arr n : Nat} {el : Nat → Nat} (h : lst s c arr n el) {d k : Nat} {v : Int64} : lst (uL s d k v) c arr n el := h
/-- not a list of the bundle -/
def nlc (N : iN) (d : Nat) : Prop := d ≠ N.1 + 11 ∧ d ≠ N.1 + 13 ∧ d ≠ 3 ∧ ∀ i, i < 4 → d ≠ 50 + i
theorem iH_uL (h : iH p s g N) (d k : Nat) (v : Int64) : iH p (uL s d k v) g N := h
theorem iH_uI (h : iH p s g N) {d : Nat} (hd : nlc N d) (k : Nat) (v : Int32) : iH p (uI s d k v) g N := by
  obtain ⟨h1, h2, h3, h4, h5, h6⟩ := h
  obtain ⟨b1, b2, b3, b4, b5, b6, b7, b8, b9, b10, b11, b12⟩ := h4
  obtain ⟨r1, r2, r3, r4, r5, r6, r7, r8, r9, r10, r11, r12⟩ := h5
  refine ⟨h1, h2, h3, ⟨b1, b2, b3, b4, b5, b6, b7, b8, b9, lst_uI b10 hd.1, lst_uI b11 hd.2.1, b12⟩, ⟨r1, r2, r3, r4, r5, r6, r7, r8, r9, r10, lst_uI r11 hd.2.2.1, fun i hi => ?_⟩, h6⟩
  obtain ⟨t1, t2, t3, t4, t5, t6, t7⟩ := r12 i hi
  exact ⟨t1, t2, t3, t4, t5, lst_uI t6 (hd.2.2.2 i (Nat.lt_of_lt_of_le hi r10)), t7⟩
theorem iH_g (h : iH p s g N) {g1 : zH} (hg : g.2.1 ≤ g1.2.1) : iH p s g1 N := ⟨h.1, fun a ha => h.2.1 a (Nat.le_trans hg ha), h.2.2⟩
theorem nlc_o (h : iH p s g N) {k : Nat} (h1 : k ≠ 11) (h2 : k ≠ 13) : nlc N (N.1 + k) := by
  have := h.2.2.2.2.2
  exact ⟨by omega, by omega, by omega, fun i hi => by omega⟩
end AC
