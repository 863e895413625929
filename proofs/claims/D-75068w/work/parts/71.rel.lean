/-! tables against the twin's array (books RB, rules RR, ranges IV); small methods of the twin *(printed by mk71.py)* -/
set_option maxRecDepth 100000
def frR (s : cT) (t : Nat → Int64) (c d b : Nat) : Prop := t (b + 1) = (s.2.1 c 3).toInt64 ∧ t (b + 2) = (s.2.1 c 4).toInt64 ∧ t (b + 3) = (s.2.1 c 5).toInt64 ∧ t (b + 4) = s.2.2.1 c 8 ∧ t (b + 5) = (s.2.1 c 6).toInt64 ∧ t (b + 6) = (s.2.1 c 7).toInt64 ∧ t (b + 7) = s.2.2.1 c 9 ∧ t (b + 8) = s.2.2.1 c 10 ∧ t (b + 9) = (s.2.1 d 0).toInt64 ∧ t (b + 10) = (s.2.1 d 2).toInt64 ∧ t (b + 11) = s.2.2.1 d 6 ∧ t (b + 12) = (s.2.1 d 1).toInt64 ∧ t (b + 13) = (s.2.1 d 5).toInt64 ∧ t (b + 14) = (s.2.1 d 3).toInt64 ∧ t (b + 15) = (s.2.1 d 4).toInt64
def ouR (s : cT) (t : Nat → Int64) (c b : Nat) : Prop := t (b + 0) = (s.2.1 c 1).toInt64 ∧ (∃ e, e < 900 ∧ s.2.1 c 0 = Int32.ofNat e ∧ t (b + 1) = Int64.ofNat (e % 30) ∧ t (b + 2) = Int64.ofNat (e / 30)) ∧ t (b + 3) = s.2.2.1 c 2
/-- the books at offset o with nf franchisees, no outlets, in month mo, are the block t -/
def RB (s : cT) (o nf no mo : Nat) (t : Nat → Int64) : Prop := (t 0 = Int64.ofNat mo ∧ s.2.1 (o + 10) 5 = Int32.ofNat mo ∧ t 2 = Int64.ofNat nf ∧ t 3 = Int64.ofNat no) ∧ (∀ i, i < nf → frR s t (o + 130 + i) (o + 140 + i) (58 + 16 * i)) ∧ (∀ k, k < no → ouR s t (o + 170 + k) (186 + 4 * k)) ∧ (∀ c, c < 900 → t (250 + c) = (s.2.1 (o + 16) c).toInt64) ∧ (∀ k, k < 3 → t (11 + k) = s.2.2.1 (o + 20) k) ∧ (∀ f, f < 8 → ∀ g, g < 8 → t (1150 + 8 * f + g) = s.2.2.1 (o + 190 + f) g) ∧ (∀ f, f < nf → ∀ m, m < mo → t (1214 + 8 * m + f) = s.2.2.1 (o + 160 + f) m) ∧ ∀ f, f < nf → ∀ m, m < mo → ∃ e, s.2.2.2 (o + 150 + f) m = some e ∧ s.1 e = (3, 7) ∧ ∀ q, q < 7 → t (1694 + 7 * (8 * m + f) + q) = s.2.2.1 e q
/-- a plan: its advertising rate, tiers -/
def plR (s : cT) (t : Nat → Int64) (i n : Nat) : Prop := t (14 + 11 * i + 0) = (s.2.1 (40 + i) 0).toInt64 ∧ t (14 + 11 * i + 1) = (s.2.1 (70 + 8 * i + 0) 1).toInt64 ∧ s.2.2.1 (70 + 8 * i + 0) 0 = 0 ∧ (1 ≤ n ∧ n ≤ 5) ∧ t (14 + 11 * i + 2) = Int64.ofNat (n - 1) ∧ ∀ j, j + 1 < n → t (14 + 11 * i + (3 + j)) = s.2.2.1 (70 + 8 * i + (j + 1)) 0 ∧ t (14 + 11 * i + (7 + j)) = (s.2.1 (70 + 8 * i + (j + 1)) 1).toInt64
/-- the rules -/
def RR (s : cT) (np : Nat) (nt : Nat → Nat) (t : Nat → Int64) : Prop := (t 1 = Int64.ofNat np ∧ t 4 = (s.2.1 7 0).toInt64 ∧ t 5 = s.2.2.1 2 5 ∧ t 6 = (s.2.1 8 0).toInt64 ∧ t 7 = (s.2.1 9 0).toInt64 ∧ t 8 = s.2.2.1 2 6 ∧ t 9 = (s.2.1 2 7).toInt64 ∧ t 10 = (s.2.1 2 8).toInt64) ∧ ∀ i, i < np → plR s t i (nt i)
/-- a value of a block lies between -/
def btw (x : Int64) (a b : Int) : Prop := a ≤ x.toInt ∧ x.toInt ≤ b
/-- ranges of a franchisee; n: how many steps were taken -/
def frI (t : Nat → Int64) (b np mo n : Nat) : Prop := btw (t (b + 1)) 0 (np - 1) ∧ btw (t (b + 3)) 0 2 ∧ btw (t (b + 4)) (- (mo * 20000000000000000 + n * 2000000000)) (mo * 20000000000000000 + n * 2000000000) ∧ btw (t (b + 5)) 0 mo ∧ btw (t (b + 6)) 0 mo ∧ btw (t (b + 7)) (- (mo * 1000000000000000)) (mo * 1000000000000000) ∧ btw (t (b + 9)) 0 5 ∧ btw (t (b + 11)) 0 1000000000 ∧ btw (t (b + 12)) 0 60 ∧ btw (t (b + 13)) 0 31 ∧ btw (t (b + 14)) 0 5 ∧ btw (t (b + 15)) 0 5 ∧ (t (b + 9) = 1 → (t (b + 14)).toInt ≤ 2 ∧ (t (b + 15)).toInt ≤ 2)
/-- ranges of a block of books -/
def IV (t : Nat → Int64) (nf no np mo n : Nat) : Prop := (mo ≤ 60 ∧ nf ≤ 8 ∧ no ≤ 16 ∧ np ≤ 4) ∧ (∀ i, i < nf → frI t (58 + 16 * i) np mo n) ∧ (∀ k, k < no → btw (t (186 + 4 * k + 0)) (-1) (nf - 1) ∧ btw (t (186 + 4 * k + 3)) 0 10000000) ∧ (∀ c, c < 900 → btw (t (250 + c)) (-1) (nf - 1)) ∧ (∀ f, f < nf → ∀ m, m < mo → btw (t (1214 + 8 * m + f)) 0 160000000 ∧ ∀ q, q < 7 → btw (t (1694 + 7 * (8 * m + f) + q)) (-9000000000000000000) 9000000000000000000) ∧ ∀ f, f < 8 → ∀ g, g < 8 → (nf ≤ f ∨ f = g) → t (1150 + 8 * f + g) = 0
/-- ranges of the rules -/
def IR (t : Nat → Int64) (np : Nat) : Prop := btw (t 4) 0 5000 ∧ btw (t 5) 0 999900 ∧ btw (t 6) 0 500 ∧ btw (t 7) 0 2000 ∧ btw (t 8) 0 999900 ∧ btw (t 9) 0 12 ∧ btw (t 10) 0 999 ∧ ∀ i, i < np → btw (t (14 + 11 * i + 2)) 0 4 ∧ ∀ j, j < 4 → btw (t (14 + 11 * i + (3 + j))) 0 9999900
section RA
variable {s : cT} {o nf no mo : Nat} {t : Nat → Int64}
theorem r_mo (h : RB s o nf no mo t) : t 0 = Int64.ofNat mo := h.1.1
theorem r_moc (h : RB s o nf no mo t) : s.2.1 (o + 10) 5 = Int32.ofNat mo := h.1.2.1
theorem r_nf (h : RB s o nf no mo t) : t 2 = Int64.ofNat nf := h.1.2.2.1
theorem r_no (h : RB s o nf no mo t) : t 3 = Int64.ofNat no := h.1.2.2.2
theorem r_plan (h : RB s o nf no mo t) {i : Nat} (hi : i < nf) : t (58 + 16 * i + 1) = (s.2.1 (o + 130 + i) 3).toInt64 := (h.2.1 i hi).1
theorem r_worth (h : RB s o nf no mo t) {i : Nat} (hi : i < nf) : t (58 + 16 * i + 2) = (s.2.1 (o + 130 + i) 4).toInt64 := (h.2.1 i hi).2.1
theorem r_stat (h : RB s o nf no mo t) {i : Nat} (hi : i < nf) : t (58 + 16 * i + 3) = (s.2.1 (o + 130 + i) 5).toInt64 := (h.2.1 i hi).2.2.1
theorem r_bal (h : RB s o nf no mo t) {i : Nat} (hi : i < nf) : t (58 + 16 * i + 4) = s.2.2.1 (o + 130 + i) 8 := (h.2.1 i hi).2.2.2.1
theorem r_gen (h : RB s o nf no mo t) {i : Nat} (hi : i < nf) : t (58 + 16 * i + 5) = (s.2.1 (o + 130 + i) 6).toInt64 := (h.2.1 i hi).2.2.2.2.1
theorem r_over (h : RB s o nf no mo t) {i : Nat} (hi : i < nf) : t (58 + 16 * i + 6) = (s.2.1 (o + 130 + i) 7).toInt64 := (h.2.1 i hi).2.2.2.2.2.1
theorem r_con (h : RB s o nf no mo t) {i : Nat} (hi : i < nf) : t (58 + 16 * i + 7) = s.2.2.1 (o + 130 + i) 9 := (h.2.1 i hi).2.2.2.2.2.2.1
theorem r_gra (h : RB s o nf no mo t) {i : Nat} (hi : i < nf) : t (58 + 16 * i + 8) = s.2.2.1 (o + 130 + i) 10 := (h.2.1 i hi).2.2.2.2.2.2.2.1
theorem r_tst (h : RB s o nf no mo t) {i : Nat} (hi : i < nf) : t (58 + 16 * i + 9) = (s.2.1 (o + 140 + i) 0).toInt64 := (h.2.1 i hi).2.2.2.2.2.2.2.2.1
theorem r_two (h : RB s o nf no mo t) {i : Nat} (hi : i < nf) : t (58 + 16 * i + 10) = (s.2.1 (o + 140 + i) 2).toInt64 := (h.2.1 i hi).2.2.2.2.2.2.2.2.2.1
theorem r_tpr (h : RB s o nf no mo t) {i : Nat} (hi : i < nf) : t (58 + 16 * i + 11) = s.2.2.1 (o + 140 + i) 6 := (h.2.1 i hi).2.2.2.2.2.2.2.2.2.2.1
theorem r_tmo (h : RB s o nf no mo t) {i : Nat} (hi : i < nf) : t (58 + 16 * i + 12) = (s.2.1 (o + 140 + i) 1).toInt64 := (h.2.1 i hi).2.2.2.2.2.2.2.2.2.2.2.1
theorem r_tvo (h : RB s o nf no mo t) {i : Nat} (hi : i < nf) : t (58 + 16 * i + 13) = (s.2.1 (o + 140 + i) 5).toInt64 := (h.2.1 i hi).2.2.2.2.2.2.2.2.2.2.2.2.1
theorem r_tye (h : RB s o nf no mo t) {i : Nat} (hi : i < nf) : t (58 + 16 * i + 14) = (s.2.1 (o + 140 + i) 3).toInt64 := (h.2.1 i hi).2.2.2.2.2.2.2.2.2.2.2.2.2.1
theorem r_tno (h : RB s o nf no mo t) {i : Nat} (hi : i < nf) : t (58 + 16 * i + 15) = (s.2.1 (o + 140 + i) 4).toInt64 := (h.2.1 i hi).2.2.2.2.2.2.2.2.2.2.2.2.2.2
theorem r_own (h : RB s o nf no mo t) {k : Nat} (hk : k < no) : t (186 + 4 * k + 0) = (s.2.1 (o + 170 + k) 1).toInt64 := (h.2.2.1 k hk).1
theorem r_oce (h : RB s o nf no mo t) {k : Nat} (hk : k < no) : ∃ e, e < 900 ∧ s.2.1 (o + 170 + k) 0 = Int32.ofNat e ∧ t (186 + 4 * k + 1) = Int64.ofNat (e % 30) ∧ t (186 + 4 * k + 2) = Int64.ofNat (e / 30) := (h.2.2.1 k hk).2.1
theorem r_osa (h : RB s o nf no mo t) {k : Nat} (hk : k < no) : t (186 + 4 * k + 3) = s.2.2.1 (o + 170 + k) 2 := (h.2.2.1 k hk).2.2
theorem r_cel (h : RB s o nf no mo t) {c : Nat} (hc : c < 900) : t (250 + c) = (s.2.1 (o + 16) c).toInt64 := h.2.2.2.1 c hc
theorem r_spe (h : RB s o nf no mo t) {k : Nat} (hk : k < 3) : t (11 + k) = s.2.2.1 (o + 20) k := h.2.2.2.2.1 k hk
theorem r_sp0 (h : RB s o nf no mo t) : t 11 = s.2.2.1 (o + 20) 0 := h.2.2.2.2.1 0 (by decide)
theorem r_sp1 (h : RB s o nf no mo t) : t 12 = s.2.2.1 (o + 20) 1 := h.2.2.2.2.1 1 (by decide)
theorem r_sp2 (h : RB s o nf no mo t) : t 13 = s.2.2.1 (o + 20) 2 := h.2.2.2.2.1 2 (by decide)
theorem r_del (h : RB s o nf no mo t) {f g : Nat} (hf : f < 8) (hg : g < 8) : t (1150 + 8 * f + g) = s.2.2.1 (o + 190 + f) g := h.2.2.2.2.2.1 f hf g hg
theorem r_rec (h : RB s o nf no mo t) {f m : Nat} (hf : f < nf) (hm : m < mo) : t (1214 + 8 * m + f) = s.2.2.1 (o + 160 + f) m := h.2.2.2.2.2.2.1 f hf m hm
theorem r_inv (h : RB s o nf no mo t) {f m : Nat} (hf : f < nf) (hm : m < mo) : ∃ e, s.2.2.2 (o + 150 + f) m = some e ∧ s.1 e = (3, 7) ∧ ∀ q, q < 7 → t (1694 + 7 * (8 * m + f) + q) = s.2.2.1 e q := h.2.2.2.2.2.2.2 f hf m hm
variable {np : Nat} {nt : Nat → Nat}
theorem r_np (h : RR s np nt t) : t 1 = Int64.ofNat np := h.1.1
theorem r_cr (h : RR s np nt t) : t 4 = (s.2.1 7 0).toInt64 := h.1.2.1
theorem r_cap (h : RR s np nt t) : t 5 = s.2.2.1 2 5 := h.1.2.2.1
theorem r_int (h : RR s np nt t) : t 6 = (s.2.1 8 0).toInt64 := h.1.2.2.2.1
theorem r_adm (h : RR s np nt t) : t 7 = (s.2.1 9 0).toInt64 := h.1.2.2.2.2.1
theorem r_fee (h : RR s np nt t) : t 8 = s.2.2.1 2 6 := h.1.2.2.2.2.2.1
theorem r_dly (h : RR s np nt t) : t 9 = (s.2.1 2 7).toInt64 := h.1.2.2.2.2.2.2.1
theorem r_lw (h : RR s np nt t) : t 10 = (s.2.1 2 8).toInt64 := h.1.2.2.2.2.2.2.2
theorem r_adv (h : RR s np nt t) {i : Nat} (hi : i < np) : t (14 + 11 * i + 0) = (s.2.1 (40 + i) 0).toInt64 := (h.2 i hi).1
theorem r_bas (h : RR s np nt t) {i : Nat} (hi : i < np) : t (14 + 11 * i + 1) = (s.2.1 (70 + 8 * i + 0) 1).toInt64 := (h.2 i hi).2.1
theorem r_th0 (h : RR s np nt t) {i : Nat} (hi : i < np) : s.2.2.1 (70 + 8 * i + 0) 0 = 0 := (h.2 i hi).2.2.1
theorem r_nt1 (h : RR s np nt t) {i : Nat} (hi : i < np) : 1 ≤ nt i := (h.2 i hi).2.2.2.1.1
theorem r_nt5 (h : RR s np nt t) {i : Nat} (hi : i < np) : nt i ≤ 5 := (h.2 i hi).2.2.2.1.2
theorem r_nt (h : RR s np nt t) {i : Nat} (hi : i < np) : t (14 + 11 * i + 2) = Int64.ofNat (nt i - 1) := (h.2 i hi).2.2.2.2.1
theorem r_thr (h : RR s np nt t) {i j : Nat} (hi : i < np) (hj : j + 1 < nt i) : t (14 + 11 * i + (3 + j)) = s.2.2.1 (70 + 8 * i + (j + 1)) 0 := ((h.2 i hi).2.2.2.2.2 j hj).1
theorem r_rat (h : RR s np nt t) {i j : Nat} (hi : i < np) (hj : j + 1 < nt i) : t (14 + 11 * i + (7 + j)) = (s.2.1 (70 + 8 * i + (j + 1)) 1).toInt64 := ((h.2 i hi).2.2.2.2.2 j hj).2
end RA
theorem inF_r {x : Int32} {n : Nat} (hn : 1 ≤ n) (h2 : n < 2 ^ 31) : ((0 : Int64) ≤ x.toInt64 ∧ x.toInt64 ≤ Int64.ofNat (n - 1)) ↔ inF x n := by
  rw [Int64.le_iff_toInt_le, Int64.le_iff_toInt_le, i64_of32, Int64.toInt_ofNat_of_lt (by omega)]
  unfold inF
  show (0 : Int) ≤ x.toInt ∧ _ ↔ _
  omega
theorem inF_30 {x : Int32} : ((0 : Int64) ≤ x.toInt64 ∧ x.toInt64 ≤ (29 : Int64)) ↔ inF x 30 := inF_r (n := 30) (by decide) (by decide)
theorem inF_64 {f : Int32} {n : Nat} (hn : n < 2 ^ 31) : ((0 : Int64) ≤ f.toInt64 ∧ f.toInt64 ≤ Int64.ofNat n - (1 : Int64)) ↔ inF f n := by
  rw [Int64.le_iff_toInt_le, Int64.le_iff_toInt_le, i64_of32]
  have e : (Int64.ofNat n - 1).toInt = (n : Int) - 1 := by
    rw [Int64.toInt_sub, Int64.toInt_ofNat_of_lt (by omega)]
    show ((n : Int) - 1).bmod (2 ^ 64) = _
    rw [Int.bmod_eq_of_le (by omega) (by omega)]
  rw [e]
  unfold inF
  show (0 : Int) ≤ f.toInt ∧ _ ↔ _
  omega
theorem inF_n {i n : Nat} (hi : i < 2 ^ 31) : inF (Int32.ofNat i) n ↔ i < n := by
  unfold inF
  rw [i32_toInt hi]
  omega
theorem if_iff {a b : Prop} {da : Decidable a} {db : Decidable b} (h : a ↔ b) {α : Type} (x y : α) : (if a then x else y) = (if b then x else y) := by
  by_cases q : a
  · rw [if_pos q, if_pos (h.mp q)]
  · rw [if_neg q, if_neg (fun k => q (h.mpr k))]
noncomputable def dcF (f : Int32) (n : Nat) : Decidable (inF f n) := Classical.propDecidable _
/-- truth as an int -/
noncomputable def bi (p : Prop) : Int32 := @ite _ p (Classical.propDecidable p) 1 0
theorem bi_of {p q : Prop} {d : Decidable p} (h : p ↔ q) : (if p then (1 : Int32) else 0) = bi q := if_iff h _ _
theorem bi_t {p : Prop} (h : p) : bi p = 1 := if_pos h
theorem bi_f {p : Prop} (h : ¬ p) : bi p = 0 := if_neg h
theorem bi_0 {p : Prop} : bi p = 0 ↔ ¬ p := by
  by_cases h : p
  · rw [bi_t h]; exact ⟨fun q => absurd q (by decide), fun q => absurd h q⟩
  · rw [bi_f h]; exact ⟨fun _ => h, fun _ => rfl⟩
theorem zgd_bi (p : Prop) : zgd .boolean (bi p) = some () := by
  by_cases h : p
  · rw [bi_t h]; exact zgd1
  · rw [bi_f h]; exact zgd0
theorem bi_c {p q : Prop} (h : p ↔ q) : bi p = bi q := by rw [propext h]
/-- a cell of the grid -/
def isP (x y : Int32) : Prop := inF x 30 ∧ inF y 30
section TL
variable {E : zE} {t : twS}
theorem uSc_1 (k : Nat) (v : Int32) : (uSc t k v).1 = t.1 := rfl
theorem uSt_1 (f : Nat → Int64) : (uSt t f).1 = f := rfl
theorem uAm_1 (f : Nat → Int64) : (uAm t f).1 = t.1 := rfl
theorem uAr_1 (i : Nat) (f : Nat → Int32) : (uAr t i f).1 = t.1 := rfl
theorem y_d {k : Nat} (hk : k < 20216) : tdL t 1 (Int32.ofNat k) = some (t.1 k) := by
  show (if ¬ (Int32.ofNat k < 0 ∨ 20216 ≤ (Int32.ofNat k).toNatClampNeg) then some (t.1 (Int32.ofNat k).toNatClampNeg) else none) = _
  rw [nat_clamp (by omega), if_pos (fun h => h.elim (i32_nneg (by omega)) (by omega))]
theorem y_s {k : Nat} (hk : k < 20216) {v : Int64} : tsL t 1 (Int32.ofNat k) v = some (uSt t (va_up t.1 k v)) := by
  show (if ¬ (Int32.ofNat k < 0 ∨ 20216 ≤ (Int32.ofNat k).toNatClampNeg) then some (uSt t (va_up t.1 (Int32.ofNat k).toNatClampNeg v)) else none) = _
  rw [nat_clamp (by omega), if_pos (fun h => h.elim (i32_nneg (by omega)) (by omega))]
theorem y_inRange (a b c : Int64) : t_X6_inRange E a b c t = some (if b ≤ a ∧ a ≤ c then (1 : Int32) else 0, t) := by
  unfold t_X6_inRange t_X6_inRange_b0 t_X6_inRange_b17 t_X6_inRange_b18
  by_cases h1 : a < b
  · rw [if_pos h1, zgd0, if_neg (fun hh => absurd h1 (Int64.not_lt.mpr hh.1))]
    rfl
  · by_cases h2 : c < a
    · rw [if_neg h1, if_pos h2, zgd0, if_neg (fun hh => absurd h2 (Int64.not_lt.mpr hh.2))]
      rfl
    · rw [if_neg h1, if_neg h2, zgd1, if_pos ⟨Int64.not_lt.mp h1, Int64.not_lt.mp h2⟩]
      rfl
theorem y_isCell (x y : Int32) : t_X6_isCell E x y t = some (bi (isP x y), t) := by
  unfold t_X6_isCell t_X6_isCell_b0 t_X6_isCell_b28 t_X6_isCell_b29
  rw [y_inRange, b2_some, bi_of inF_30]
  by_cases h1 : inF x 30
  · rw [bi_t h1, if_neg (by decide), y_inRange, b2_some, bi_of inF_30]
    by_cases h2 : inF y 30
    · rw [bi_t h2, if_neg (by decide), zgd1, bi_t ⟨h1, h2⟩]; rfl
    · rw [bi_f h2, if_pos rfl, zgd0, bi_f (fun h => h2 h.2)]; rfl
  · rw [bi_f h1, if_pos rfl, zgd0, bi_f (fun h => h1 h.1)]; rfl
theorem y_thr0 (k : Int32) : t_X6_throwsIf E 0 k t = some (0, t) := rfl
theorem y_thr1 (k : Int32) : t_X6_throwsIf E 1 k t = some (1, uSc t 2 k) := rfl
theorem y_of0 {i : Nat} (hi : i < 8) : t_X6_of E (Int32.ofNat i) (0 : Int32) t = some (t.1 (58 + 16 * i + 0), t) := by
  show (tdL t 1 (Int32.ofNat 58 + Int32.ofNat 16 * Int32.ofNat i + Int32.ofNat 0)).bind _ = _
  rw [← Int32.ofNat_mul, ← Int32.ofNat_add, ← Int32.ofNat_add, y_d (by omega)]
  rfl
theorem y_of1 {i : Nat} (hi : i < 8) : t_X6_of E (Int32.ofNat i) (1 : Int32) t = some (t.1 (58 + 16 * i + 1), t) := by
  show (tdL t 1 (Int32.ofNat 58 + Int32.ofNat 16 * Int32.ofNat i + Int32.ofNat 1)).bind _ = _
  rw [← Int32.ofNat_mul, ← Int32.ofNat_add, ← Int32.ofNat_add, y_d (by omega)]
  rfl
theorem y_of2 {i : Nat} (hi : i < 8) : t_X6_of E (Int32.ofNat i) (2 : Int32) t = some (t.1 (58 + 16 * i + 2), t) := by
  show (tdL t 1 (Int32.ofNat 58 + Int32.ofNat 16 * Int32.ofNat i + Int32.ofNat 2)).bind _ = _
  rw [← Int32.ofNat_mul, ← Int32.ofNat_add, ← Int32.ofNat_add, y_d (by omega)]
  rfl
theorem y_of3 {i : Nat} (hi : i < 8) : t_X6_of E (Int32.ofNat i) (3 : Int32) t = some (t.1 (58 + 16 * i + 3), t) := by
  show (tdL t 1 (Int32.ofNat 58 + Int32.ofNat 16 * Int32.ofNat i + Int32.ofNat 3)).bind _ = _
  rw [← Int32.ofNat_mul, ← Int32.ofNat_add, ← Int32.ofNat_add, y_d (by omega)]
  rfl
theorem y_of4 {i : Nat} (hi : i < 8) : t_X6_of E (Int32.ofNat i) (4 : Int32) t = some (t.1 (58 + 16 * i + 4), t) := by
  show (tdL t 1 (Int32.ofNat 58 + Int32.ofNat 16 * Int32.ofNat i + Int32.ofNat 4)).bind _ = _
  rw [← Int32.ofNat_mul, ← Int32.ofNat_add, ← Int32.ofNat_add, y_d (by omega)]
  rfl
theorem y_of5 {i : Nat} (hi : i < 8) : t_X6_of E (Int32.ofNat i) (5 : Int32) t = some (t.1 (58 + 16 * i + 5), t) := by
  show (tdL t 1 (Int32.ofNat 58 + Int32.ofNat 16 * Int32.ofNat i + Int32.ofNat 5)).bind _ = _
  rw [← Int32.ofNat_mul, ← Int32.ofNat_add, ← Int32.ofNat_add, y_d (by omega)]
  rfl
theorem y_of6 {i : Nat} (hi : i < 8) : t_X6_of E (Int32.ofNat i) (6 : Int32) t = some (t.1 (58 + 16 * i + 6), t) := by
  show (tdL t 1 (Int32.ofNat 58 + Int32.ofNat 16 * Int32.ofNat i + Int32.ofNat 6)).bind _ = _
  rw [← Int32.ofNat_mul, ← Int32.ofNat_add, ← Int32.ofNat_add, y_d (by omega)]
  rfl
theorem y_of7 {i : Nat} (hi : i < 8) : t_X6_of E (Int32.ofNat i) (7 : Int32) t = some (t.1 (58 + 16 * i + 7), t) := by
  show (tdL t 1 (Int32.ofNat 58 + Int32.ofNat 16 * Int32.ofNat i + Int32.ofNat 7)).bind _ = _
  rw [← Int32.ofNat_mul, ← Int32.ofNat_add, ← Int32.ofNat_add, y_d (by omega)]
  rfl
theorem y_of8 {i : Nat} (hi : i < 8) : t_X6_of E (Int32.ofNat i) (8 : Int32) t = some (t.1 (58 + 16 * i + 8), t) := by
  show (tdL t 1 (Int32.ofNat 58 + Int32.ofNat 16 * Int32.ofNat i + Int32.ofNat 8)).bind _ = _
  rw [← Int32.ofNat_mul, ← Int32.ofNat_add, ← Int32.ofNat_add, y_d (by omega)]
  rfl
theorem y_of9 {i : Nat} (hi : i < 8) : t_X6_of E (Int32.ofNat i) (9 : Int32) t = some (t.1 (58 + 16 * i + 9), t) := by
  show (tdL t 1 (Int32.ofNat 58 + Int32.ofNat 16 * Int32.ofNat i + Int32.ofNat 9)).bind _ = _
  rw [← Int32.ofNat_mul, ← Int32.ofNat_add, ← Int32.ofNat_add, y_d (by omega)]
  rfl
theorem y_of10 {i : Nat} (hi : i < 8) : t_X6_of E (Int32.ofNat i) (10 : Int32) t = some (t.1 (58 + 16 * i + 10), t) := by
  show (tdL t 1 (Int32.ofNat 58 + Int32.ofNat 16 * Int32.ofNat i + Int32.ofNat 10)).bind _ = _
  rw [← Int32.ofNat_mul, ← Int32.ofNat_add, ← Int32.ofNat_add, y_d (by omega)]
  rfl
theorem y_of11 {i : Nat} (hi : i < 8) : t_X6_of E (Int32.ofNat i) (11 : Int32) t = some (t.1 (58 + 16 * i + 11), t) := by
  show (tdL t 1 (Int32.ofNat 58 + Int32.ofNat 16 * Int32.ofNat i + Int32.ofNat 11)).bind _ = _
  rw [← Int32.ofNat_mul, ← Int32.ofNat_add, ← Int32.ofNat_add, y_d (by omega)]
  rfl
theorem y_of12 {i : Nat} (hi : i < 8) : t_X6_of E (Int32.ofNat i) (12 : Int32) t = some (t.1 (58 + 16 * i + 12), t) := by
  show (tdL t 1 (Int32.ofNat 58 + Int32.ofNat 16 * Int32.ofNat i + Int32.ofNat 12)).bind _ = _
  rw [← Int32.ofNat_mul, ← Int32.ofNat_add, ← Int32.ofNat_add, y_d (by omega)]
  rfl
theorem y_of13 {i : Nat} (hi : i < 8) : t_X6_of E (Int32.ofNat i) (13 : Int32) t = some (t.1 (58 + 16 * i + 13), t) := by
  show (tdL t 1 (Int32.ofNat 58 + Int32.ofNat 16 * Int32.ofNat i + Int32.ofNat 13)).bind _ = _
  rw [← Int32.ofNat_mul, ← Int32.ofNat_add, ← Int32.ofNat_add, y_d (by omega)]
  rfl
theorem y_of14 {i : Nat} (hi : i < 8) : t_X6_of E (Int32.ofNat i) (14 : Int32) t = some (t.1 (58 + 16 * i + 14), t) := by
  show (tdL t 1 (Int32.ofNat 58 + Int32.ofNat 16 * Int32.ofNat i + Int32.ofNat 14)).bind _ = _
  rw [← Int32.ofNat_mul, ← Int32.ofNat_add, ← Int32.ofNat_add, y_d (by omega)]
  rfl
theorem y_of15 {i : Nat} (hi : i < 8) : t_X6_of E (Int32.ofNat i) (15 : Int32) t = some (t.1 (58 + 16 * i + 15), t) := by
  show (tdL t 1 (Int32.ofNat 58 + Int32.ofNat 16 * Int32.ofNat i + Int32.ofNat 15)).bind _ = _
  rw [← Int32.ofNat_mul, ← Int32.ofNat_add, ← Int32.ofNat_add, y_d (by omega)]
  rfl
theorem y_set0 {i : Nat} (hi : i < 8) (v : Int64) : t_X6_set E (Int32.ofNat i) (0 : Int32) v t = some ((), uSt t (va_up t.1 (58 + 16 * i + 0) v)) := by
  show (tsL t 1 (Int32.ofNat 58 + Int32.ofNat 16 * Int32.ofNat i + Int32.ofNat 0) v).bind _ = _
  rw [← Int32.ofNat_mul, ← Int32.ofNat_add, ← Int32.ofNat_add, y_s (by omega)]
  rfl
theorem y_set1 {i : Nat} (hi : i < 8) (v : Int64) : t_X6_set E (Int32.ofNat i) (1 : Int32) v t = some ((), uSt t (va_up t.1 (58 + 16 * i + 1) v)) := by
  show (tsL t 1 (Int32.ofNat 58 + Int32.ofNat 16 * Int32.ofNat i + Int32.ofNat 1) v).bind _ = _
  rw [← Int32.ofNat_mul, ← Int32.ofNat_add, ← Int32.ofNat_add, y_s (by omega)]
  rfl
theorem y_set2 {i : Nat} (hi : i < 8) (v : Int64) : t_X6_set E (Int32.ofNat i) (2 : Int32) v t = some ((), uSt t (va_up t.1 (58 + 16 * i + 2) v)) := by
  show (tsL t 1 (Int32.ofNat 58 + Int32.ofNat 16 * Int32.ofNat i + Int32.ofNat 2) v).bind _ = _
  rw [← Int32.ofNat_mul, ← Int32.ofNat_add, ← Int32.ofNat_add, y_s (by omega)]
  rfl
theorem y_set3 {i : Nat} (hi : i < 8) (v : Int64) : t_X6_set E (Int32.ofNat i) (3 : Int32) v t = some ((), uSt t (va_up t.1 (58 + 16 * i + 3) v)) := by
  show (tsL t 1 (Int32.ofNat 58 + Int32.ofNat 16 * Int32.ofNat i + Int32.ofNat 3) v).bind _ = _
  rw [← Int32.ofNat_mul, ← Int32.ofNat_add, ← Int32.ofNat_add, y_s (by omega)]
  rfl
theorem y_set4 {i : Nat} (hi : i < 8) (v : Int64) : t_X6_set E (Int32.ofNat i) (4 : Int32) v t = some ((), uSt t (va_up t.1 (58 + 16 * i + 4) v)) := by
  show (tsL t 1 (Int32.ofNat 58 + Int32.ofNat 16 * Int32.ofNat i + Int32.ofNat 4) v).bind _ = _
  rw [← Int32.ofNat_mul, ← Int32.ofNat_add, ← Int32.ofNat_add, y_s (by omega)]
  rfl
theorem y_set5 {i : Nat} (hi : i < 8) (v : Int64) : t_X6_set E (Int32.ofNat i) (5 : Int32) v t = some ((), uSt t (va_up t.1 (58 + 16 * i + 5) v)) := by
  show (tsL t 1 (Int32.ofNat 58 + Int32.ofNat 16 * Int32.ofNat i + Int32.ofNat 5) v).bind _ = _
  rw [← Int32.ofNat_mul, ← Int32.ofNat_add, ← Int32.ofNat_add, y_s (by omega)]
  rfl
theorem y_set6 {i : Nat} (hi : i < 8) (v : Int64) : t_X6_set E (Int32.ofNat i) (6 : Int32) v t = some ((), uSt t (va_up t.1 (58 + 16 * i + 6) v)) := by
  show (tsL t 1 (Int32.ofNat 58 + Int32.ofNat 16 * Int32.ofNat i + Int32.ofNat 6) v).bind _ = _
  rw [← Int32.ofNat_mul, ← Int32.ofNat_add, ← Int32.ofNat_add, y_s (by omega)]
  rfl
theorem y_set7 {i : Nat} (hi : i < 8) (v : Int64) : t_X6_set E (Int32.ofNat i) (7 : Int32) v t = some ((), uSt t (va_up t.1 (58 + 16 * i + 7) v)) := by
  show (tsL t 1 (Int32.ofNat 58 + Int32.ofNat 16 * Int32.ofNat i + Int32.ofNat 7) v).bind _ = _
  rw [← Int32.ofNat_mul, ← Int32.ofNat_add, ← Int32.ofNat_add, y_s (by omega)]
  rfl
theorem y_set8 {i : Nat} (hi : i < 8) (v : Int64) : t_X6_set E (Int32.ofNat i) (8 : Int32) v t = some ((), uSt t (va_up t.1 (58 + 16 * i + 8) v)) := by
  show (tsL t 1 (Int32.ofNat 58 + Int32.ofNat 16 * Int32.ofNat i + Int32.ofNat 8) v).bind _ = _
  rw [← Int32.ofNat_mul, ← Int32.ofNat_add, ← Int32.ofNat_add, y_s (by omega)]
  rfl
theorem y_set9 {i : Nat} (hi : i < 8) (v : Int64) : t_X6_set E (Int32.ofNat i) (9 : Int32) v t = some ((), uSt t (va_up t.1 (58 + 16 * i + 9) v)) := by
  show (tsL t 1 (Int32.ofNat 58 + Int32.ofNat 16 * Int32.ofNat i + Int32.ofNat 9) v).bind _ = _
  rw [← Int32.ofNat_mul, ← Int32.ofNat_add, ← Int32.ofNat_add, y_s (by omega)]
  rfl
theorem y_set10 {i : Nat} (hi : i < 8) (v : Int64) : t_X6_set E (Int32.ofNat i) (10 : Int32) v t = some ((), uSt t (va_up t.1 (58 + 16 * i + 10) v)) := by
  show (tsL t 1 (Int32.ofNat 58 + Int32.ofNat 16 * Int32.ofNat i + Int32.ofNat 10) v).bind _ = _
  rw [← Int32.ofNat_mul, ← Int32.ofNat_add, ← Int32.ofNat_add, y_s (by omega)]
  rfl
theorem y_set11 {i : Nat} (hi : i < 8) (v : Int64) : t_X6_set E (Int32.ofNat i) (11 : Int32) v t = some ((), uSt t (va_up t.1 (58 + 16 * i + 11) v)) := by
  show (tsL t 1 (Int32.ofNat 58 + Int32.ofNat 16 * Int32.ofNat i + Int32.ofNat 11) v).bind _ = _
  rw [← Int32.ofNat_mul, ← Int32.ofNat_add, ← Int32.ofNat_add, y_s (by omega)]
  rfl
theorem y_set12 {i : Nat} (hi : i < 8) (v : Int64) : t_X6_set E (Int32.ofNat i) (12 : Int32) v t = some ((), uSt t (va_up t.1 (58 + 16 * i + 12) v)) := by
  show (tsL t 1 (Int32.ofNat 58 + Int32.ofNat 16 * Int32.ofNat i + Int32.ofNat 12) v).bind _ = _
  rw [← Int32.ofNat_mul, ← Int32.ofNat_add, ← Int32.ofNat_add, y_s (by omega)]
  rfl
theorem y_set13 {i : Nat} (hi : i < 8) (v : Int64) : t_X6_set E (Int32.ofNat i) (13 : Int32) v t = some ((), uSt t (va_up t.1 (58 + 16 * i + 13) v)) := by
  show (tsL t 1 (Int32.ofNat 58 + Int32.ofNat 16 * Int32.ofNat i + Int32.ofNat 13) v).bind _ = _
  rw [← Int32.ofNat_mul, ← Int32.ofNat_add, ← Int32.ofNat_add, y_s (by omega)]
  rfl
theorem y_set14 {i : Nat} (hi : i < 8) (v : Int64) : t_X6_set E (Int32.ofNat i) (14 : Int32) v t = some ((), uSt t (va_up t.1 (58 + 16 * i + 14) v)) := by
  show (tsL t 1 (Int32.ofNat 58 + Int32.ofNat 16 * Int32.ofNat i + Int32.ofNat 14) v).bind _ = _
  rw [← Int32.ofNat_mul, ← Int32.ofNat_add, ← Int32.ofNat_add, y_s (by omega)]
  rfl
theorem y_set15 {i : Nat} (hi : i < 8) (v : Int64) : t_X6_set E (Int32.ofNat i) (15 : Int32) v t = some ((), uSt t (va_up t.1 (58 + 16 * i + 15) v)) := by
  show (tsL t 1 (Int32.ofNat 58 + Int32.ofNat 16 * Int32.ofNat i + Int32.ofNat 15) v).bind _ = _
  rw [← Int32.ofNat_mul, ← Int32.ofNat_add, ← Int32.ofNat_add, y_s (by omega)]
  rfl
theorem y_add0 {i : Nat} (hi : i < 8) (v : Int64) : t_X6_add E (Int32.ofNat i) (0 : Int32) v t = some ((), uSt t (va_up t.1 (58 + 16 * i + 0) (t.1 (58 + 16 * i + 0) + v))) := by
  show (tdL t 1 (Int32.ofNat 58 + Int32.ofNat 16 * Int32.ofNat i + Int32.ofNat 0)).bind (fun x3 => (tsL t 1 (Int32.ofNat 58 + Int32.ofNat 16 * Int32.ofNat i + Int32.ofNat 0) (x3 + v)).bind _) = _
  rw [← Int32.ofNat_mul, ← Int32.ofNat_add, ← Int32.ofNat_add, y_d (by omega), b1_some, y_s (by omega)]
  rfl
theorem y_add1 {i : Nat} (hi : i < 8) (v : Int64) : t_X6_add E (Int32.ofNat i) (1 : Int32) v t = some ((), uSt t (va_up t.1 (58 + 16 * i + 1) (t.1 (58 + 16 * i + 1) + v))) := by
  show (tdL t 1 (Int32.ofNat 58 + Int32.ofNat 16 * Int32.ofNat i + Int32.ofNat 1)).bind (fun x3 => (tsL t 1 (Int32.ofNat 58 + Int32.ofNat 16 * Int32.ofNat i + Int32.ofNat 1) (x3 + v)).bind _) = _
  rw [← Int32.ofNat_mul, ← Int32.ofNat_add, ← Int32.ofNat_add, y_d (by omega), b1_some, y_s (by omega)]
  rfl
theorem y_add2 {i : Nat} (hi : i < 8) (v : Int64) : t_X6_add E (Int32.ofNat i) (2 : Int32) v t = some ((), uSt t (va_up t.1 (58 + 16 * i + 2) (t.1 (58 + 16 * i + 2) + v))) := by
  show (tdL t 1 (Int32.ofNat 58 + Int32.ofNat 16 * Int32.ofNat i + Int32.ofNat 2)).bind (fun x3 => (tsL t 1 (Int32.ofNat 58 + Int32.ofNat 16 * Int32.ofNat i + Int32.ofNat 2) (x3 + v)).bind _) = _
  rw [← Int32.ofNat_mul, ← Int32.ofNat_add, ← Int32.ofNat_add, y_d (by omega), b1_some, y_s (by omega)]
  rfl
theorem y_add3 {i : Nat} (hi : i < 8) (v : Int64) : t_X6_add E (Int32.ofNat i) (3 : Int32) v t = some ((), uSt t (va_up t.1 (58 + 16 * i + 3) (t.1 (58 + 16 * i + 3) + v))) := by
  show (tdL t 1 (Int32.ofNat 58 + Int32.ofNat 16 * Int32.ofNat i + Int32.ofNat 3)).bind (fun x3 => (tsL t 1 (Int32.ofNat 58 + Int32.ofNat 16 * Int32.ofNat i + Int32.ofNat 3) (x3 + v)).bind _) = _
  rw [← Int32.ofNat_mul, ← Int32.ofNat_add, ← Int32.ofNat_add, y_d (by omega), b1_some, y_s (by omega)]
  rfl
theorem y_add4 {i : Nat} (hi : i < 8) (v : Int64) : t_X6_add E (Int32.ofNat i) (4 : Int32) v t = some ((), uSt t (va_up t.1 (58 + 16 * i + 4) (t.1 (58 + 16 * i + 4) + v))) := by
  show (tdL t 1 (Int32.ofNat 58 + Int32.ofNat 16 * Int32.ofNat i + Int32.ofNat 4)).bind (fun x3 => (tsL t 1 (Int32.ofNat 58 + Int32.ofNat 16 * Int32.ofNat i + Int32.ofNat 4) (x3 + v)).bind _) = _
  rw [← Int32.ofNat_mul, ← Int32.ofNat_add, ← Int32.ofNat_add, y_d (by omega), b1_some, y_s (by omega)]
  rfl
theorem y_add5 {i : Nat} (hi : i < 8) (v : Int64) : t_X6_add E (Int32.ofNat i) (5 : Int32) v t = some ((), uSt t (va_up t.1 (58 + 16 * i + 5) (t.1 (58 + 16 * i + 5) + v))) := by
  show (tdL t 1 (Int32.ofNat 58 + Int32.ofNat 16 * Int32.ofNat i + Int32.ofNat 5)).bind (fun x3 => (tsL t 1 (Int32.ofNat 58 + Int32.ofNat 16 * Int32.ofNat i + Int32.ofNat 5) (x3 + v)).bind _) = _
  rw [← Int32.ofNat_mul, ← Int32.ofNat_add, ← Int32.ofNat_add, y_d (by omega), b1_some, y_s (by omega)]
  rfl
theorem y_add6 {i : Nat} (hi : i < 8) (v : Int64) : t_X6_add E (Int32.ofNat i) (6 : Int32) v t = some ((), uSt t (va_up t.1 (58 + 16 * i + 6) (t.1 (58 + 16 * i + 6) + v))) := by
  show (tdL t 1 (Int32.ofNat 58 + Int32.ofNat 16 * Int32.ofNat i + Int32.ofNat 6)).bind (fun x3 => (tsL t 1 (Int32.ofNat 58 + Int32.ofNat 16 * Int32.ofNat i + Int32.ofNat 6) (x3 + v)).bind _) = _
  rw [← Int32.ofNat_mul, ← Int32.ofNat_add, ← Int32.ofNat_add, y_d (by omega), b1_some, y_s (by omega)]
  rfl
theorem y_add7 {i : Nat} (hi : i < 8) (v : Int64) : t_X6_add E (Int32.ofNat i) (7 : Int32) v t = some ((), uSt t (va_up t.1 (58 + 16 * i + 7) (t.1 (58 + 16 * i + 7) + v))) := by
  show (tdL t 1 (Int32.ofNat 58 + Int32.ofNat 16 * Int32.ofNat i + Int32.ofNat 7)).bind (fun x3 => (tsL t 1 (Int32.ofNat 58 + Int32.ofNat 16 * Int32.ofNat i + Int32.ofNat 7) (x3 + v)).bind _) = _
  rw [← Int32.ofNat_mul, ← Int32.ofNat_add, ← Int32.ofNat_add, y_d (by omega), b1_some, y_s (by omega)]
  rfl
theorem y_add8 {i : Nat} (hi : i < 8) (v : Int64) : t_X6_add E (Int32.ofNat i) (8 : Int32) v t = some ((), uSt t (va_up t.1 (58 + 16 * i + 8) (t.1 (58 + 16 * i + 8) + v))) := by
  show (tdL t 1 (Int32.ofNat 58 + Int32.ofNat 16 * Int32.ofNat i + Int32.ofNat 8)).bind (fun x3 => (tsL t 1 (Int32.ofNat 58 + Int32.ofNat 16 * Int32.ofNat i + Int32.ofNat 8) (x3 + v)).bind _) = _
  rw [← Int32.ofNat_mul, ← Int32.ofNat_add, ← Int32.ofNat_add, y_d (by omega), b1_some, y_s (by omega)]
  rfl
theorem y_add9 {i : Nat} (hi : i < 8) (v : Int64) : t_X6_add E (Int32.ofNat i) (9 : Int32) v t = some ((), uSt t (va_up t.1 (58 + 16 * i + 9) (t.1 (58 + 16 * i + 9) + v))) := by
  show (tdL t 1 (Int32.ofNat 58 + Int32.ofNat 16 * Int32.ofNat i + Int32.ofNat 9)).bind (fun x3 => (tsL t 1 (Int32.ofNat 58 + Int32.ofNat 16 * Int32.ofNat i + Int32.ofNat 9) (x3 + v)).bind _) = _
  rw [← Int32.ofNat_mul, ← Int32.ofNat_add, ← Int32.ofNat_add, y_d (by omega), b1_some, y_s (by omega)]
  rfl
theorem y_add10 {i : Nat} (hi : i < 8) (v : Int64) : t_X6_add E (Int32.ofNat i) (10 : Int32) v t = some ((), uSt t (va_up t.1 (58 + 16 * i + 10) (t.1 (58 + 16 * i + 10) + v))) := by
  show (tdL t 1 (Int32.ofNat 58 + Int32.ofNat 16 * Int32.ofNat i + Int32.ofNat 10)).bind (fun x3 => (tsL t 1 (Int32.ofNat 58 + Int32.ofNat 16 * Int32.ofNat i + Int32.ofNat 10) (x3 + v)).bind _) = _
  rw [← Int32.ofNat_mul, ← Int32.ofNat_add, ← Int32.ofNat_add, y_d (by omega), b1_some, y_s (by omega)]
  rfl
theorem y_add11 {i : Nat} (hi : i < 8) (v : Int64) : t_X6_add E (Int32.ofNat i) (11 : Int32) v t = some ((), uSt t (va_up t.1 (58 + 16 * i + 11) (t.1 (58 + 16 * i + 11) + v))) := by
  show (tdL t 1 (Int32.ofNat 58 + Int32.ofNat 16 * Int32.ofNat i + Int32.ofNat 11)).bind (fun x3 => (tsL t 1 (Int32.ofNat 58 + Int32.ofNat 16 * Int32.ofNat i + Int32.ofNat 11) (x3 + v)).bind _) = _
  rw [← Int32.ofNat_mul, ← Int32.ofNat_add, ← Int32.ofNat_add, y_d (by omega), b1_some, y_s (by omega)]
  rfl
theorem y_add12 {i : Nat} (hi : i < 8) (v : Int64) : t_X6_add E (Int32.ofNat i) (12 : Int32) v t = some ((), uSt t (va_up t.1 (58 + 16 * i + 12) (t.1 (58 + 16 * i + 12) + v))) := by
  show (tdL t 1 (Int32.ofNat 58 + Int32.ofNat 16 * Int32.ofNat i + Int32.ofNat 12)).bind (fun x3 => (tsL t 1 (Int32.ofNat 58 + Int32.ofNat 16 * Int32.ofNat i + Int32.ofNat 12) (x3 + v)).bind _) = _
  rw [← Int32.ofNat_mul, ← Int32.ofNat_add, ← Int32.ofNat_add, y_d (by omega), b1_some, y_s (by omega)]
  rfl
theorem y_add13 {i : Nat} (hi : i < 8) (v : Int64) : t_X6_add E (Int32.ofNat i) (13 : Int32) v t = some ((), uSt t (va_up t.1 (58 + 16 * i + 13) (t.1 (58 + 16 * i + 13) + v))) := by
  show (tdL t 1 (Int32.ofNat 58 + Int32.ofNat 16 * Int32.ofNat i + Int32.ofNat 13)).bind (fun x3 => (tsL t 1 (Int32.ofNat 58 + Int32.ofNat 16 * Int32.ofNat i + Int32.ofNat 13) (x3 + v)).bind _) = _
  rw [← Int32.ofNat_mul, ← Int32.ofNat_add, ← Int32.ofNat_add, y_d (by omega), b1_some, y_s (by omega)]
  rfl
theorem y_add14 {i : Nat} (hi : i < 8) (v : Int64) : t_X6_add E (Int32.ofNat i) (14 : Int32) v t = some ((), uSt t (va_up t.1 (58 + 16 * i + 14) (t.1 (58 + 16 * i + 14) + v))) := by
  show (tdL t 1 (Int32.ofNat 58 + Int32.ofNat 16 * Int32.ofNat i + Int32.ofNat 14)).bind (fun x3 => (tsL t 1 (Int32.ofNat 58 + Int32.ofNat 16 * Int32.ofNat i + Int32.ofNat 14) (x3 + v)).bind _) = _
  rw [← Int32.ofNat_mul, ← Int32.ofNat_add, ← Int32.ofNat_add, y_d (by omega), b1_some, y_s (by omega)]
  rfl
theorem y_add15 {i : Nat} (hi : i < 8) (v : Int64) : t_X6_add E (Int32.ofNat i) (15 : Int32) v t = some ((), uSt t (va_up t.1 (58 + 16 * i + 15) (t.1 (58 + 16 * i + 15) + v))) := by
  show (tdL t 1 (Int32.ofNat 58 + Int32.ofNat 16 * Int32.ofNat i + Int32.ofNat 15)).bind (fun x3 => (tsL t 1 (Int32.ofNat 58 + Int32.ofNat 16 * Int32.ofNat i + Int32.ofNat 15) (x3 + v)).bind _) = _
  rw [← Int32.ofNat_mul, ← Int32.ofNat_add, ← Int32.ofNat_add, y_d (by omega), b1_some, y_s (by omega)]
  rfl
theorem y_oo0 {i : Nat} (hi : i < 16) : t_X6_ofOutlet E (Int32.ofNat i) (0 : Int32) t = some (t.1 (186 + 4 * i + 0), t) := by
  show (tdL t 1 (Int32.ofNat 186 + Int32.ofNat 4 * Int32.ofNat i + Int32.ofNat 0)).bind _ = _
  rw [← Int32.ofNat_mul, ← Int32.ofNat_add, ← Int32.ofNat_add, y_d (by omega)]
  rfl
theorem y_oo1 {i : Nat} (hi : i < 16) : t_X6_ofOutlet E (Int32.ofNat i) (1 : Int32) t = some (t.1 (186 + 4 * i + 1), t) := by
  show (tdL t 1 (Int32.ofNat 186 + Int32.ofNat 4 * Int32.ofNat i + Int32.ofNat 1)).bind _ = _
  rw [← Int32.ofNat_mul, ← Int32.ofNat_add, ← Int32.ofNat_add, y_d (by omega)]
  rfl
theorem y_oo2 {i : Nat} (hi : i < 16) : t_X6_ofOutlet E (Int32.ofNat i) (2 : Int32) t = some (t.1 (186 + 4 * i + 2), t) := by
  show (tdL t 1 (Int32.ofNat 186 + Int32.ofNat 4 * Int32.ofNat i + Int32.ofNat 2)).bind _ = _
  rw [← Int32.ofNat_mul, ← Int32.ofNat_add, ← Int32.ofNat_add, y_d (by omega)]
  rfl
theorem y_oo3 {i : Nat} (hi : i < 16) : t_X6_ofOutlet E (Int32.ofNat i) (3 : Int32) t = some (t.1 (186 + 4 * i + 3), t) := by
  show (tdL t 1 (Int32.ofNat 186 + Int32.ofNat 4 * Int32.ofNat i + Int32.ofNat 3)).bind _ = _
  rw [← Int32.ofNat_mul, ← Int32.ofNat_add, ← Int32.ofNat_add, y_d (by omega)]
  rfl
theorem y_op {i k : Nat} (hi : i < 4) (hk : k < 11) : t_X6_ofPlan E (Int32.ofNat i) (Int32.ofNat k) t = some (t.1 (14 + 11 * i + k), t) := by
  show (tdL t 1 (Int32.ofNat 14 + Int32.ofNat 11 * Int32.ofNat i + Int32.ofNat k)).bind _ = _
  rw [← Int32.ofNat_mul, ← Int32.ofNat_add, ← Int32.ofNat_add, y_d (by omega)]
  rfl
theorem y_op0 {i : Nat} (hi : i < 4) : t_X6_ofPlan E (Int32.ofNat i) (0 : Int32) t = some (t.1 (14 + 11 * i + 0), t) := y_op hi (k := 0) (by decide)
theorem y_op1 {i : Nat} (hi : i < 4) : t_X6_ofPlan E (Int32.ofNat i) (1 : Int32) t = some (t.1 (14 + 11 * i + 1), t) := y_op hi (k := 1) (by decide)
theorem y_op2 {i : Nat} (hi : i < 4) : t_X6_ofPlan E (Int32.ofNat i) (2 : Int32) t = some (t.1 (14 + 11 * i + 2), t) := y_op hi (k := 2) (by decide)
theorem y_d0 : tdL t 1 (0 : Int32) = some (t.1 0) := y_d (k := 0) (by decide)
theorem y_d1 : tdL t 1 (1 : Int32) = some (t.1 1) := y_d (k := 1) (by decide)
theorem y_d2 : tdL t 1 (2 : Int32) = some (t.1 2) := y_d (k := 2) (by decide)
theorem y_d3 : tdL t 1 (3 : Int32) = some (t.1 3) := y_d (k := 3) (by decide)
theorem y_d4 : tdL t 1 (4 : Int32) = some (t.1 4) := y_d (k := 4) (by decide)
theorem y_d5 : tdL t 1 (5 : Int32) = some (t.1 5) := y_d (k := 5) (by decide)
theorem y_d6 : tdL t 1 (6 : Int32) = some (t.1 6) := y_d (k := 6) (by decide)
theorem y_d7 : tdL t 1 (7 : Int32) = some (t.1 7) := y_d (k := 7) (by decide)
theorem y_d8 : tdL t 1 (8 : Int32) = some (t.1 8) := y_d (k := 8) (by decide)
theorem y_d9 : tdL t 1 (9 : Int32) = some (t.1 9) := y_d (k := 9) (by decide)
theorem y_d10 : tdL t 1 (10 : Int32) = some (t.1 10) := y_d (k := 10) (by decide)
theorem y_d11 : tdL t 1 (11 : Int32) = some (t.1 11) := y_d (k := 11) (by decide)
theorem y_d12 : tdL t 1 (12 : Int32) = some (t.1 12) := y_d (k := 12) (by decide)
theorem y_d13 : tdL t 1 (13 : Int32) = some (t.1 13) := y_d (k := 13) (by decide)
theorem y_ownerOf {x y : Nat} (hx : x < 30) (hy : y < 30) : t_X6_ownerOf E (Int32.ofNat x) (Int32.ofNat y) t = some ((t.1 (250 + (30 * y + x))).toInt32, t) := by
  show (tdL t 1 (Int32.ofNat 250 + Int32.ofNat 30 * Int32.ofNat y + Int32.ofNat x)).bind _ = _
  rw [← Int32.ofNat_mul, ← Int32.ofNat_add, ← Int32.ofNat_add, y_d (by omega), Nat.add_assoc]
  rfl
theorem y_cell {c : Nat} (hc : c < 900) : tdL t 1 ((250 : Int32) + Int32.ofNat c) = some (t.1 (250 + c)) := by
  show tdL t 1 (Int32.ofNat 250 + Int32.ofNat c) = _
  rw [← Int32.ofNat_add, y_d (by omega)]
theorem y_rec {f m : Nat} (hf : f < 8) (hm : m < 60) : t_X6_recorded E (Int32.ofNat f) (Int32.ofNat m) t = some (t.1 (1214 + 8 * m + f), t) := by
  show (tdL t 1 (Int32.ofNat 1214 + Int32.ofNat 8 * Int32.ofNat m + Int32.ofNat f)).bind _ = _
  rw [← Int32.ofNat_mul, ← Int32.ofNat_add, ← Int32.ofNat_add, y_d (by omega)]
  rfl
theorem y_half (x : Int64) : t_X6_half E x t = some ((x + 5000) / 10000, t) := rfl
theorem y_rated (x y : Int64) : t_X6_rated E x y t = some ((x * y + 5000) / 10000, t) := rfl
theorem y_planNow {i : Nat} (hi : i < 8) : t_X6_planNow E (Int32.ofNat i) t = some ((t.1 (58 + 16 * i + 1)).toInt32, t) := by
  unfold t_X6_planNow t_X6_planNow_b0
  rw [y_of1 hi]
  rfl
theorem y_isActive {i : Nat} (hi : i < 8) : t_X6_isActive E (Int32.ofNat i) t = some (bi (t.1 (58 + 16 * i + 3) = 0), t) := by
  unfold t_X6_isActive t_X6_isActive_b0
  rw [y_of3 hi, b2_some]
  by_cases h : t.1 (58 + 16 * i + 3) = 0
  · rw [bi_t h]; exact (if_pos h).trans rfl
  · rw [bi_f h]; exact (if_neg h).trans rfl
theorem y_isOpen {k : Nat} (hk : k < 16) : t_X6_isOpen E (Int32.ofNat k) t = some (bi (¬ t.1 (186 + 4 * k + 0) = -1), t) := by
  unfold t_X6_isOpen t_X6_isOpen_b0
  rw [y_oo0 hk, b2_some]
  by_cases h : t.1 (186 + 4 * k + 0) = -1
  · rw [bi_f (fun n => n h)]; exact (if_pos h).trans rfl
  · rw [bi_t h]; exact (if_neg h).trans rfl
theorem y_isOver : t_X6_isOver E t = some (bi (t.1 0 = 60), t) := by
  unfold t_X6_isOver t_X6_isOver_b0
  rw [y_d0, b1_some]
  by_cases h : t.1 0 = 60
  · rw [bi_t h]; exact (if_pos h).trans rfl
  · rw [bi_f h]; exact (if_neg h).trans rfl
theorem y_isOpT {i : Nat} (hi : i < 8) : t_X6_isOpenTransfer E (Int32.ofNat i) t = some (bi (t.1 (58 + 16 * i + 9) = 1 ∨ t.1 (58 + 16 * i + 9) = 2), t) := by
  unfold t_X6_isOpenTransfer t_X6_isOpenTransfer_b0 t_X6_isOpenTransfer_b26 t_X6_isOpenTransfer_b31
  rw [y_of9 hi, b2_some]
  by_cases h : t.1 (58 + 16 * i + 9) = 1
  · rw [bi_t (Or.inl h)]; exact (if_pos h).trans rfl
  · refine (if_neg h).trans ?_
    rw [y_of9 hi, b2_some]
    by_cases h2 : t.1 (58 + 16 * i + 9) = 2
    · rw [bi_t (Or.inr h2)]; exact (if_pos h2).trans rfl
    · rw [bi_f (fun q => q.elim h h2)]; exact (if_neg h2).trans rfl
theorem y_isDly {i : Nat} (hi : i < 8) : t_X6_isDelayOver E (Int32.ofNat i) t = some (bi (¬ t.1 0 - t.1 (58 + 16 * i + 12) < t.1 9), t) := by
  unfold t_X6_isDelayOver t_X6_isDelayOver_b0
  rw [y_d0, b1_some, y_of12 hi, b2_some]
  show (tdL t 1 (9 : Int32)).bind _ = _
  rw [y_d9, b1_some]
  by_cases h : t.1 0 - t.1 (58 + 16 * i + 12) < t.1 9
  · rw [bi_f (fun n => n h)]; exact (if_pos h).trans rfl
  · rw [bi_t h]; exact (if_neg h).trans rfl
theorem y_allow {i : Nat} (hi : i < 8) : t_X6_allowanceOf E (Int32.ofNat i) t = some (t.1 (58 + 16 * i + 7) / 2 - t.1 (58 + 16 * i + 8), t) := by
  unfold t_X6_allowanceOf t_X6_allowanceOf_b0
  rw [y_of7 hi, b2_some]
  show bnd2 (t_X6_of E (Int32.ofNat i) (8 : Int32) t) _ = _
  rw [y_of8 hi]
  rfl
theorem y_product {i : Nat} (hi : i < 8) : t_X6_product E (Int32.ofNat i) t = some (t.1 12 * t.1 (58 + 16 * i + 7), t) := by
  unfold t_X6_product t_X6_product_b0
  rw [y_d12, b1_some, y_of7 hi]
  rfl
theorem y_invRow {f m : Nat} : t_X6_invoiceRow E (Int32.ofNat f) (Int32.ofNat m) t = some (Int32.ofNat (1694 + 7 * (8 * m + f)), t) := by
  show some (Int32.ofNat 1694 + Int32.ofNat 7 * (Int32.ofNat 8 * Int32.ofNat m + Int32.ofNat f), t) = _
  rw [← Int32.ofNat_mul, ← Int32.ofNat_add, ← Int32.ofNat_mul, ← Int32.ofNat_add]
variable {s : cT} {o nf no mo np : Nat} {nt : Nat → Nat}
theorem y_isFr (h : RB s o nf no mo t.1) (hn : nf < 2 ^ 31) (f : Int32) : t_X6_isFranchisee E f t = some (bi (inF f nf), t) := by
  unfold t_X6_isFranchisee t_X6_isFranchisee_b0
  rw [y_d2, b1_some, r_nf h, y_inRange, b2_some]
  show (zgd .boolean (if _ then (1 : Int32) else 0)).bind _ = _
  rw [bi_of (inF_64 hn), zgd_bi]
  rfl
theorem y_isOu (h : RB s o nf no mo t.1) (hn : no < 2 ^ 31) (f : Int32) : t_X6_isOutlet E f t = some (bi (inF f no), t) := by
  unfold t_X6_isOutlet t_X6_isOutlet_b0
  rw [y_d3, b1_some, r_no h, y_inRange, b2_some]
  show (zgd .boolean (if _ then (1 : Int32) else 0)).bind _ = _
  rw [bi_of (inF_64 hn), zgd_bi]
  rfl
theorem y_isPl (h : RR s np nt t.1) (hn : np < 2 ^ 31) (f : Int32) : t_X6_isPlan E f t = some (bi (inF f np), t) := by
  unfold t_X6_isPlan t_X6_isPlan_b0
  rw [y_d1, b1_some, r_np h, y_inRange, b2_some]
  show (zgd .boolean (if _ then (1 : Int32) else 0)).bind _ = _
  rw [bi_of (inF_64 hn), zgd_bi]
  rfl
theorem y_isCl (h : RB s o nf no mo t.1) (hn : mo < 2 ^ 31) (f : Int32) : t_X6_isClosed E f t = some (bi (inF f mo), t) := by
  unfold t_X6_isClosed t_X6_isClosed_b0
  rw [y_d0, b1_some, r_mo h, y_inRange, b2_some]
  show (zgd .boolean (if _ then (1 : Int32) else 0)).bind _ = _
  rw [bi_of (inF_64 hn), zgd_bi]
  rfl
end TL
