/-! words *(1 .. 26 for a letter)*, bytes -/
set_option maxRecDepth 100000
def lts (d : List Nat) : Prop := ∀ k, k ∈ d → 1 ≤ k ∧ k ≤ 26
def wrd (d : List Nat) : Prop := 1 ≤ d.length ∧ d.length ≤ 10 ∧ lts d
def wpk (d : List Nat) : Nat := d.foldl (fun v k => v * 32 + k) 0
def chd (d : List Nat) : List Int32 := d.map fun k => Int32.ofNat (96 + k)
theorem wpk_snoc (d : List Nat) (k : Nat) : wpk (d ++ [k]) = wpk d * 32 + k := by
  unfold wpk
  rw [List.foldl_append]
  rfl
theorem chd_snoc (d : List Nat) (k : Nat) : chd (d ++ [k]) = chd d ++ [Int32.ofNat (96 + k)] := List.map_append
theorem chd_len (d : List Nat) : (chd d).length = d.length := List.length_map _
theorem lts_snoc {d : List Nat} {k : Nat} (h : lts d) (h1 : 1 ≤ k) (h2 : k ≤ 26) : lts (d ++ [k]) := fun q hq => by
  rcases List.mem_append.mp hq with w | w
  · exact h q w
  · rw [List.mem_singleton.mp w]; exact ⟨h1, h2⟩
def pr : List Nat → Nat
  | [] => 0
  | k :: r => pr r * 32 + k
theorem wpk_pr_l : ∀ (d : List Nat) (v : Nat), d.foldl (fun v k => v * 32 + k) v = pr d.reverse + v * 32 ^ d.length
  | [], v => by show v = 0 + v * 1; omega
  | k :: d, v => by
    show d.foldl (fun v k => v * 32 + k) (v * 32 + k) = _
    rw [wpk_pr_l d, List.reverse_cons]
    have h : ∀ (r : List Nat) (k : Nat), pr (r ++ [k]) = pr r + k * 32 ^ r.length := by
      intro r
      induction r with
      | nil => intro k; show 0 * 32 + k = 0 + k * 1; omega
      | cons x r ih =>
        intro k
        show pr (r ++ [k]) * 32 + x = pr r * 32 + x + k * 32 ^ (r.length + 1)
        rw [ih, Nat.pow_succ, Nat.add_mul, ← Nat.mul_assoc]
        omega
    rw [h, List.length_reverse]
    show pr d.reverse + (v * 32 + k) * 32 ^ d.length = pr d.reverse + k * 32 ^ d.length + v * 32 ^ (d.length + 1)
    rw [Nat.add_mul, Nat.pow_succ, Nat.mul_assoc, Nat.mul_comm 32 (32 ^ d.length)]
    omega
theorem wpk_pr (d : List Nat) : wpk d = pr d.reverse := by
  unfold wpk
  rw [wpk_pr_l]
  omega
theorem pr_inj : ∀ (d e : List Nat), (∀ k, k ∈ d → 1 ≤ k ∧ k ≤ 26) → (∀ k, k ∈ e → 1 ≤ k ∧ k ≤ 26) → pr d = pr e → d = e
  | [], [], _, _, _ => rfl
  | [], k :: e, _, h, q => by
    have q : 0 = pr e * 32 + k := q
    have := (h k List.mem_cons_self).1
    omega
  | k :: d, [], h, _, q => by
    have q : pr d * 32 + k = 0 := q
    have := (h k List.mem_cons_self).1
    omega
  | k :: d, j :: e, h, h1, q => by
    have q : pr d * 32 + k = pr e * 32 + j := q
    have a1 := h k List.mem_cons_self
    have a2 := h1 j List.mem_cons_self
    rw [pr_inj d e (fun x hx => h x (List.mem_cons_of_mem _ hx)) (fun x hx => h1 x (List.mem_cons_of_mem _ hx)) (by omega), show k = j by omega]
theorem wpk_inj {d e : List Nat} (hd : lts d) (he : lts e) : wpk d = wpk e ↔ d = e := by
  refine ⟨fun q => ?_, fun q => by rw [q]⟩
  rw [wpk_pr, wpk_pr] at q
  have k := pr_inj d.reverse e.reverse (fun k hk => hd k (List.mem_reverse.mp hk)) (fun k hk => he k (List.mem_reverse.mp hk)) q
  have := congrArg List.reverse k
  rw [List.reverse_reverse, List.reverse_reverse] at this
  exact this
theorem pr_lt : ∀ (d : List Nat), (∀ k, k ∈ d → 1 ≤ k ∧ k ≤ 26) → pr d < 32 ^ d.length
  | [], _ => by decide
  | k :: d, h => by
    have a := h k List.mem_cons_self
    have b := pr_lt d (fun x hx => h x (List.mem_cons_of_mem _ hx))
    show pr d * 32 + k < 32 ^ (d.length + 1)
    rw [Nat.pow_succ]
    omega
theorem wpk_lt {d : List Nat} (h : lts d) (hl : d.length ≤ 10) : wpk d < 2 ^ 50 := by
  rw [wpk_pr]
  have k := pr_lt d.reverse (fun k hk => h k (List.mem_reverse.mp hk))
  rw [List.length_reverse] at k
  exact Nat.lt_of_lt_of_le k (by
    have : 32 ^ d.length ≤ 32 ^ 10 := Nat.pow_le_pow_right (by decide) hl
    exact this)
theorem wpk_64 {d e : List Nat} (hd : lts d) (he : lts e) (h1 : d.length ≤ 10) (h2 : e.length ≤ 10) : Int64.ofNat (wpk d) = Int64.ofNat (wpk e) ↔ d = e := by
  have a := wpk_lt hd h1
  have b := wpk_lt he h2
  rw [i64_eq (by omega) (by omega), wpk_inj hd he]
theorem chd_inj : ∀ {d e : List Nat}, lts d → lts e → (chd d = chd e ↔ d = e)
  | [], [], _, _ => ⟨fun _ => rfl, fun _ => rfl⟩
  | [], k :: e, _, _ => ⟨fun q => (by cases q), fun q => (by cases q)⟩
  | k :: d, [], _, _ => ⟨fun q => (by cases q), fun q => (by cases q)⟩
  | k :: d, j :: e, h, h1 => by
    have a1 := h k List.mem_cons_self
    have a2 := h1 j List.mem_cons_self
    refine ⟨fun q => ?_, fun q => by rw [q]⟩
    have q : Int32.ofNat (96 + k) :: chd d = Int32.ofNat (96 + j) :: chd e := q
    injection q with q1 q2
    have q1 := (i32_eq (by omega) (by omega)).mp q1
    rw [show k = j by omega, (chd_inj (fun x hx => h x (List.mem_cons_of_mem _ hx)) (fun x hx => h1 x (List.mem_cons_of_mem _ hx))).mp q2]
/-- the words that are known -/
def kw (i : Nat) : List Nat := (litS.getD i "").toList.map fun c => c.toNat - 96
theorem kw_w : ∀ i, i < 27 → i ≠ 7 → wrd (kw i) ∧ lit i = chd (kw i) := by
  have d : ∀ i, i < 27 → i ≠ 7 → (1 ≤ (kw i).length ∧ (kw i).length ≤ 10 ∧ ((kw i).all fun k => decide (1 ≤ k) && decide (k ≤ 26)) = true) ∧ lit i = chd (kw i) := by decide
  intro i hi h7
  obtain ⟨⟨a, b, c⟩, e⟩ := d i hi h7
  refine ⟨⟨a, b, fun k hk => ?_⟩, e⟩
  have := List.all_eq_true.mp c k hk
  rw [Bool.and_eq_true, decide_eq_true_eq, decide_eq_true_eq] at this
  exact this
theorem wrd_kw {d : List Nat} (hd : wrd d) {i : Nat} (hi : i < 27) (h7 : i ≠ 7) : (chd d = lit i ↔ d = kw i) ∧ (Int64.ofNat (wpk d) = Int64.ofNat (wpk (kw i)) ↔ d = kw i) := by
  obtain ⟨k1, k2⟩ := kw_w i hi h7
  exact ⟨by rw [k2]; exact chd_inj hd.2.2 k1.2.2, wpk_64 hd.2.2 k1.2.2 hd.2.1 k1.2.1⟩
/-! ## bytes -/
theorem and255 (x : Int32) : ∃ n, n < 256 ∧ x &&& (255 : Int32) = Int32.ofNat n := by
  refine ⟨(x &&& 255).toUInt32.toNat, ?_, ?_⟩
  · have h : (x &&& 255).toUInt32.toNat = x.toUInt32.toNat &&& 255 := rfl
    rw [h]
    exact Nat.lt_of_le_of_lt Nat.and_le_right (by decide)
  · have h : ∀ y : Int32, Int32.ofNat y.toUInt32.toNat = y := fun y => by
      apply Int32.toBitVec_inj.mp
      show BitVec.ofNat 32 y.toBitVec.toNat = y.toBitVec
      apply BitVec.eq_of_toNat_eq
      rw [BitVec.toNat_ofNat]
      exact Nat.mod_eq_of_lt y.toBitVec.isLt
    exact (h _).symm
def byA (b : Nat → Int32) (L j : Nat) : Int32 := if j < L then b j &&& 255 else -1
theorem byA_r (b : Nat → Int32) (L j : Nat) : -1 ≤ (byA b L j).toInt ∧ (byA b L j).toInt < 256 := by
  unfold byA
  by_cases h : j < L
  · rw [if_pos h]
    obtain ⟨n, h1, h2⟩ := and255 (b j)
    rw [h2, i32_toInt (by omega)]
    omega
  · rw [if_neg h]
    decide
def isLt (x : Int32) : Prop := (97 : Int64) ≤ x.toInt64 ∧ x.toInt64 ≤ (122 : Int64)
def isDg (x : Int32) : Prop := (48 : Int64) ≤ x.toInt64 ∧ x.toInt64 ≤ (57 : Int64)
theorem rng_i {x : Int32} {a b : Nat} {u v : Int64} (hu : u.toInt = a) (hv : v.toInt = b) : (u ≤ x.toInt64 ∧ x.toInt64 ≤ v) ↔ (a : Int) ≤ x.toInt ∧ x.toInt ≤ b := by
  rw [Int64.le_iff_toInt_le, Int64.le_iff_toInt_le, i64_of32, hu, hv]
theorem isLt_n {x : Int32} (h : isLt x) : ∃ k, 1 ≤ k ∧ k ≤ 26 ∧ x = Int32.ofNat (96 + k) := by
  have h := (rng_i (a := 97) (b := 122) (by decide) (by decide)).mp h
  refine ⟨x.toInt.toNat - 96, by omega, by omega, ?_⟩
  rw [← Int32.toInt_inj, i32_toInt (by omega)]
  omega
theorem isDg_n {x : Int32} (h : isDg x) : ∃ k, k < 10 ∧ x = Int32.ofNat (48 + k) := by
  have h := (rng_i (a := 48) (b := 57) (by decide) (by decide)).mp h
  refine ⟨x.toInt.toNat - 48, by omega, ?_⟩
  rw [← Int32.toInt_inj, i32_toInt (by omega)]
  omega
theorem byA_lt {b : Nat → Int32} {L j : Nat} (h : isLt (byA b L j) ∨ isDg (byA b L j) ∨ byA b L j ≠ -1) : j < L := Decidable.by_contra fun n => by
  have e : byA b L j = -1 := if_neg n
  rw [e] at h
  rcases h with h | h | h
  · exact absurd h.1 (by decide)
  · exact absurd h.1 (by decide)
  · exact h rfl
theorem byA_m1 {b : Nat → Int32} {L j : Nat} : byA b L j = -1 ↔ L ≤ j := by
  unfold byA
  by_cases h : j < L
  · rw [if_pos h]
    obtain ⟨n, h1, h2⟩ := and255 (b j)
    rw [h2]
    exact ⟨fun q => absurd q (i32_neg1 (by omega)), fun q => absurd h (by omega)⟩
  · rw [if_neg h]
    exact ⟨fun _ => by omega, fun _ => rfl⟩
theorem lt_dg {x : Int32} (h : isLt x) : ¬ isDg x ∧ x ≠ -1 := by
  obtain ⟨k, h1, h2, h3⟩ := isLt_n h
  refine ⟨fun q => ?_, by rw [h3]; exact i32_neg1 (by omega)⟩
  obtain ⟨j, q1, q2⟩ := isDg_n q
  rw [h3, i32_eq (by omega) (by omega)] at q2
  omega
theorem chr_u : ∀ k, k < 128 → ((Int32.ofNat k).toUInt32 % 65536).toInt32 = Int32.ofNat k := by decide +kernel
theorem chr_s : ∀ k, k < 128 → sbt (Int32.ofNat k) = Int32.ofNat k ∧ ¬ (255 : Int32) < Int32.ofNat k := by decide +kernel
theorem byt2 : ∀ k, k < 256 → ((Int32.ofNat k).toUInt32 % 65536).toInt32 = Int32.ofNat k ∧ ¬ (255 : Int32) < Int32.ofNat k ∧ (sbt (Int32.ofNat k)).toInt8.toInt32 = sbt (Int32.ofNat k) := by decide +kernel
theorem byt3 : ∀ k, k < 256 → 128 ≤ k → (sbt (Int32.ofNat k)).toInt < 0 := by decide +kernel
theorem byt4 {k c : Nat} (hk : k < 256) (hc : c < 128) : sbt (Int32.ofNat k) = Int32.ofNat c ↔ k = c := by
  by_cases q : k < 128
  · rw [(chr_s k q).1, i32_eq (by omega) (by omega)]
  · have h := byt3 k hk (by omega)
    refine ⟨fun w => ?_, fun w => by omega⟩
    rw [w, i32_toInt (by omega)] at h
    omega
section TW
variable {E : zE} {t : twS} {L : Nat}
theorem y_byA (h9 : tSc t 9 = Int32.ofNat L) (hL : L ≤ 1500) {j : Nat} (hj : j ≤ 1501) : t_X6_byteAt E (Int32.ofNat j) t = some (byA (t.2.2.1 7) L j, t) := by
  unfold t_X6_byteAt t_X6_byteAt_b0 t_X6_byteAt_b22 byA
  rw [h9]
  by_cases q : j < L
  · have e : tdI t 7 2 (Int32.ofNat j) = some (t.2.2.1 7 j) := by
      show (if 2 = 2 ∧ ¬ (Int32.ofNat j < 0 ∨ 1500 ≤ (Int32.ofNat j).toNatClampNeg) then some (t.2.2.1 7 (Int32.ofNat j).toNatClampNeg) else none) = _
      rw [nat_clamp (by omega), if_pos ⟨rfl, fun z => z.elim (i32_nneg (by omega)) (by omega)⟩]
    rw [if_neg (by rw [i32_le (by omega) (by omega)]; omega), e, b1_some, if_pos q]
  · rw [if_pos (by rw [i32_le (by omega) (by omega)]; omega), if_neg q]
theorem y_isL (x : Int32) : t_X6_isLetter E x t = some (bi (isLt x), t) := by
  unfold t_X6_isLetter t_X6_isLetter_b0
  rw [y_inRange, b2_some, bi_if, zgd_bi, b1_some]
  rfl
theorem y_isD (x : Int32) : t_X6_isDigit E x t = some (bi (isDg x), t) := by
  unfold t_X6_isDigit t_X6_isDigit_b0
  rw [y_inRange, b2_some, bi_if, zgd_bi, b1_some]
  rfl
end TW
