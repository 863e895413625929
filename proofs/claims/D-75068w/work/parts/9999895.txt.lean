/-! text of an invoice: what is written, by the component and by the twin -/
set_option maxRecDepth 100000
def litS : List String := ["royalty", "ad", "interest", "paid", "received", "due", "balance", "", "sales", "deliver", "pay", "grant", "campaign", "vote", "close", "plan", "franchisee", "area", "outlet", "credit", "interest", "admin", "fee", "delay", "worth", "yes", "no"]
def lit (i : Nat) : List Int32 := (litS.getD i "").toList.map fun c => Int32.ofNat c.toNat
/-- the literals -/
def Lt (E : zE) (f : Nat → Option zC) : Prop := ∀ i, i < 27 → Str f (E.2.1 i) (lit i)
theorem Lt_mono {E : zE} {f f1 : Nat → Option zC} (h : ∀ b c, f b = some c → f1 b = some c) (k : Lt E f) : Lt E f1 := fun i hi => Str_mono h (k i hi)
/-- an amount's text -/
def am (v : Int64) : List Int32 := (if 0 ≤ v.toInt then [] else [45]) ++ (dg (v.toInt.natAbs / 100) ++ (46 :: [dch (v.toInt.natAbs / 10), dch v.toInt.natAbs]))
def ltx (i : Nat) (v : Int64) : List Int32 := lit i ++ (32 :: am v)
/-- the first k parts -/
def ptx (v : Nat → Int64) : Nat → List Int32
  | 0 => []
  | k + 1 => ptx v k ++ ((if k = 0 then [] else [32]) ++ ltx k (v k))
theorem c127 {c : Int32} {k : Nat} (hk : k < 128) (h : c = Int32.ofNat k) : sbt c = c ∧ ¬ (255 : Int32) < c := by
  have d : ∀ k, k < 128 → sbt (Int32.ofNat k) = Int32.ofNat k ∧ ¬ (255 : Int32) < Int32.ofNat k := by decide
  rw [h]; exact d k hk
def chs (l : List Int32) : Prop := ∀ c, c ∈ l → ∃ k, k < 128 ∧ c = Int32.ofNat k
theorem chs_app {l l1 : List Int32} (h : chs l) (h1 : chs l1) : chs (l ++ l1) := fun c hc => (List.mem_append.mp hc).elim (h c) (h1 c)
theorem chs_cons {c : Int32} {l : List Int32} (h : ∃ k, k < 128 ∧ c = Int32.ofNat k) (h1 : chs l) : chs (c :: l) := fun d hd => by
  rcases List.mem_cons.mp hd with w | w
  · rw [w]; exact h
  · exact h1 d w
theorem chs_nil : chs [] := fun c hc => absurd hc List.not_mem_nil
theorem lit_chs : ∀ i, i < 27 → chs (lit i) ∧ (lit i).length ≤ 10 := by
  have d : ∀ i, i < 27 → ((lit i).all fun c => 0 ≤ c && c < 128) = true ∧ (lit i).length ≤ 10 := by decide
  intro i hi
  refine ⟨fun c hc => ?_, (d i hi).2⟩
  have k := List.all_eq_true.mp (d i hi).1 c hc
  rw [Bool.and_eq_true, decide_eq_true_eq, decide_eq_true_eq] at k
  have k1 := Int32.le_iff_toInt_le.mp k.1
  have k2 := Int32.lt_iff_toInt_lt.mp k.2
  have e1 : (0 : Int32).toInt = 0 := by decide
  have e2 : (128 : Int32).toInt = 128 := by decide
  refine ⟨c.toInt.toNat, by omega, ?_⟩
  rw [← Int32.toInt_inj, i32_toInt (by omega)]
  omega
theorem dg_chs (n : Nat) : chs (dg n) := fun c hc => pd_lt n _ c hc
theorem am_chs (v : Int64) : chs (am v) := by
  unfold am
  refine chs_app ?_ (chs_app (dg_chs _) (chs_cons ⟨46, by decide, rfl⟩ (chs_cons (dch_lt _) (chs_cons (dch_lt _) chs_nil))))
  by_cases h : 0 ≤ v.toInt
  · rw [if_pos h]; exact chs_nil
  · rw [if_neg h]; exact chs_cons ⟨45, by decide, rfl⟩ chs_nil
theorem am_len (v : Int64) : (am v).length ≤ 21 := by
  have h1 := Int64.toInt_lt v
  have h2 := Int64.le_toInt v
  have h3 := dg_le (n := v.toInt.natAbs / 100) (e := 16) (by omega) (by decide)
  unfold am
  rw [List.length_append, List.length_append]
  have h4 : (46 :: [dch (v.toInt.natAbs / 10), dch v.toInt.natAbs]).length = 3 := rfl
  by_cases h : 0 ≤ v.toInt
  · rw [if_pos h]
    have : ([] : List Int32).length = 0 := rfl
    omega
  · rw [if_neg h]
    have : [(45 : Int32)].length = 1 := rfl
    omega
theorem ltx_len (i : Nat) (hi : i < 27) (v : Int64) : (ltx i v).length ≤ 32 := by
  have h1 := (lit_chs i hi).2
  have h2 := am_len v
  unfold ltx
  rw [List.length_append, List.length_cons]
  omega
theorem ptx_len (v : Nat → Int64) : ∀ k, k ≤ 7 → (ptx v k).length ≤ 33 * k
  | 0, _ => Nat.le_refl _
  | k + 1, hk => by
    have h1 := ptx_len v k (by omega)
    have h2 := ltx_len k (by omega) (v k)
    show (ptx v k ++ ((if k = 0 then [] else [32]) ++ ltx k (v k))).length ≤ _
    rw [List.length_append, List.length_append]
    have h3 : (if k = 0 then [] else [(32 : Int32)]).length ≤ 1 := by split <;> decide
    omega
theorem ptx_0 (v : Nat → Int64) {k : Nat} : (ptx v k).length = 0 ↔ k = 0 := by
  cases k with
  | zero => exact ⟨fun _ => rfl, fun _ => rfl⟩
  | succ k =>
    refine ⟨fun h => ?_, fun h => absurd h (Nat.succ_ne_zero _)⟩
    have h : (ptx v k ++ ((if k = 0 then [] else [32]) ++ (lit k ++ (32 :: am (v k))))).length = 0 := h
    rw [List.length_append, List.length_append, List.length_append, List.length_cons] at h
    omega
/-! ## the component -/
def FX (p0 : cP) (g0 : zH) (s0 : cT) (p : cP) (s : cT) (g : zH) (l : List Int32) : Prop := ∃ r cap k m, Tr p0 g0 p s g k m ∧ Sb s 24 r l.length cap ∧ (∀ j c, l[j]? = some c → s.2.1 r j = c) ∧ (r = 25 ∧ k = 0 ∧ m = 0 ∧ (s.1 103).1 = 0 ∧ 160 ≤ cap ∧ cap ≤ 200 ∨ r = 103 ∧ k ≤ 1 ∧ m ≤ 1000 ∧ 300 ≤ cap ∧ cap ≤ 1000) ∧ (∀ d, d ≠ 103 → d ≠ 25 → d ≠ 24 → p.1 d = p0.1 d ∧ s.1 d = s0.1 d ∧ s.2.1 d = s0.2.1 d ∧ s.2.2.1 d = s0.2.2.1 d ∧ s.2.2.2 d = s0.2.2.2 d) ∧ p.1 24 = p0.1 24
section SB
variable {p0 : cP} {g0 : zH} {s0 : cT} {p : cP} {s : cT} {g : zH} {E : zE}
theorem FX_go {l l2 : List Int32} {p1 : cP} {s1 : cT} {g1 : zH} {r cap k m r1 cap1 : Nat} (hr : r = 25 ∧ k = 0 ∧ m = 0 ∧ (s.1 103).1 = 0 ∧ 160 ≤ cap ∧ cap ≤ 200 ∨ r = 103 ∧ k ≤ 1 ∧ m ≤ 1000 ∧ 300 ≤ cap ∧ cap ≤ 1000) (hl : l.length + l2.length ≤ 300) (hb : ∀ j c, l[j]? = some c → s.2.1 r j = c) (hf : ∀ d, d ≠ 103 → d ≠ 25 → d ≠ 24 → p.1 d = p0.1 d ∧ s.1 d = s0.1 d ∧ s.2.1 d = s0.2.1 d ∧ s.2.2.1 d = s0.2.2.1 d ∧ s.2.2.2 d = s0.2.2.2 d) (h24 : p.1 24 = p0.1 24)
    (h1 : ∃ p2 s2 g2, sbG p0 g0 p s r 103 cap (l.length + l2.length) k m p2 s2 g2 r1 cap1 ∧ p1 = p2 ∧ s1.1 = s2.1 ∧ g1 = g2 ∧ ∀ k1 m1, Tr p0 g0 p2 s2 g2 k1 m1 → Tr p0 g0 p1 s1 g1 k1 m1) (h2 : Sb s1 24 r1 (l.length + l2.length) cap1) (h3 : ∀ j, j < l.length → s1.2.1 r1 j = s.2.1 r j) (h4 : ∀ j c, l2[j]? = some c → s1.2.1 r1 (l.length + j) = c) (h5 : ∀ d, d ≠ 103 → d ≠ r → d ≠ 24 → p1.1 d = p.1 d ∧ s1.1 d = s.1 d ∧ s1.2.1 d = s.2.1 d ∧ s1.2.2.1 d = s.2.2.1 d ∧ s1.2.2.2 d = s.2.2.2 d) (h6 : p1.1 24 = p.1 24) : FX p0 g0 s0 p1 s1 g1 (l ++ l2) := by
  obtain ⟨p2, s2, g2, G, e1, e2, e3, TT⟩ := h1
  have hby : ∀ j c, (l ++ l2)[j]? = some c → s1.2.1 r1 j = c := fun j c hj => by
    rcases Nat.lt_or_ge j l.length with w | w
    · rw [List.getElem?_append_left w] at hj
      rw [h3 j w]
      exact hb j c hj
    · rw [List.getElem?_append_right w] at hj
      have := h4 _ c hj
      rw [show l.length + (j - l.length) = j by omega] at this
      exact this
  have hfr : ∀ d, d ≠ 103 → d ≠ 25 → d ≠ 24 → p1.1 d = p0.1 d ∧ s1.1 d = s0.1 d ∧ s1.2.1 d = s0.2.1 d ∧ s1.2.2.1 d = s0.2.2.1 d ∧ s1.2.2.2 d = s0.2.2.2 d := fun d d1 d2 d3 => by
    have x := h5 d d1 (by rcases hr with ⟨w, _⟩ | ⟨w, _⟩ <;> omega) d3
    have y := hf d d1 d2 d3
    exact ⟨x.1.trans y.1, x.2.1.trans y.2.1, x.2.2.1.trans y.2.2.1, x.2.2.2.1.trans y.2.2.2.1, x.2.2.2.2.trans y.2.2.2.2⟩
  have hS : Sb s1 24 r1 (l ++ l2).length cap1 := by rw [List.length_append]; exact h2
  rcases G with ⟨a1, a2, a3, a4, a5⟩ | ⟨a1, a2, a3, a4, a5⟩
  · refine ⟨r1, cap1, k, m, TT _ _ a5, hS, hby, ?_, hfr, h6.trans h24⟩
    rcases hr with ⟨b1, b2, b3, b4, b5⟩ | ⟨b1, b2⟩
    · exact Or.inl ⟨a1.trans b1, b2, b3, by rw [e2, a4]; exact b4, by omega⟩
    · exact Or.inr ⟨a1.trans b1, by omega⟩
  · refine ⟨r1, cap1, k + 1, m + cap1, TT _ _ a5, hS, hby, ?_, hfr, h6.trans h24⟩
    rcases hr with ⟨b1, b2, b3, b4, b5⟩ | ⟨b1, b2⟩
    · exact Or.inr ⟨a1, by omega⟩
    · omega
theorem FX_c (hr : rm g0 10 5000) {l : List Int32} (h : FX p0 g0 s0 p s g l) (hl : l.length + 1 ≤ 300) {c : Int32} (hc : ∃ k, k < 128 ∧ c = Int32.ofNat k) : ∃ p1 s1 g1, f_J8_append_3 E (p.1 24) c (cH p s g) = some (p1.1 24, cH p1 s1 g1) ∧ FX p0 g0 s0 p1 s1 g1 (l ++ [c]) := by
  obtain ⟨r, cap, k, m, T, hS, hb, hrr, hf, h24⟩ := h
  obtain ⟨kk, k1, k2⟩ := hc
  obtain ⟨q1, q2⟩ := c127 k1 k2
  have XTv : XT = 1000000 := rfl
  obtain ⟨p1, s1, g1, r1, cap1, e, x1, x2, x3, x4, x5, x6⟩ := sb_app (E := E) (r' := 103) T hr hS (by omega) (fun w => by rcases hrr with z | z; exact z.2.2.2.1; omega) (by omega) (by decide) (by omega) (by omega) (by omega) (by omega) q2
  refine ⟨p1, s1, g1, by rw [e, x6], FX_go (l2 := [c]) hrr hl hb hf h24 x1 x2 x3 (fun j d hj => ?_) x5 x6⟩
  cases j with
  | zero => cases hj; rw [Nat.add_zero, x4, q1]
  | succ j => cases hj
theorem FX_S (hr : rm g0 10 5000) {l l2 : List Int32} (h : FX p0 g0 s0 p s g l) (hl : l.length + l2.length ≤ 300) {v : Nat} (hv : Str (rv0 p0 g0) v l2) : ∃ p1 s1 g1, f_J8_append E (p.1 24) v (cH p s g) = some (p1.1 24, cH p1 s1 g1) ∧ FX p0 g0 s0 p1 s1 g1 (l ++ l2) := by
  obtain ⟨r, cap, k, m, T, hS, hb, hrr, hf, h24⟩ := h
  have XTv : XT = 1000000 := rfl
  obtain ⟨p1, s1, g1, r1, cap1, e, x1, x2, x3, x4, x5, x6⟩ := sb_apS (E := E) (r' := 103) T hr hS (by omega) (l := l2) (fun w => by rcases hrr with z | z; exact z.2.2.2.1; omega) (by omega) (by decide) (by omega) (by omega) (by omega) (by omega) hv
  exact ⟨p1, s1, g1, by rw [e, x6], FX_go hrr hl hb hf h24 x1 x2 x3 x4 x5 x6⟩
theorem FX_N (hE : 20000 ≤ E.1) (hD : Dgs E (rv0 p0 g0)) (hr : rm g0 10 5000) {l : List Int32} (h : FX p0 g0 s0 p s g l) {n : Nat} (hn : n < 10 ^ 18) (hl : l.length + (dg n).length ≤ 300) : ∃ p1 s1 g1, f_J8_append_4 E (p.1 24) (Int64.ofNat n) (cH p s g) = some (p1.1 24, cH p1 s1 g1) ∧ FX p0 g0 s0 p1 s1 g1 (l ++ dg n) := by
  obtain ⟨r, cap, k, m, T, hS, hb, hrr, hf, h24⟩ := h
  have XTv : XT = 1000000 := rfl
  obtain ⟨p1, s1, g1, r1, cap1, e, x1, x2, x3, x4, x5, x6⟩ := sb_apN hE (r' := 103) T hr hS (by omega) hn (fun w => by rcases hrr with z | z; exact z.2.2.2.1; omega) (by omega) (by decide) (by omega) (by omega) (by omega) (by omega) hD
  exact ⟨p1, s1, g1, by rw [e, x6], FX_go hrr hl hb hf h24 x1 x2 x3 x4 x5 x6⟩
theorem FX_ck {l : List Int32} (h : FX p0 g0 s0 p s g l) : cko (cH p s g) (p.1 24) 18 = some () ∧ f_J8_length E (p.1 24) (cH p s g) = some (Int32.ofNat l.length, cH p s g) := by
  obtain ⟨r, cap, k, m, T, hS, _⟩ := h
  exact ⟨c_cko T.1.1 hS.1, sb_len T.1.1 hS⟩
theorem FX_1 (hx : s0.1 1 = (1, 0) ∧ s0.2.2.2 1 5 = some 24) {l : List Int32} (h : FX p0 g0 s0 p s g l) : gR (cH p s g) (p0.1 1) 0 5 = some (p.1 24) := by
  obtain ⟨r, cap, k, m, T, hS, hb, hrr, hf, h24⟩ := h
  have x := hf 1 (by decide) (by decide) (by decide)
  rw [← x.1]
  exact c_gR T.1.1 (x.2.1.trans hx.1) rfl ((congrFun x.2.2.2.2 5).trans hx.2)
theorem abs64 (v : Int64) (h : -9000000000000000000 ≤ v.toInt) : (if (0 : Int64) ≤ v then v else -v) = Int64.ofNat v.toInt.natAbs := by
  have h1 := Int64.toInt_lt v
  rw [← Int64.toInt_inj, Int64.toInt_ofNat_of_lt (by omega)]
  by_cases w : (0 : Int64) ≤ v
  · rw [if_pos w]
    have := Int64.le_iff_toInt_le.mp w
    have e : (0 : Int64).toInt = 0 := rfl
    omega
  · rw [if_neg w, Int64.toInt_neg]
    have : ¬ (0 : Int64).toInt ≤ v.toInt := fun q => w (Int64.le_iff_toInt_le.mpr q)
    have e : (0 : Int64).toInt = 0 := rfl
    rw [Int.bmod_eq_of_le (by omega) (by omega)]
    omega
theorem i64_div {a b : Nat} (ha : a < 2 ^ 63) (hb : b < 2 ^ 63) : Int64.ofNat a / Int64.ofNat b = Int64.ofNat (a / b) := by
  have e : ((a : Int).tdiv (b : Int)) = ((a / b : Nat) : Int) := by
    rw [Int.tdiv_eq_ediv_of_nonneg (by omega)]
    rfl
  have hd : a / b ≤ a := Nat.div_le_self a b
  rw [← Int64.toInt_inj, Int64.toInt_div, Int64.toInt_ofNat_of_lt ha, Int64.toInt_ofNat_of_lt hb, e]
  generalize a / b = z at hd
  rw [Int64.toInt_ofNat_of_lt (by omega), Int.bmod_eq_of_le (by omega) (by omega)]
theorem i64_sub {a b : Nat} (hb : b ≤ a) (ha : a < 2 ^ 63) : Int64.ofNat a - Int64.ofNat b = Int64.ofNat (a - b) := by
  rw [← Int64.toInt_inj, Int64.toInt_sub, Int64.toInt_ofNat_of_lt ha, Int64.toInt_ofNat_of_lt (by omega), Int64.toInt_ofNat_of_lt (by omega), Int.bmod_eq_of_le (by omega) (by omega)]
  omega
theorem i64_mod {a b : Nat} (ha : a < 2 ^ 63) (hb : b < 2 ^ 63) : Int64.ofNat a - Int64.ofNat a / Int64.ofNat b * Int64.ofNat b = Int64.ofNat (a % b) := by
  have k := Nat.div_add_mod a b
  have k2 : a / b * b ≤ a := Nat.div_mul_le_self a b
  rw [i64_div ha hb, ← Int64.ofNat_mul, i64_sub k2 ha]
  congr 1
  rw [Nat.mul_comm] at k
  omega
/-- one line -/
theorem f_line (hE : 20000 ≤ E.1) (hD : Dgs E (rv0 p0 g0)) (hL : Lt E (rv0 p0 g0)) (hr : rm g0 10 5000) (hx : s0.1 1 = (1, 0) ∧ s0.2.2.2 1 5 = some 24) {v : Nat → Int64} {i : Nat} (hi : i < 7) (h : FX p0 g0 s0 p s g (ptx v i)) (hv : -9000000000000000000 ≤ (v i).toInt) : ∃ p1 s1 g1, f_X1_format E (p0.1 1) (E.2.1 i) (v i) (cH p s g) = some ((), cH p1 s1 g1) ∧ FX p0 g0 s0 p1 s1 g1 (ptx v (i + 1)) := by
  have hlen := ptx_len v i (by omega)
  have hn := lit_chs i (by omega)
  have ha := am_len (v i)
  have h1 := Int64.toInt_lt (v i)
  -- the blank
  have s1 : ∃ p1 s1 g1, FX p0 g0 s0 p1 s1 g1 (ptx v i ++ (if i = 0 then [] else [32])) ∧ f_X1_format E (p0.1 1) (E.2.1 i) (v i) (cH p s g) = f_X1_format_b20 E (p0.1 1) (E.2.1 i) (v i) (cH p1 s1 g1) := by
    obtain ⟨c1, c2⟩ := FX_ck (E := E) h
    by_cases w : i = 0
    · refine ⟨p, s, g, by rw [if_pos w, List.append_nil]; exact h, ?_⟩
      unfold f_X1_format f_X1_format_b0
      rw [FX_1 hx h, b1_some, c1, b1_some, c2, b2_some, if_pos (by rw [(ptx_0 v).mpr w]; decide)]
    · obtain ⟨p1, s1, g1, e1, h2⟩ := FX_c (E := E) hr h (by omega) (c := 32) ⟨32, by decide, rfl⟩
      refine ⟨p1, s1, g1, by rw [if_neg w]; exact h2, ?_⟩
      unfold f_X1_format f_X1_format_b0
      have c3 : ¬ Int32.ofNat (ptx v i).length ≤ 0 := fun q => by
        rw [show (0 : Int32) = Int32.ofNat 0 from rfl, i32_le (by omega) (by decide)] at q
        exact w ((ptx_0 v).mp (by omega))
      rw [FX_1 hx h, b1_some, c1, b1_some, c2, b2_some, if_neg c3, FX_1 hx h, b1_some, c1, b1_some, e1, b2_some]
  obtain ⟨p1, s1, g1, h2, e1⟩ := s1
  generalize hl1 : ptx v i ++ (if i = 0 then [] else [32]) = l1 at h2
  have n1 : l1.length ≤ 33 * i + 1 := by
    rw [← hl1, List.length_append]
    have h3 : (if i = 0 then [] else [(32 : Int32)]).length ≤ 1 := by split <;> decide
    omega
  obtain ⟨p2, s2, g2, e2, h3⟩ := FX_S (E := E) hr h2 (by omega) (hL i (by omega))
  have n2 : (l1 ++ lit i).length ≤ 33 * i + 11 := by rw [List.length_append]; omega
  obtain ⟨p3, s3, g3, e3, h4⟩ := FX_c (E := E) hr h3 (by omega) (c := 32) ⟨32, by decide, rfl⟩
  have n3 : (l1 ++ lit i ++ [32]).length ≤ 33 * i + 12 := by
    rw [List.length_append]
    have : [(32 : Int32)].length = 1 := rfl
    omega
  -- the sign
  have s4 : ∃ p4 s4 g4, FX p0 g0 s0 p4 s4 g4 (l1 ++ lit i ++ [32] ++ (if 0 ≤ (v i).toInt then [] else [45])) ∧ f_X1_format_b20 E (p0.1 1) (E.2.1 i) (v i) (cH p1 s1 g1) = f_X1_format_b50 E (p0.1 1) (v i) (cH p4 s4 g4) := by
    have e0 : (0 : Int64).toInt = 0 := rfl
    by_cases w : (0 : Int64) ≤ v i
    · have w' := Int64.le_iff_toInt_le.mp w
      refine ⟨p3, s3, g3, by rw [if_pos (by omega), List.append_nil]; exact h4, ?_⟩
      unfold f_X1_format_b20
      rw [FX_1 hx h2, b1_some, (FX_ck (E := E) h2).1, b1_some, e2, b2_some, (FX_ck (E := E) h3).1, b1_some, e3, b2_some, if_pos w]
    · have w' : ¬ (0 : Int64).toInt ≤ (v i).toInt := fun q => w (Int64.le_iff_toInt_le.mpr q)
      obtain ⟨p4, s4, g4, e4, h5⟩ := FX_c (E := E) hr h4 (by omega) (c := 45) ⟨45, by decide, rfl⟩
      refine ⟨p4, s4, g4, by rw [if_neg (by omega)]; exact h5, ?_⟩
      unfold f_X1_format_b20
      rw [FX_1 hx h2, b1_some, (FX_ck (E := E) h2).1, b1_some, e2, b2_some, (FX_ck (E := E) h3).1, b1_some, e3, b2_some, if_neg w, FX_1 hx h4, b1_some, (FX_ck (E := E) h4).1, b1_some, e4, b2_some]
  obtain ⟨p4, s4, g4, h5, e4⟩ := s4
  generalize hl4 : l1 ++ lit i ++ [32] ++ (if 0 ≤ (v i).toInt then [] else [45]) = l4 at h5
  have n4 : l4.length ≤ 33 * i + 13 := by
    rw [← hl4, List.length_append]
    have h3 : (if 0 ≤ (v i).toInt then [] else [(45 : Int32)]).length ≤ 1 := by split <;> decide
    omega
  generalize hc : (v i).toInt.natAbs = c at *
  have hcb : c < 10 ^ 19 := by omega
  have d1 := dg_le (n := c / 100) (e := 16) (by omega) (by decide)
  obtain ⟨p5, s5, g5, e5, h6⟩ := FX_N hE hD hr h5 (n := c / 100) (by omega) (by omega)
  have n5 : (l4 ++ dg (c / 100)).length ≤ 33 * i + 30 := by rw [List.length_append]; omega
  obtain ⟨p6, s6, g6, e6, h7⟩ := FX_c (E := E) hr h6 (by omega) (c := 46) ⟨46, by decide, rfl⟩
  have n6 : (l4 ++ dg (c / 100) ++ [46]).length ≤ 33 * i + 31 := by
    rw [List.length_append]
    have : [(46 : Int32)].length = 1 := rfl
    omega
  have d2 : dg (c % 100 / 10) = [dch (c / 10)] := by
    rw [dg_1 (by omega)]
    exact congrArg (fun z => [Int32.ofNat (48 + z)]) (by omega)
  have d3 : dg (c % 10) = [dch c] := by
    rw [dg_1 (by omega)]
    exact congrArg (fun z => [Int32.ofNat (48 + z)]) (by omega)
  obtain ⟨p7, s7, g7, e7, h8⟩ := FX_N hE hD hr h7 (n := c % 100 / 10) (by omega) (by rw [d2]; show _ + 1 ≤ _; omega)
  have n7 : (l4 ++ dg (c / 100) ++ [46] ++ dg (c % 100 / 10)).length ≤ 33 * i + 32 := by
    rw [List.length_append, d2]
    show _ + 1 ≤ _
    omega
  obtain ⟨p8, s8, g8, e8, h9⟩ := FX_N hE hD hr h8 (n := c % 10) (by omega) (by rw [d3]; show _ + 1 ≤ _; omega)
  refine ⟨p8, s8, g8, ?_, ?_⟩
  · rw [e1, e4]
    unfold f_X1_format_b50
    have ab : f_J12_abs_2 E (v i) (cH p4 s4 g4) = some (Int64.ofNat c, cH p4 s4 g4) := by
      rw [← hc, ← abs64 (v i) hv]
      unfold f_J12_abs_2 f_J12_abs_2_b0 f_J12_abs_2_b12
      split <;> rfl
    rw [ab, b2_some, FX_1 hx h5, b1_some, (FX_ck (E := E) h5).1, b1_some, show (100 : Int64) = Int64.ofNat 100 from rfl, show (10 : Int64) = Int64.ofNat 10 from rfl, i64_mod (by omega) (by decide), i64_mod (by omega) (by decide), i64_div (by omega) (by decide), i64_div (by omega) (by decide), e5, b2_some, (FX_ck (E := E) h6).1, b1_some, e6, b2_some, (FX_ck (E := E) h7).1, b1_some, e7, b2_some, (FX_ck (E := E) h8).1, b1_some, e8, b2_some]
  · have : l4 ++ dg (c / 100) ++ [46] ++ dg (c % 100 / 10) ++ dg (c % 10) = ptx v (i + 1) := by
      show _ = ptx v i ++ ((if i = 0 then [] else [32]) ++ (lit i ++ (32 :: ((if 0 ≤ (v i).toInt then [] else [45]) ++ (dg ((v i).toInt.natAbs / 100) ++ (46 :: [dch ((v i).toInt.natAbs / 10), dch (v i).toInt.natAbs]))))))
      rw [d2, d3, hc, ← hl4, ← hl1]
      simp only [List.append_assoc, List.cons_append, List.nil_append]
    rw [← this]
    exact h9
end SB
