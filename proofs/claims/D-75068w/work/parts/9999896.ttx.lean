/-! text of an invoice: the twin -/
set_option maxRecDepth 100000
/-- what the twin has written -/
def TwL (t0 t : twS) (l : List Int32) : Prop := tSc t 7 = Int32.ofNat l.length ∧ (∀ j c, l[j]? = some c → t.2.2.1 6 j = c) ∧ t.1 = t0.1 ∧ t.2.1 = t0.2.1 ∧ (∀ i, i ≠ 6 → t.2.2.1 i = t0.2.2.1 i) ∧ (∀ k, k ≠ 7 → tSc t k = tSc t0 k) ∧ t.2.2.2.2 = t0.2.2.2.2
def lwd (w : Int64) : Nat → List Int32
  | 0 => [32]
  | k + 1 => (if ((w >>> ((Int32.ofNat (5 * k)).toInt64 &&& 63)) &&& (31 : Int64)) ≤ (0 : Int64) then [] else [sbt ((96 : Int32) + (((w >>> ((Int32.ofNat (5 * k)).toInt64 &&& 63)) &&& (31 : Int64)).toInt32))]) ++ lwd w k
section TW
variable {E : zE} {t0 t : twS}
theorem tw_c {l : List Int32} (h : TwL t0 t l) (hl : l.length + 1 ≤ 300) (x : Int32) {c : Int32} (hx : sbt x = c) : ∃ t1, t_X6_append E x t = some ((), t1) ∧ TwL t0 t1 (l ++ [c]) := by
  obtain ⟨h1, h2, h3, h4, h5, h6, h7⟩ := h
  refine ⟨uSc (uAr t 6 (va_up (t.2.2.1 6) l.length c)) 7 (Int32.ofNat (l.length + 1)), ?_, ?_⟩
  · unfold t_X6_append t_X6_append_b0
    have e : tsI t 6 2 (tSc t 7) (sbt x) = some (uAr t 6 (va_up (t.2.2.1 6) l.length c)) := by
      show (if 2 = 2 ∧ ¬ (tSc t 7 < 0 ∨ 300 ≤ (tSc t 7).toNatClampNeg) then some (uAr t 6 (va_up (t.2.2.1 6) (tSc t 7).toNatClampNeg (sbt x))) else none) = _
      rw [h1, nat_clamp (by omega), if_pos ⟨rfl, fun q => q.elim (i32_nneg (by omega)) (by omega)⟩, hx]
    show ((tsI t 6 2 (tSc t 7) (sbt x)).bind fun s5_ => some ((), (uSc s5_ 7 ((tSc s5_ 7) + (1 : Int32))))) = _
    rw [e, b1_some]
    have e2 : tSc (uAr t 6 (va_up (t.2.2.1 6) l.length c)) 7 = Int32.ofNat l.length := h1
    rw [e2, i32_s]
  · refine ⟨?_, fun j d hj => ?_, h3, h4, fun i hi => ?_, fun k hk => ?_, h7⟩
    · rw [List.length_append, tSc_u, if_pos rfl]; rfl
    · show va_up t.2.2.1 6 (va_up (t.2.2.1 6) l.length c) 6 j = d
      rw [cu_same]
      rcases Nat.lt_or_ge j l.length with w | w
      · rw [List.getElem?_append_left w] at hj
        rw [cu_ne _ _ (by omega)]
        exact h2 j d hj
      · rw [List.getElem?_append_right w] at hj
        by_cases e : j = l.length
        · rw [e, Nat.sub_self] at hj
          cases hj
          rw [e]; exact cu_same _ _ _
        · have : j - l.length = (j - l.length - 1) + 1 := by omega
          rw [this] at hj
          cases hj
    · show va_up t.2.2.1 6 _ i = _
      rw [cu_ne _ _ hi]; exact h5 i hi
    · rw [tSc_u, if_neg hk]; exact h6 k hk
theorem lwd_len (w : Int64) : ∀ k, (lwd w k).length ≤ k + 1
  | 0 => Nat.le_refl _
  | k + 1 => by
    unfold lwd
    rw [List.length_append]
    have := lwd_len w k
    split
    · have : ([] : List Int32).length = 0 := rfl
      omega
    · have e : ∀ x : Int32, [x].length = 1 := fun _ => rfl
      rw [e]; omega
theorem tw_word (w : Int64) : ∀ k n (t : twS) (l : List Int32) (p3 : Int32), TwL t0 t l → l.length + k + 1 ≤ 300 → k ≤ 10 → p3 = (if k = 0 then -5 else Int32.ofNat (5 * (k - 1))) → ∃ t1, t_X6_appendWord_l3 E (n + k + 1) w p3 t = some ((), t1) ∧ TwL t0 t1 (l ++ lwd w k)
  | 0, n, t, l, p3, h, hl, _, hp => by
    obtain ⟨t1, e, h1⟩ := tw_c (E := E) h hl 32 (c := 32) rfl
    refine ⟨t1, ?_, h1⟩
    rw [t_X6_appendWord_l3, hp, if_pos rfl, if_pos (by decide), e, b2_some]
  | k + 1, n, t, l, p3, h, hl, hk, hp => by
    rw [if_neg (Nat.succ_ne_zero k), show k + 1 - 1 = k by omega] at hp
    have hs : p3 + (-5) = (if k = 0 then -5 else Int32.ofNat (5 * (k - 1))) := by
      rw [hp]
      have d : ∀ k, k < 10 → Int32.ofNat (5 * k) + (-5) = (if k = 0 then -5 else Int32.ofNat (5 * (k - 1))) := by decide
      exact d k (by omega)
    rw [show n + (k + 1) + 1 = (n + k + 1) + 1 by omega, t_X6_appendWord_l3, if_neg (by rw [hp]; exact i32_nneg (by omega))]
    unfold t_X6_appendWord_b34
    by_cases c : ((w >>> (p3.toInt64 &&& 63)) &&& (31 : Int64)) ≤ (0 : Int64)
    · obtain ⟨t1, e, h1⟩ := tw_word w k n t l (p3 + (-5)) h (by omega) (by omega) hs
      refine ⟨t1, by rw [if_pos c, e], ?_⟩
      unfold lwd
      rw [← hp, if_pos c]
      exact h1
    · obtain ⟨t2, e2, h2⟩ := tw_c (E := E) h (by omega) ((96 : Int32) + (((w >>> (p3.toInt64 &&& 63)) &&& (31 : Int64)).toInt32)) rfl
      obtain ⟨t1, e, h1⟩ := tw_word w k n t2 _ (p3 + (-5)) h2 (by rw [List.length_append]; show l.length + 1 + k + 1 ≤ _; omega) (by omega) hs
      refine ⟨t1, by rw [if_neg c, e2, b2_some, e], ?_⟩
      unfold lwd
      rw [← hp, if_neg c]
      rw [List.append_assoc] at h1
      exact h1
def pnm (i : Nat) : Int64 := [19856929433, 36, 324946957940, 525604, 623950223524, 4773, 2193668197].getD i 0
theorem pnm_w : ∀ i, i < 7 → lwd (pnm i) 10 = lit i ++ [32] := by decide
theorem tw_pn (i : Nat) (hi : i < 7) : t_X6_partName E (Int32.ofNat i) t = some (pnm i, t) := by
  rcases i with _ | _ | _ | _ | _ | _ | _ | i
  · rfl
  · rfl
  · rfl
  · rfl
  · rfl
  · rfl
  · rfl
  · omega
theorem sb_dch (n : Nat) : sbt (dch n) = dch n := by
  obtain ⟨k, h1, h2⟩ := dch_lt n
  exact (c127 h1 h2).1
theorem tw_dig {l : List Int32} (h : TwL t0 t l) (hl : l.length + 1 ≤ 300) {c a : Nat} (hc : c < 2 ^ 63) (ha : a < 2 ^ 63) : ∃ t1, t_X6_append E ((48 : Int32) + (((Int64.ofNat c / Int64.ofNat a) - (Int64.ofNat c / Int64.ofNat a) / (10 : Int64) * (10 : Int64)).toInt32)) t = some ((), t1) ∧ TwL t0 t1 (l ++ [dch (c / a)]) := by
  have hd : c / a ≤ c := Nat.div_le_self c a
  rw [i64_div hc ha]
  generalize c / a = z at hd
  rw [show (10 : Int64) = Int64.ofNat 10 from rfl, i64_mod (by omega) (by decide), i64_32, show (48 : Int32) = Int32.ofNat 48 from rfl, ← Int32.ofNat_add]
  exact tw_c h hl _ (sb_dch z)
theorem zn0_of {a : Nat} (h0 : a ≠ 0) (ha : a < 2 ^ 63) : zn0L (Int64.ofNat a) = some () := by
  unfold zn0L
  rw [if_neg (fun q => by rw [show (0 : Int64) = Int64.ofNat 0 from rfl, i64_eq ha (by decide)] at q; exact h0 q)]
theorem tw_l52 {c : Nat} (hc : c < 2 ^ 63) : ∀ e n (t : twS) (l : List Int32), TwL t0 t l → l.length + e + 4 ≤ 300 → e ≤ 16 → ∃ t1, t_X6_appendAmount_l52 E (n + e + 4) (Int64.ofNat c) (Int64.ofNat (100 * 10 ^ e)) t = some ((), t1) ∧ TwL t0 t1 (l ++ (pd (c / 100) e ++ (46 :: [dch (c / 10), dch c])))
  | 0, n, t, l, h, hl, _ => by
    have p1 : ∀ a, ¬ Int64.ofNat (a + 1) ≤ (0 : Int64) ∨ 2 ^ 63 ≤ a + 1 := fun a => by
      by_cases w : a + 1 < 2 ^ 63
      · refine Or.inl fun q => ?_
        rw [show (0 : Int64) = Int64.ofNat 0 from rfl, i64_le w (by decide)] at q
        omega
      · exact Or.inr (by omega)
    obtain ⟨t1, e1, h1⟩ := tw_dig (E := E) h (by omega) hc (a := 100) (by decide)
    obtain ⟨t2, e2, h2⟩ := tw_c (E := E) h1 (by rw [List.length_append]; show l.length + 1 + 1 ≤ _; omega) 46 (c := 46) rfl
    obtain ⟨t3, e3, h3⟩ := tw_dig (E := E) h2 (by rw [List.length_append, List.length_append]; show l.length + 1 + 1 + 1 ≤ _; omega) hc (a := 10) (by decide)
    obtain ⟨t4, e4, h4⟩ := tw_dig (E := E) h3 (by rw [List.length_append, List.length_append, List.length_append]; show l.length + 1 + 1 + 1 + 1 ≤ _; omega) hc (a := 1) (by decide)
    refine ⟨t4, ?_, ?_⟩
    · unfold t_X6_appendAmount_b90 at *
      rw [show n + 0 + 4 = n + 1 + 1 + 1 + 1 from rfl, show 100 * 10 ^ 0 = 100 from rfl]
      rw [t_X6_appendAmount_l52, if_neg (by decide), zn0_of (by decide) (by decide), b1_some, e1, b2_some, if_pos (by decide), e2, b2_some, t_X6_appendAmount_b90, show (10 : Int64) = Int64.ofNat 10 from rfl, i64_div (by decide) (by decide), show 100 / 10 = 10 from rfl]
      rw [t_X6_appendAmount_l52, if_neg (by decide), zn0_of (by decide) (by decide), b1_some, e3, b2_some, if_neg (by decide), t_X6_appendAmount_b90, show (10 : Int64) = Int64.ofNat 10 from rfl, i64_div (by decide) (by decide), show 10 / 10 = 1 from rfl]
      rw [t_X6_appendAmount_l52, if_neg (by decide), zn0_of (by decide) (by decide), b1_some, e4, b2_some, if_neg (by decide), t_X6_appendAmount_b90, show (10 : Int64) = Int64.ofNat 10 from rfl, i64_div (by decide) (by decide), show 1 / 10 = 0 from rfl]
      rw [t_X6_appendAmount_l52, if_pos (by decide)]
    · rw [Nat.div_one] at h4
      rw [List.append_assoc, List.append_assoc, List.append_assoc] at h4
      exact h4
  | e + 1, n, t, l, h, hl, he => by
    have pw : 100 * 10 ^ (e + 1) ≤ 100 * 10 ^ 16 := Nat.mul_le_mul_left 100 (Nat.pow_le_pow_right (by decide) he)
    have pg : 1000 ≤ 100 * 10 ^ (e + 1) := by
      have : 10 ^ 1 ≤ 10 ^ (e + 1) := Nat.pow_le_pow_right (by decide) (by omega)
      omega
    obtain ⟨t1, e1, h1⟩ := tw_dig (E := E) h (by omega) hc (a := 100 * 10 ^ (e + 1)) (by omega)
    obtain ⟨t2, e2, h2⟩ := tw_l52 hc e n t1 _ h1 (by rw [List.length_append]; show l.length + 1 + e + 4 ≤ _; omega) (by omega)
    have dv : 100 * 10 ^ (e + 1) / 10 = 100 * 10 ^ e := by rw [Nat.pow_succ]; omega
    refine ⟨t2, ?_, ?_⟩
    · rw [show n + (e + 1) + 4 = (n + e + 4) + 1 by omega, t_X6_appendAmount_l52, if_neg (fun q => by rw [show (0 : Int64) = Int64.ofNat 0 from rfl, i64_le (by omega) (by decide)] at q; omega), zn0_of (by omega) (by omega), b1_some, e1, b2_some, if_neg (fun q => by rw [show (100 : Int64) = Int64.ofNat 100 from rfl, i64_eq (by omega) (by decide)] at q; omega), t_X6_appendAmount_b90, show (10 : Int64) = Int64.ofNat 10 from rfl, i64_div (by omega) (by decide), dv]
      exact e2
    · rw [← Nat.div_div_eq_div_mul, List.append_assoc] at h2
      exact h2
theorem tw_l30 {c : Nat} (hc : c < 2 ^ 63) : ∀ f e, e ≤ 16 → 17 < f + e → (∀ d, d < e → 10 ≤ c / 100 / 10 ^ d) → ∃ e', t_X6_appendAmount_l30 E f (Int64.ofNat c) (Int64.ofNat (100 * 10 ^ e)) t = t_X6_appendAmount_l52 E E.1 (Int64.ofNat c) (Int64.ofNat (100 * 10 ^ e')) t ∧ dg (c / 100) = pd (c / 100) e' ∧ e' ≤ 16
  | 0, e, he, hf, _ => by omega
  | f + 1, e, he, hf, hd => by
    have pw : 100 * 10 ^ e ≤ 100 * 10 ^ 16 := Nat.mul_le_mul_left 100 (Nat.pow_le_pow_right (by decide) he)
    have pg : 1 ≤ 10 ^ e := Nat.pow_pos (by decide)
    have hq : c / (100 * 10 ^ e) = c / 100 / 10 ^ e := (Nat.div_div_eq_div_mul c 100 (10 ^ e)).symm
    have hle : c / 100 / 10 ^ e ≤ c / 100 := Nat.div_le_self _ _
    rw [t_X6_appendAmount_l30, zn0_of (by omega) (by omega), b1_some, i64_div hc (by omega), hq, show (9 : Int64) = Int64.ofNat 9 from rfl, show (10 : Int64) = Int64.ofNat 10 from rfl]
    by_cases w : c / 100 / 10 ^ e < 10
    · rw [if_pos ((i64_le (by omega) (by decide)).mpr (by omega))]
      exact ⟨e, rfl, dg_pd (by omega) w hd, he⟩
    · have e16 : e + 1 ≤ 16 := by
        rcases Nat.lt_or_ge e 16 with z | z
        · omega
        · have : e = 16 := by omega
          rw [this] at w
          omega
      rw [if_neg (fun q => by rw [i64_le (by omega) (by decide)] at q; omega), ← Int64.ofNat_mul, show 100 * 10 ^ e * 10 = 100 * 10 ^ (e + 1) by rw [Nat.pow_succ, Nat.mul_assoc]]
      exact tw_l30 hc f (e + 1) e16 (by omega) (fun d h2 => by
        by_cases q : d = e
        · rw [q]; omega
        · exact hd d (by omega))
theorem tw_am (hE : 20000 ≤ E.1) {l : List Int32} (h : TwL t0 t l) (hl : l.length + 22 ≤ 300) {v : Int64} (hv : -9000000000000000000 ≤ v.toInt) : ∃ t1, t_X6_appendAmount E v t = some ((), t1) ∧ TwL t0 t1 (l ++ am v) := by
  have h1 := Int64.toInt_lt v
  generalize hc : v.toInt.natAbs = c at *
  have hcb : c < 2 ^ 63 := by omega
  have ab := abs64 v hv
  rw [hc] at ab
  have key : ∀ (t2 : twS) (l2 : List Int32), TwL t0 t2 l2 → l2.length + 21 ≤ 300 → ∃ t1, t_X6_appendAmount_b24 E (Int64.ofNat c) t2 = some ((), t1) ∧ TwL t0 t1 (l2 ++ (dg (c / 100) ++ (46 :: [dch (c / 10), dch c]))) := fun t2 l2 h2 hl2 => by
    unfold t_X6_appendAmount_b24
    obtain ⟨e', q1, q2, q3⟩ := tw_l30 (E := E) (t := t2) hcb E.1 0 (by decide) (by omega) (fun d hd => absurd hd (Nat.not_lt_zero _))
    rw [show (100 : Int64) = Int64.ofNat (100 * 10 ^ 0) from rfl, q1, q2]
    obtain ⟨t3, e3, h3⟩ := tw_l52 (E := E) hcb e' (E.1 - e' - 4) t2 l2 h2 (by omega) q3
    rw [show E.1 - e' - 4 + e' + 4 = E.1 by omega] at e3
    exact ⟨t3, e3, h3⟩
  have e0 : (0 : Int64).toInt = 0 := rfl
  unfold t_X6_appendAmount t_X6_appendAmount_b0 t_X6_appendAmount_b12 am
  by_cases w : (0 : Int64) ≤ v
  · have w' := Int64.le_iff_toInt_le.mp w
    rw [if_pos w] at ab
    rw [if_pos w, if_pos w, if_pos (by omega), hc, List.nil_append, ab]
    exact key t l h (by omega)
  · have w' : ¬ (0 : Int64).toInt ≤ v.toInt := fun q => w (Int64.le_iff_toInt_le.mpr q)
    rw [if_neg w] at ab
    obtain ⟨t2, e2, h2⟩ := tw_c (E := E) h (by omega) 45 (c := 45) rfl
    obtain ⟨t3, e3, h3⟩ := key t2 _ h2 (by rw [List.length_append]; show l.length + 1 + 21 ≤ _; omega)
    have w2 : ¬ 0 ≤ v.toInt := by omega
    rw [if_neg w, if_neg w2, hc, e2, b2_some, if_neg w, ab]
    rw [List.append_assoc] at h3
    exact ⟨t3, e3, h3⟩
end TW
