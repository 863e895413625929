/-! digits of a number, plainly *(pd: the places e .. 0; dg: as many as there are)* -/
set_option maxRecDepth 100000
def dch (n : Nat) : Int32 := Int32.ofNat (48 + n % 10)
def pd (n : Nat) : Nat → List Int32
  | 0 => [dch n]
  | e + 1 => dch (n / 10 ^ (e + 1)) :: pd n e
def lg : Nat → Nat → Nat
  | 0, _ => 0
  | f + 1, n => if n < 10 then 0 else lg f (n / 10) + 1
def dg (n : Nat) : List Int32 := pd n (lg 30 n)
theorem pd_len (n : Nat) : ∀ e, (pd n e).length = e + 1
  | 0 => rfl
  | e + 1 => by show (pd n e).length + 1 = _; rw [pd_len n e]
theorem pd_snoc (n : Nat) : ∀ e, pd n (e + 1) = pd (n / 10) e ++ [dch n]
  | 0 => by
    show [dch (n / 10 ^ 1), dch n] = [dch (n / 10)] ++ [dch n]
    rw [Nat.pow_one]
    rfl
  | e + 1 => by
    show dch (n / 10 ^ (e + 1 + 1)) :: pd n (e + 1) = (dch (n / 10 / 10 ^ (e + 1)) :: pd (n / 10) e) ++ [dch n]
    rw [pd_snoc n e, Nat.div_div_eq_div_mul, Nat.pow_succ 10 (e + 1), Nat.mul_comm (10 ^ (e + 1)) 10]
    rfl
/-- lg is the first place behind which nothing is left -/
theorem lg_spec : ∀ f n, n < 10 ^ (f + 1) → n / 10 ^ lg f n < 10 ∧ ∀ e, e < lg f n → 10 ≤ n / 10 ^ e
  | 0, n, h => ⟨by show n / 10 ^ 0 < 10; rw [Nat.pow_zero, Nat.div_one]; omega, fun e he => absurd he (Nat.not_lt_zero _)⟩
  | f + 1, n, h => by
    show n / 10 ^ (if n < 10 then 0 else lg f (n / 10) + 1) < 10 ∧ ∀ e, e < (if n < 10 then 0 else lg f (n / 10) + 1) → 10 ≤ n / 10 ^ e
    by_cases w : n < 10
    · rw [if_pos w]
      exact ⟨by rw [Nat.pow_zero, Nat.div_one]; exact w, fun e he => absurd he (Nat.not_lt_zero _)⟩
    · rw [if_neg w]
      obtain ⟨k1, k2⟩ := lg_spec f (n / 10) (by rw [Nat.pow_succ] at h; exact Nat.div_lt_of_lt_mul (by rw [Nat.mul_comm]; exact h))
      refine ⟨?_, fun e he => ?_⟩
      · rw [Nat.pow_succ, Nat.mul_comm, ← Nat.div_div_eq_div_mul]; exact k1
      · cases e with
        | zero => rw [Nat.pow_zero, Nat.div_one]; omega
        | succ e => rw [Nat.pow_succ, Nat.mul_comm, ← Nat.div_div_eq_div_mul]; exact k2 e (by omega)
theorem lg_eq {n e : Nat} (hn : n < 10 ^ 31) (h1 : n / 10 ^ e < 10) (h2 : ∀ d, d < e → 10 ≤ n / 10 ^ d) : lg 30 n = e := by
  obtain ⟨k1, k2⟩ := lg_spec 30 n hn
  rcases Nat.lt_trichotomy (lg 30 n) e with w | w | w
  · have := h2 _ w; omega
  · exact w
  · have := k2 _ w; omega
theorem dg_pd {n e : Nat} (hn : n < 10 ^ 31) (h1 : n / 10 ^ e < 10) (h2 : ∀ d, d < e → 10 ≤ n / 10 ^ d) : dg n = pd n e := by
  unfold dg
  rw [lg_eq hn h1 h2]
theorem dg_1 {n : Nat} (h : n < 10) : dg n = [dch n] := dg_pd (e := 0) (by omega) (by rw [Nat.pow_zero, Nat.div_one]; exact h) (fun d hd => absurd hd (Nat.not_lt_zero _))
theorem dg_s {n : Nat} (h : 10 ≤ n) (hn : n < 10 ^ 31) : dg n = dg (n / 10) ++ [dch n] := by
  obtain ⟨k1, k2⟩ := lg_spec 30 (n / 10) (by omega)
  rw [dg_pd (e := lg 30 (n / 10) + 1) hn (by rw [Nat.pow_succ, Nat.mul_comm, ← Nat.div_div_eq_div_mul]; exact k1) (fun d hd => by
    cases d with
    | zero => rw [Nat.pow_zero, Nat.div_one]; exact h
    | succ d => rw [Nat.pow_succ, Nat.mul_comm, ← Nat.div_div_eq_div_mul]; exact k2 d (by omega)), pd_snoc]
  rfl
theorem dg_2 {n : Nat} (h : 10 ≤ n) (hn : n < 100) : dg n = [dch (n / 10), dch n] := by
  rw [dg_s h (by omega), dg_1 (by omega)]
  rfl
theorem dg_3 {n : Nat} (h : 100 ≤ n) (hn : n < 10 ^ 31) : dg n = dg (n / 100) ++ [dch (n / 10), dch n] := by
  rw [dg_s (by omega) hn, dg_s (by omega) (by omega), List.append_assoc, Nat.div_div_eq_div_mul]
  rfl
theorem dg_len {n i : Nat} (hn : n < 10 ^ 31) (h1 : n < 10 ^ (i + 1)) (h2 : ∀ d, d < i → 10 ^ (d + 1) ≤ n) : (dg n).length = i + 1 := by
  rw [dg_pd (e := i) hn (Nat.div_lt_of_lt_mul (by rw [Nat.pow_succ] at h1; exact h1)) (fun d hd => by
    have := h2 d hd
    rw [Nat.pow_succ] at this
    exact (Nat.le_div_iff_mul_le (Nat.pow_pos (by decide))).mpr (by rw [Nat.mul_comm]; exact this)), pd_len]
theorem dg_le {n e : Nat} (hn : n < 10 ^ (e + 1)) (he : e ≤ 30) : (dg n).length ≤ e + 1 := by
  have h31 : n < 10 ^ 31 := Nat.lt_of_lt_of_le hn (Nat.pow_le_pow_right (by decide) (by omega))
  obtain ⟨k1, k2⟩ := lg_spec 30 n h31
  unfold dg
  rw [pd_len]
  rcases Nat.lt_or_ge e (lg 30 n) with w | w
  · have := k2 e w
    have := Nat.div_lt_of_lt_mul (m := n) (n := 10 ^ e) (k := 10) (by rw [Nat.pow_succ] at hn; exact hn)
    omega
  · omega
theorem dch_lt (n : Nat) : ∃ k, k < 128 ∧ dch n = Int32.ofNat k := ⟨48 + n % 10, by omega, rfl⟩
theorem pd_lt (n : Nat) : ∀ e c, c ∈ pd n e → ∃ k, k < 128 ∧ c = Int32.ofNat k
  | 0, c, h => by
    have : c = dch n := by simpa [pd] using h
    rw [this]; exact dch_lt n
  | e + 1, c, h => by
    have h : c ∈ dch (n / 10 ^ (e + 1)) :: pd n e := h
    rcases List.mem_cons.mp h with w | w
    · rw [w]; exact dch_lt _
    · exact pd_lt n e c w
