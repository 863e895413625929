/-! closing a month: the twin's loops, against the component's tables -/
set_option maxRecDepth 100000
section CG
variable {s s1 : cT} {o nf no mo np : Nat} {nt : Nat → Nat} {t t1 : Nat → Int64}
theorem RB_cg2 (h : RB s o nf no mo t) (hb : nf ≤ 8 ∧ no ≤ 16) (hI : ∀ c, c < o + 200 → s1.2.1 c = s.2.1 c ∧ s1.2.2.1 c = s.2.2.1 c) (hR : ∀ f m, f < nf → m < mo → s1.2.2.2 (o + 150 + f) m = s.2.2.2 (o + 150 + f) m) (he : ∀ f m e, f < nf → m < mo → s.2.2.2 (o + 150 + f) m = some e → s.1 e = (3, 7) → s1.1 e = (3, 7) ∧ s1.2.2.1 e = s.2.2.1 e) : RB s1 o nf no mo t := by
  obtain ⟨⟨a1, a2, a3, a4⟩, hF, hO, hC, hS, hD, hRe, hIv⟩ := h
  refine ⟨⟨a1, by rw [(hI (o + 10) (by omega)).1]; exact a2, a3, a4⟩, fun j hj => frR_cg (hF j hj) (hI _ (by omega)) (hI _ (by omega)) (fun _ _ => rfl), fun k hk => ouR_cg (hO k hk) (hI _ (by omega)) (fun _ _ => rfl), fun c hc => by rw [(hI (o + 16) (by omega)).1]; exact hC c hc, fun k hk => by rw [(hI (o + 20) (by omega)).2]; exact hS k hk, fun f hf g hg => by rw [(hI (o + 190 + f) (by omega)).2]; exact hD f hf g hg, fun f hf m hm => by rw [(hI (o + 160 + f) (by omega)).2]; exact hRe f hf m hm, fun f hf m hm => ?_⟩
  obtain ⟨e, e1, e2, e3⟩ := hIv f hf m hm
  have q := he f m e hf hm e1 e2
  exact ⟨e, (hR f m hf hm).trans e1, q.1, fun k hk => by rw [q.2]; exact e3 k hk⟩
/-- the columns of the month that is not closed are free -/
theorem RB_mo (h : RB s o nf no mo t) (hb : nf ≤ 8 ∧ no ≤ 16) (hm : mo < 60) (ht : ∀ y, y < 1214 + 8 * mo ∨ 1222 + 8 * mo ≤ y → y < 1694 + 56 * mo ∨ 1750 + 56 * mo ≤ y → t1 y = t y) : RB s o nf no mo t1 := by
  obtain ⟨⟨a1, a2, a3, a4⟩, hF, hO, hC, hS, hD, hRe, hIv⟩ := h
  refine ⟨⟨by rw [ht 0 (by omega) (by omega)]; exact a1, a2, by rw [ht 2 (by omega) (by omega)]; exact a3, by rw [ht 3 (by omega) (by omega)]; exact a4⟩, fun j hj => frR_cg (hF j hj) ⟨rfl, rfl⟩ ⟨rfl, rfl⟩ (fun x hx => ht _ (by omega) (by omega)), fun k hk => ouR_cg (hO k hk) ⟨rfl, rfl⟩ (fun x hx => ht _ (by omega) (by omega)), fun c hc => by rw [ht _ (by omega) (by omega)]; exact hC c hc, fun k hk => by rw [ht _ (by omega) (by omega)]; exact hS k hk, fun f hf g hg => by rw [ht _ (by omega) (by omega)]; exact hD f hf g hg, fun f hf m hm => by rw [ht _ (by omega) (by omega)]; exact hRe f hf m hm, fun f hf m hm => ?_⟩
  obtain ⟨e, e1, e2, e3⟩ := hIv f hf m hm
  exact ⟨e, e1, e2, fun k hk => by rw [ht _ (by omega) (by omega)]; exact e3 k hk⟩
theorem RR_cg (h : RR s np nt t) (h4 : np ≤ 4) (hC : ∀ c, c < 200 → c ≠ 22 → s1.2.1 c = s.2.1 c ∧ s1.2.2.1 c = s.2.2.1 c) (ht : ∀ y, y = 1 ∨ 4 ≤ y ∧ y < 11 ∨ 14 ≤ y ∧ y < 58 → t1 y = t y) : RR s1 np nt t1 := by
  obtain ⟨⟨a1, a2, a3, a4, a5, a6, a7, a8⟩, hp⟩ := h
  refine ⟨⟨by rw [ht _ (by omega)]; exact a1, by rw [ht _ (by omega), (hC 7 (by decide) (by decide)).1]; exact a2, by rw [ht _ (by omega), (hC 2 (by decide) (by decide)).2]; exact a3, by rw [ht _ (by omega), (hC 8 (by decide) (by decide)).1]; exact a4, by rw [ht _ (by omega), (hC 9 (by decide) (by decide)).1]; exact a5, by rw [ht _ (by omega), (hC 2 (by decide) (by decide)).2]; exact a6, by rw [ht _ (by omega), (hC 2 (by decide) (by decide)).1]; exact a7, by rw [ht _ (by omega), (hC 2 (by decide) (by decide)).1]; exact a8⟩, fun i hi => ?_⟩
  obtain ⟨b1, b2, b3, b4, b5, b6⟩ := hp i hi
  refine ⟨by rw [ht _ (by omega), (hC (40 + i) (by omega) (by omega)).1]; exact b1, by rw [ht _ (by omega), (hC (70 + 8 * i + 0) (by omega) (by omega)).1]; exact b2, by rw [(hC (70 + 8 * i + 0) (by omega) (by omega)).2]; exact b3, b4, by rw [ht _ (by omega)]; exact b5, fun j hj => ⟨?_, ?_⟩⟩
  · rw [ht _ (by omega), (hC (70 + 8 * i + (j + 1)) (by omega) (by omega)).2]; exact (b6 j hj).1
  · rw [ht _ (by omega), (hC (70 + 8 * i + (j + 1)) (by omega) (by omega)).1]; exact (b6 j hj).2
theorem IR_cg (h : IR t np) (h4 : np ≤ 4) (ht : ∀ y, y = 1 ∨ 4 ≤ y ∧ y < 11 ∨ 14 ≤ y ∧ y < 58 → t1 y = t y) : IR t1 np := by
  obtain ⟨a1, a2, a3, a4, a5, a6, a7, hp⟩ := h
  refine ⟨by rw [ht _ (by omega)]; exact a1, by rw [ht _ (by omega)]; exact a2, by rw [ht _ (by omega)]; exact a3, by rw [ht _ (by omega)]; exact a4, by rw [ht _ (by omega)]; exact a5, by rw [ht _ (by omega)]; exact a6, by rw [ht _ (by omega)]; exact a7, fun i hi => ⟨by rw [ht _ (by omega)]; exact (hp i hi).1, fun j hj => by rw [ht _ (by omega)]; exact (hp i hi).2 j hj⟩⟩
end CG
section TI
variable {E : zE} {t : twS}
theorem y_rcs {mo j : Nat} (hm : mo < 60) (hj : j < 8) (v : Int64) : tsL t 1 ((1214 : Int32) + (8 : Int32) * Int32.ofNat mo + Int32.ofNat j) v = some (uSt t (va_up t.1 (1214 + 8 * mo + j) v)) := by
  show tsL t 1 (Int32.ofNat 1214 + Int32.ofNat 8 * Int32.ofNat mo + Int32.ofNat j) v = _
  rw [← Int32.ofNat_mul, ← Int32.ofNat_add, ← Int32.ofNat_add, y_s (by omega)]
theorem y_ivr (mo j : Nat) : t_X6_invoiceRow E (Int32.ofNat j) (Int32.ofNat mo) t = some (Int32.ofNat (1694 + 7 * (8 * mo + j)), t) := by
  show some (Int32.ofNat 1694 + Int32.ofNat 7 * (Int32.ofNat 8 * Int32.ofNat mo + Int32.ofNat j), t) = _
  rw [← Int32.ofNat_mul, ← Int32.ofNat_add, ← Int32.ofNat_mul, ← Int32.ofNat_add]
theorem y_rws {mo j q : Nat} (hm : mo < 60) (hj : j < 8) (hq : q < 7) (v : Int64) : tsL t 1 (Int32.ofNat (1694 + 7 * (8 * mo + j)) + Int32.ofNat q) v = some (uSt t (va_up t.1 (1694 + 7 * (8 * mo + j) + q) v)) := by
  rw [← Int32.ofNat_add, y_s (by omega)]
theorem ya_q {q : Nat} (hq : q < 7) : tdL t 5 (Int32.ofNat q) = some (t.2.1 q) := by
  show (if ¬ (Int32.ofNat q < 0 ∨ 7 ≤ (Int32.ofNat q).toNatClampNeg) then some (t.2.1 (Int32.ofNat q).toNatClampNeg) else none) = _
  rw [nat_clamp (by omega), if_pos (fun h => h.elim (i32_nneg (by omega)) (by omega))]
theorem y_b162 {k32 : Int32 → Int64 → Int32 → twS → Option (Int32 × twS)} {p1 : Int32} {p2 : Int64} {j : Nat} (hj : j < 8) : t_X6_closeMonth_b162 E k32 p1 p2 (Int32.ofNat j) t = k32 p1 (p2 + t.2.1 1) (Int32.ofNat (j + 1)) (uSt t (va_up (va_up t.1 (58 + 16 * j + 4) (t.1 (58 + 16 * j + 4) + t.2.1 5)) (58 + 16 * j + 7) (t.1 (58 + 16 * j + 7) + t.2.1 1))) := by
  unfold t_X6_closeMonth_b162
  rw [ya_d5, b1_some, y_add4 hj, b2_some, ya_d1, b1_some, y_add7 hj, b2_some, ya_d1, b1_some, i32_s, uSt_1, cu_ne (j := 58 + 16 * j + 7) t.1 _ (by omega)]
  rfl
theorem inc64m {x : Int32} (h : btw x.toInt64 0 1000) : x.toInt64 + 1 = (x + 1).toInt64 ∧ btw (x.toInt64 + 1) 1 1001 := by
  unfold btw at h ⊢
  have e : (x.toInt64 + 1).toInt = x.toInt64.toInt + 1 := by
    rw [Int64.toInt_add]
    show (x.toInt64.toInt + 1).bmod (2 ^ 64) = _
    rw [Int.bmod_eq_of_le (by omega) (by omega)]
  rw [Int32.toInt_toInt64] at h e
  refine ⟨?_, by rw [e]; omega⟩
  rw [← Int64.toInt_inj, e, Int32.toInt_toInt64, Int32.toInt_add]
  show x.toInt + 1 = (x.toInt + 1).bmod (2 ^ 32)
  rw [Int.bmod_eq_of_le (by omega) (by omega)]
theorem dly_iff {mo : Nat} {x y : Int32} (hm : mo ≤ 60) (hx : btw x.toInt64 0 60) (hy : btw y.toInt64 0 12) : y ≤ Int32.ofNat mo - x ↔ ¬ Int64.ofNat mo - x.toInt64 < y.toInt64 := by
  unfold btw at hx hy
  rw [Int32.toInt_toInt64] at hx hy
  have e1 : (Int32.ofNat mo - x).toInt = (mo : Int) - x.toInt := by rw [Int32.toInt_sub, i32_toInt (by omega), Int.bmod_eq_of_le (by omega) (by omega)]
  have e2 : (Int64.ofNat mo - x.toInt64).toInt = (mo : Int) - x.toInt := by rw [Int64.toInt_sub, Int32.toInt_toInt64, Int64.toInt_ofNat_of_lt (by omega), Int.bmod_eq_of_le (by omega) (by omega)]
  rw [Int32.le_iff_toInt_le, Int64.lt_iff_toInt_lt, e1, e2, Int32.toInt_toInt64]
  omega
end TI
/-- behind j turns of the twin's first loop -/
def bk1 (t τ : Nat → Int64) (s : cT) (N : iN) (mo n j : Nat) : Prop := (∀ y, y < 58 ∨ 58 + 16 * N.2.1 ≤ y → y < 1214 + 8 * mo ∨ 1222 + 8 * mo ≤ y → y < 1694 + 56 * mo ∨ 1750 + 56 * mo ≤ y → τ y = t y) ∧ (∀ i, i < N.2.1 → ∀ x, x < 16 → x ≠ 4 → x ≠ 6 → x ≠ 7 → τ (58 + 16 * i + x) = t (58 + 16 * i + x)) ∧ (∀ i, j ≤ i → i < N.2.1 → ∀ x, x < 16 → τ (58 + 16 * i + x) = t (58 + 16 * i + x)) ∧ (∀ i, i < j → τ (1214 + 8 * mo + i) = SA s N.1 N.2.2.1 (Int32.ofNat i) 100 ∧ ∀ q, q < 7 → τ (1694 + 7 * (8 * mo + i) + q) = STm s N i q) ∧ ∀ i, i < j → btw (τ (58 + 16 * i + 4)) (- (mo * 20000000000000000 + n * 2000000000 + 19000000000000000)) (mo * 20000000000000000 + n * 2000000000 + 19000000000000000) ∧ btw (τ (58 + 16 * i + 6)) 0 (mo + 1) ∧ btw (τ (58 + 16 * i + 7)) (- ((mo + 1) * 1000000000000000)) ((mo + 1) * 1000000000000000)
section BP
theorem bkS_I (s : cT) {o i e c k : Nat} (h : c ≠ o + 130 + i ∨ k ≠ 7) : (bkS s o i e).2.1 c k = s.2.1 c k := by
  unfold bkS
  split
  · rw [uL_I, uL_I, uI_ne _ _ h]
  · rfl
theorem bkS_L (s : cT) {o i e c k : Nat} (h : c ≠ o + 130 + i ∨ k ≠ 8 ∧ k ≠ 9) : (bkS s o i e).2.2.1 c k = s.2.2.1 c k := by
  unfold bkS
  split
  · rw [uL_ne _ _ (by omega), uL_ne _ _ (by omega)]
    rfl
  · rfl
theorem bkS_7 (s : cT) (o i e : Nat) : (bkS s o i e).2.1 (o + 130 + i) 7 = if s.2.1 (o + 130 + i) 5 = 0 then (if s.2.2.1 (o + 130 + i) 8 ≤ 0 then 0 else s.2.1 (o + 130 + i) 7 + 1) else s.2.1 (o + 130 + i) 7 := by
  unfold bkS
  split
  · rw [uL_I, uL_I, uI_s]
  · rfl
theorem bkS_8 (s : cT) (o i e : Nat) : (bkS s o i e).2.2.1 (o + 130 + i) 8 = if s.2.1 (o + 130 + i) 5 = 0 then s.2.2.1 (o + 130 + i) 8 + s.2.2.1 e 5 else s.2.2.1 (o + 130 + i) 8 := by
  unfold bkS
  split
  · rw [uL_ne _ _ (Or.inr (by decide)), uL_s]
  · rfl
theorem bkS_9 (s : cT) (o i e : Nat) : (bkS s o i e).2.2.1 (o + 130 + i) 9 = if s.2.1 (o + 130 + i) 5 = 0 then s.2.2.1 (o + 130 + i) 9 + s.2.2.1 e 1 else s.2.2.1 (o + 130 + i) 9 := by
  unfold bkS
  split
  · rw [uL_s]
  · rfl
end BP
section TL
variable {E : zE} {N : iN} {s sA : cT} {t : twS} {mo n g0 : Nat}
/-- a row is copied, the franchisee booked -/
theorem y_l84 (hm : mo < 60) {j : Nat} (hj : j < 8) {p2 : Int64} {k32 : Int32 → Int64 → Int32 → twS → Option (Int32 × twS)} {w : twS} {Q : Int32 × twS → Prop} (hE : 1000 ≤ E.1) (hQ : ∀ τ : Nat → Int64, (∀ y, τ y = if 1694 + 7 * (8 * mo + j) ≤ y ∧ y < 1694 + 7 * (8 * mo + j) + 7 then w.2.1 (y - (1694 + 7 * (8 * mo + j))) else w.1 y) → Ww (if bi (τ (58 + 16 * j + 3) = 0) = 0 then t_X6_closeMonth_b162 E k32 (Int32.ofNat mo) p2 (Int32.ofNat j) (uSt w τ) else if τ (58 + 16 * j + 4) ≤ 0 then t_X6_closeMonth_b162 E k32 (Int32.ofNat mo) p2 (Int32.ofNat j) (uSt w (va_up τ (58 + 16 * j + 6) 0)) else t_X6_closeMonth_b162 E k32 (Int32.ofNat mo) p2 (Int32.ofNat j) (uSt w (va_up τ (58 + 16 * j + 6) (τ (58 + 16 * j + 6) + 1)))) Q) : Ww (t_X6_closeMonth_l84 E k32 E.1 (Int32.ofNat mo) p2 (Int32.ofNat j) (0 : Int32) w) Q := by
  refine w_lp (σ := Nat → Int64) (L := fun m k a => t_X6_closeMonth_l84 E k32 m (Int32.ofNat mo) p2 (Int32.ofNat j) k (uSt w a)) (n := 7) (by decide) (Inv := fun q a => ∀ y, a y = if 1694 + 7 * (8 * mo + j) ≤ y ∧ y < 1694 + 7 * (8 * mo + j) + q then w.2.1 (y - (1694 + 7 * (8 * mo + j))) else w.1 y) (fun m q a hq ha k => ?_) (fun m a ha => ?_) 7 0 E.1 w.1 rfl (by omega) (fun y => (if_neg (by omega)).symm)
  · show Ww (t_X6_closeMonth_l84 E k32 (m + 1) (Int32.ofNat mo) p2 (Int32.ofNat j) (Int32.ofNat q) (uSt w a)) _
    unfold t_X6_closeMonth_l84
    rw [if_neg (show ¬ (7 : Int32) ≤ Int32.ofNat q from le_ofn (n := 7) (by decide) hq), y_ivr, b2_some, ya_q hq, b1_some, y_rws hm hj hq, b1_some, i32_s]
    refine k (va_up a (1694 + 7 * (8 * mo + j) + q) (w.2.1 q)) (fun y => ?_)
    by_cases e : y = 1694 + 7 * (8 * mo + j) + q
    · rw [e, cu_same, if_pos (by omega), show 1694 + 7 * (8 * mo + j) + q - (1694 + 7 * (8 * mo + j)) = q by omega]
    · rw [cu_ne _ _ e, ha]
      by_cases c : 1694 + 7 * (8 * mo + j) ≤ y ∧ y < 1694 + 7 * (8 * mo + j) + q
      · rw [if_pos c, if_pos (by omega)]
      · rw [if_neg c, if_neg (by omega)]
  · show Ww (t_X6_closeMonth_l84 E k32 (m + 1) (Int32.ofNat mo) p2 (Int32.ofNat j) (Int32.ofNat 7) (uSt w a)) _
    unfold t_X6_closeMonth_l84 t_X6_closeMonth_b159
    rw [if_pos (show (7 : Int32) ≤ Int32.ofNat 7 from Int32.le_refl _), y_isActive hj, b2_some]
    have h := hQ a ha
    rw [uSt_1]
    by_cases c : bi (a (58 + 16 * j + 3) = 0) = 0
    · rw [if_pos c] at h ⊢
      exact h
    · rw [if_neg c] at h ⊢
      rw [y_of4 hj, b2_some, uSt_1]
      by_cases d : a (58 + 16 * j + 4) ≤ 0
      · rw [if_pos d] at h ⊢
        rw [y_set6 hj, b2_some]
        exact h
      · rw [if_neg d] at h ⊢
        rw [y_of6 hj, b2_some, uSt_1, y_set6 hj, b2_some]
        exact h
theorem y_l32 (h8 : N.2.1 ≤ 8) (h16 : N.2.2.1 ≤ 16) (h4 : N.2.2.2.1 ≤ 4) (hE : 1000 ≤ E.1) (hm : mo < 60) (hn : n ≤ 100000) (hX : N.1 + 200 ≤ XT) (h2 : 200 ≤ N.1) (hA : pRw s N mo g0 N.2.1 sA) (hS : ∀ i, i < N.2.1 → s.1 (N.1 + 130 + i) = (1, 10) ∧ s.1 (N.1 + 140 + i) = (1, 11)) (hB : RB sA N.1 N.2.1 N.2.2.1 mo t.1) (hI : IV t.1 N.2.1 N.2.2.1 N.2.2.2.1 mo n) (hR : RR sA N.2.2.2.1 N.2.2.2.2 t.1) (hJ : IR t.1 N.2.2.2.1) (hp : ∀ i, i < N.2.1 → plo s N.1 i < N.2.2.2.1 ∧ s.2.1 (N.1 + 130 + i) 3 = Int32.ofNat (plo s N.1 i)) (hcp : btw (s.2.2.1 2 5) 0 999900) {Q : Int32 × twS → Prop} (hQ : ∀ w : twS, w.2.2 = t.2.2 → RB (BK sA N.1 g0 N.2.1) N.1 N.2.1 N.2.2.1 mo w.1 → bk1 t.1 w.1 s N mo n N.2.1 → Ww (t_X6_closeMonth_l228 E E.1 (Int32.ofNat mo) (0 : Int32) (uSt w (va_up w.1 11 (w.1 11 + (sml (fun i => STm s N i 1) N.2.1 * w.1 7 + 5000) / 10000)))) Q) : Ww (t_X6_closeMonth_l32 E E.1 (Int32.ofNat mo) (0 : Int64) (0 : Int32) t) Q := by
  obtain ⟨a1, a2, a3, a4⟩ := hA
  have low : ∀ c, c < XT → sA.1 c = s.1 c ∧ sA.2.2.1 c = s.2.2.1 c := fun c hc => a2 c (fun i hi => by omega)
  refine w_lp (σ := Int64 × twS) (L := fun m k a => t_X6_closeMonth_l32 E m (Int32.ofNat mo) a.1 k a.2) (n := N.2.1) (by omega) (Inv := fun j a => a.1 = sml (fun i => STm s N i 1) j ∧ a.2.2.2 = t.2.2 ∧ RB (BK sA N.1 g0 j) N.1 N.2.1 N.2.2.1 mo a.2.1 ∧ bk1 t.1 a.2.1 s N mo n j) (fun m j a hj ha k => ?_) (fun m a ha => ?_) N.2.1 0 E.1 (0, t) (by omega) (by omega) ⟨rfl, rfl, hB, fun _ _ _ _ => rfl, fun _ _ _ _ _ _ _ => rfl, fun _ _ _ _ _ => rfl, fun i hi => by omega, fun i hi => by omega⟩
  · obtain ⟨p2, w⟩ := a
    show Ww (t_X6_closeMonth_l32 E (m + 1) (Int32.ofNat mo) p2 (Int32.ofNat j) w) _
    obtain ⟨b1, b2, b3, c0, c1, c2, c3, c4⟩ := ha
    have hj8 : j < 8 := by omega
    have off : ∀ c, (∀ i, i < j → c ≠ N.1 + 130 + i) → c < XT → (BK sA N.1 g0 j).2.1 c = s.2.1 c ∧ (BK sA N.1 g0 j).2.2.1 c = s.2.2.1 c := fun c hc hx => ⟨((BK_o j hc).1).trans (by rw [a1]), ((BK_o j hc).2).trans (low c hx).2⟩
    have hC : ∀ c, c < 200 → (BK sA N.1 g0 j).2.1 c = s.2.1 c ∧ (BK sA N.1 g0 j).2.2.1 c = s.2.2.1 c := fun c hc => off c (fun i hi => by omega) (by omega)
    have hC2 : ∀ c, c < 200 → (BK sA N.1 g0 j).2.1 c = sA.2.1 c ∧ (BK sA N.1 g0 j).2.2.1 c = sA.2.2.1 c := fun c hc => BK_o j (fun i hi => by omega)
    have hSA : SA (BK sA N.1 g0 j) N.1 N.2.2.1 (Int32.ofNat j) 100 = SA s N.1 N.2.2.1 (Int32.ofNat j) 100 := SA_cg fun q hq => ⟨by rw [(off (N.1 + 170 + q) (fun i hi => by omega) (by omega)).1], by rw [(off (N.1 + 170 + q) (fun i hi => by omega) (by omega)).2]⟩
    have hpj := hp j hj
    have hpl : (BK sA N.1 g0 j).2.1 (N.1 + 130 + j) 3 = Int32.ofNat (plo s N.1 j) := by rw [(off _ (fun i hi => by omega) (by omega)).1]; exact hpj.2
    have hnt := r_nt5 hR hpj.1
    have hST : ∀ q, STv (BK sA N.1 g0 j) N.1 N.2.1 j (plo s N.1 j) (N.2.2.2.2 (plo s N.1 j)) (SA s N.1 N.2.2.1 (Int32.ofNat j) 100) q = STm s N j q := fun q => STv_cg hC (fun f hf => (off _ (fun i hi => by omega) (by omega)).2) (by rw [(off _ (fun i hi => by omega) (by omega)).1]) (by rw [(off _ (fun i hi => by omega) (by omega)).2]) h8 hj (by omega) hnt _ _
    have fr : ∀ y, y < 58 → w.1 y = t.1 y := fun y hy => c0 y (by omega) (by omega) (by omega)
    have hxb : btw (SA s N.1 N.2.2.1 (Int32.ofNat j) 100) 0 160000000 := by
      have h0 := btw_SA1 hB hI (Int32.ofNat j) N.2.2.1 (Nat.le_refl _)
      rw [SA_cg (s := s) fun q hq => ⟨by rw [a1], by rw [(low (N.1 + 170 + q) (by omega)).2]⟩] at h0
      exact btw_w h0 (by omega) (by omega)
    have hR1 : RR (BK sA N.1 g0 j) N.2.2.2.1 N.2.2.2.2 (va_up w.1 (1214 + 8 * mo + j) (SA s N.1 N.2.2.1 (Int32.ofNat j) 100)) := RR_cg hR h4 (fun c hc _ => hC2 c hc) (fun y hy => (cu_ne _ _ (by omega)).trans (fr y (by omega)))
    have hJ1 : IR (va_up w.1 (1214 + 8 * mo + j) (SA s N.1 N.2.2.1 (Int32.ofNat j) 100)) N.2.2.2.1 := IR_cg hJ h4 (fun y hy => (cu_ne _ _ (by omega)).trans (fr y (by omega)))
    have hB1 : RB (BK sA N.1 g0 j) N.1 N.2.1 N.2.2.1 mo (va_up w.1 (1214 + 8 * mo + j) (SA s N.1 N.2.2.1 (Int32.ofNat j) 100)) := RB_mo b3 ⟨h8, h16⟩ hm (fun y y1 y2 => cu_ne _ _ (by omega))
    unfold t_X6_closeMonth_l32
    rw [y_d2, b1_some, r_nf b3, if_neg (i64_nle (by omega) hj), y_SA b3 hE h16, b2_some, hSA, y_rcs hm hj8, b1_some, w_bnd2]
    refine w_mono (y_ST (t := uSt w (va_up w.1 (1214 + 8 * mo + j) (SA s N.1 N.2.2.1 (Int32.ofNat j) 100))) hB1 hR1 hJ1 hE h8 h4 hj hpl hpj.1 (btw_w hxb (by decide) (by decide))) fun z hz => ?_
    obtain ⟨f, rfl, hf⟩ := hz
    have hf2 : ∀ q, q < 7 → f q = STm s N j q := fun q hq => (hf q hq).trans (hST q)
    have hrow : ∀ q, q < 7 → (BK sA N.1 g0 j).2.2.1 (XT + (g0 + j)) q = STm s N j q := fun q hq => by
      rw [(BK_o j (fun i hi => by omega)).2]; exact (a4 j hj).2.2 q hq
    show Ww (t_X6_closeMonth_l84 E (t_X6_closeMonth_l32 E m) E.1 (Int32.ofNat mo) p2 (Int32.ofNat j) (0 : Int32) (uAm (uSt w (va_up w.1 (1214 + 8 * mo + j) (SA s N.1 N.2.2.1 (Int32.ofNat j) 100))) f)) Q
    refine y_l84 hm hj8 hE (fun τ hτ => ?_)
    have hτ : ∀ y, τ y = if 1694 + 7 * (8 * mo + j) ≤ y ∧ y < 1694 + 7 * (8 * mo + j) + 7 then f (y - (1694 + 7 * (8 * mo + j))) else va_up w.1 (1214 + 8 * mo + j) (SA s N.1 N.2.2.1 (Int32.ofNat j) 100) y := hτ
    have τo : ∀ y, y < 1214 + 8 * mo ∨ 1222 + 8 * mo ≤ y → y < 1694 + 56 * mo ∨ 1750 + 56 * mo ≤ y → τ y = w.1 y := fun y y1 y2 => by
      rw [hτ, if_neg (by omega), cu_ne _ _ (by omega)]
    have b4 : RB (BK sA N.1 g0 j) N.1 N.2.1 N.2.2.1 mo τ := RB_mo b3 ⟨h8, h16⟩ hm τo
    have fj := hI.2.1 j hj
    have e4 : τ (58 + 16 * j + 4) = t.1 (58 + 16 * j + 4) := (τo _ (by omega) (by omega)).trans (c2 j (Nat.le_refl _) hj 4 (by decide))
    have e6 : τ (58 + 16 * j + 6) = t.1 (58 + 16 * j + 6) := (τo _ (by omega) (by omega)).trans (c2 j (Nat.le_refl _) hj 6 (by decide))
    have e7 : τ (58 + 16 * j + 7) = t.1 (58 + 16 * j + 7) := (τo _ (by omega) (by omega)).trans (c2 j (Nat.le_refl _) hj 7 (by decide))
    have bST := btw_ST (s := s) (o := N.1) (nf := N.2.1) (i := j) (pl := plo s N.1 j) (n := N.2.2.2.2 (plo s N.1 j)) hcp h8 (SA s N.1 N.2.2.1 (Int32.ofNat j) 100)
    have fin : ∀ (σ : Nat → Int64) (v : Int64), (∀ y, σ y = if y = 58 + 16 * j + 6 then v else τ y) → v = ((bkS (BK sA N.1 g0 j) N.1 j (XT + (g0 + j))).2.1 (N.1 + 130 + j) 7).toInt64 → btw v 0 (mo + 1) → Ww (t_X6_closeMonth_b162 E (t_X6_closeMonth_l32 E m) (Int32.ofNat mo) p2 (Int32.ofNat j) (uSt (uAm (uSt w (va_up w.1 (1214 + 8 * mo + j) (SA s N.1 N.2.2.1 (Int32.ofNat j) 100))) f) σ)) Q := fun σ v hσ hv hvb => by
      have s4 : σ (58 + 16 * j + 4) = τ (58 + 16 * j + 4) := by rw [hσ, if_neg (by omega)]
      have s7 : σ (58 + 16 * j + 7) = τ (58 + 16 * j + 7) := by rw [hσ, if_neg (by omega)]
      have φn : ∀ y, y ≠ 58 + 16 * j + 4 → y ≠ 58 + 16 * j + 6 → y ≠ 58 + 16 * j + 7 → va_up (va_up σ (58 + 16 * j + 4) (σ (58 + 16 * j + 4) + f 5)) (58 + 16 * j + 7) (σ (58 + 16 * j + 7) + f 1) y = τ y := fun y y1 y2 y3 => by
        rw [cu_ne _ _ y3, cu_ne _ _ y1, hσ, if_neg y2]
      have φ4 : va_up (va_up σ (58 + 16 * j + 4) (σ (58 + 16 * j + 4) + f 5)) (58 + 16 * j + 7) (σ (58 + 16 * j + 7) + f 1) (58 + 16 * j + 4) = τ (58 + 16 * j + 4) + STm s N j 5 := by
        rw [cu_ne _ _ (by omega), cu_same, s4, hf2 5 (by decide)]
      have φ6 : va_up (va_up σ (58 + 16 * j + 4) (σ (58 + 16 * j + 4) + f 5)) (58 + 16 * j + 7) (σ (58 + 16 * j + 7) + f 1) (58 + 16 * j + 6) = v := by
        rw [cu_ne _ _ (by omega), cu_ne _ _ (by omega), hσ, if_pos rfl]
      have φ7 : va_up (va_up σ (58 + 16 * j + 4) (σ (58 + 16 * j + 4) + f 5)) (58 + 16 * j + 7) (σ (58 + 16 * j + 7) + f 1) (58 + 16 * j + 7) = τ (58 + 16 * j + 7) + STm s N j 1 := by
        rw [cu_same, s7, hf2 1 (by decide)]
      rw [y_b162 hj8]
      show Ww (t_X6_closeMonth_l32 E m (Int32.ofNat mo) (p2 + f 1) (Int32.ofNat (j + 1)) (uSt (uAm (uSt w (va_up w.1 (1214 + 8 * mo + j) (SA s N.1 N.2.2.1 (Int32.ofNat j) 100))) f) (va_up (va_up σ (58 + 16 * j + 4) (σ (58 + 16 * j + 4) + f 5)) (58 + 16 * j + 7) (σ (58 + 16 * j + 7) + f 1)))) Q
      generalize hφ : va_up (va_up σ (58 + 16 * j + 4) (σ (58 + 16 * j + 4) + f 5)) (58 + 16 * j + 7) (σ (58 + 16 * j + 7) + f 1) = φ at φn φ4 φ6 φ7 ⊢
      have inact : ¬ (BK sA N.1 g0 j).2.1 (N.1 + 130 + j) 5 = 0 → ∀ q, STm s N j q = 0 := fun na q => by
        rw [(off _ (fun i hi => by omega) (by omega)).1] at na
        unfold STm STv
        rw [if_neg na]
      refine k (p2 + f 1, uSt (uAm (uSt w (va_up w.1 (1214 + 8 * mo + j) (SA s N.1 N.2.2.1 (Int32.ofNat j) 100))) f) φ) ⟨?_, b2, ?_, ?_, ?_, ?_, ?_, ?_⟩
      · show p2 + f 1 = sml (fun i => STm s N i 1) j + STm s N j 1
        rw [hf2 1 (by decide)]
        exact congrArg (· + _) b1
      · show RB (bkS (BK sA N.1 g0 j) N.1 j (XT + (g0 + j))) N.1 N.2.1 N.2.2.1 mo φ
        refine RB_fr b4 ⟨h8, h16⟩ hj ?_ (fun y hy => φn y (by omega) (by omega) (by omega)) (bkS_S _ _ _ _) (bkS_R _ _ _ _) (fun c q1 q2 => bkS_o _ q1) ⟨((φn _ (by omega) (by omega) (by omega)).trans (r_plan b4 hj)).trans (by rw [bkS_I _ (Or.inr (by decide))]), ((φn _ (by omega) (by omega) (by omega)).trans (r_worth b4 hj)).trans (by rw [bkS_I _ (Or.inr (by decide))]), ((φn _ (by omega) (by omega) (by omega)).trans (r_stat b4 hj)).trans (by rw [bkS_I _ (Or.inr (by decide))]), ?_, ((φn _ (by omega) (by omega) (by omega)).trans (r_gen b4 hj)).trans (by rw [bkS_I _ (Or.inr (by decide))]), ?_, ?_, ((φn _ (by omega) (by omega) (by omega)).trans (r_gra b4 hj)).trans (by rw [bkS_L _ (Or.inr ⟨by decide, by decide⟩)]), ((φn _ (by omega) (by omega) (by omega)).trans (r_tst b4 hj)).trans (by rw [bkS_I _ (Or.inl (by omega))]), ((φn _ (by omega) (by omega) (by omega)).trans (r_two b4 hj)).trans (by rw [bkS_I _ (Or.inl (by omega))]), ((φn _ (by omega) (by omega) (by omega)).trans (r_tpr b4 hj)).trans (by rw [bkS_L _ (Or.inl (by omega))]), ((φn _ (by omega) (by omega) (by omega)).trans (r_tmo b4 hj)).trans (by rw [bkS_I _ (Or.inl (by omega))]), ((φn _ (by omega) (by omega) (by omega)).trans (r_tvo b4 hj)).trans (by rw [bkS_I _ (Or.inl (by omega))]), ((φn _ (by omega) (by omega) (by omega)).trans (r_tye b4 hj)).trans (by rw [bkS_I _ (Or.inl (by omega))]), ((φn _ (by omega) (by omega) (by omega)).trans (r_tno b4 hj)).trans (by rw [bkS_I _ (Or.inl (by omega))])⟩
        · rw [BK_S, (low _ (by omega)).1, (low _ (by omega)).1]
          exact hS j hj
        · rw [φ4, r_bal b4 hj, bkS_8, hrow 5 (by decide)]
          by_cases c : (BK sA N.1 g0 j).2.1 (N.1 + 130 + j) 5 = 0
          · rw [if_pos c]
          · rw [if_neg c, inact c, Int64.add_zero]
        · rw [φ6, hv]
        · rw [φ7, r_con b4 hj, bkS_9, hrow 1 (by decide)]
          by_cases c : (BK sA N.1 g0 j).2.1 (N.1 + 130 + j) 5 = 0
          · rw [if_pos c]
          · rw [if_neg c, inact c, Int64.add_zero]
      · exact fun y y1 y2 y3 => (φn y (by omega) (by omega) (by omega)).trans ((τo y y2 y3).trans (c0 y y1 y2 y3))
      · exact fun i hi x hx x4 x6 x7 => (φn _ (by omega) (by omega) (by omega)).trans ((τo _ (by omega) (by omega)).trans (c1 i hi x hx x4 x6 x7))
      · exact fun i hi1 hi x hx => (φn _ (by omega) (by omega) (by omega)).trans ((τo _ (by omega) (by omega)).trans (c2 i (by omega) hi x hx))
      · intro i hi
        by_cases e : i = j
        · subst e
          refine ⟨?_, fun q hq => ?_⟩
          · show φ _ = _
            rw [φn _ (by omega) (by omega) (by omega), hτ, if_neg (by omega), cu_same]
          · show φ _ = _
            rw [φn _ (by omega) (by omega) (by omega), hτ, if_pos (by omega), show 1694 + 7 * (8 * mo + i) + q - (1694 + 7 * (8 * mo + i)) = q by omega]
            exact hf2 q hq
        · have h := c3 i (by omega)
          refine ⟨?_, fun q hq => ?_⟩
          · show φ _ = _
            rw [φn _ (by omega) (by omega) (by omega), hτ, if_neg (by omega), cu_ne _ _ (by omega)]
            exact h.1
          · show φ _ = _
            rw [φn _ (by omega) (by omega) (by omega), hτ, if_neg (by omega), cu_ne _ _ (by omega)]
            exact h.2 q hq
      · intro i hi
        show btw (φ _) _ _ ∧ btw (φ _) _ _ ∧ btw (φ _) _ _
        by_cases e : i = j
        · subst e
          rw [φ4, φ6, φ7, e4, e7]
          refine ⟨btw_w (btw_add fj.2.2.1 (bST 5).1 (by omega) (by omega)) (by omega) (by omega), hvb, btw_w (btw_add fj.2.2.2.2.2.1 (bST 5).2 (by omega) (by omega)) (by omega) (by omega)⟩
        · have h := c4 i (by omega)
          rw [φn _ (by omega) (by omega) (by omega), φn _ (by omega) (by omega) (by omega), φn _ (by omega) (by omega) (by omega), τo _ (by omega) (by omega), τo _ (by omega) (by omega), τo _ (by omega) (by omega)]
          exact h
    have x3 := r_stat b4 hj
    have x4 := r_bal b4 hj
    have x6 := r_over b4 hj
    have f6 := fj.2.2.2.2.1
    rw [← e6, x6] at f6
    have inc := inc64m (btw_w f6 (Int.le_refl _) (by omega))
    rw [x3, x4, x6, bi_c le_0]
    by_cases c : (BK sA N.1 g0 j).2.1 (N.1 + 130 + j) 5 = 0
    · rw [bi_t c, if_neg (by decide)]
      by_cases d : (BK sA N.1 g0 j).2.2.1 (N.1 + 130 + j) 8 ≤ 0
      · rw [if_pos d]
        exact fin (va_up τ (58 + 16 * j + 6) 0) 0 (fun y => va_app _ _ _ _) (by rw [bkS_7, if_pos c, if_pos d]; decide) ⟨by decide, by show (0 : Int) ≤ _; omega⟩
      · rw [if_neg d]
        exact fin (va_up τ (58 + 16 * j + 6) _) _ (fun y => va_app _ _ _ _) (by rw [bkS_7, if_pos c, if_neg d]; exact inc.1) ⟨by have := inc.2.1; omega, by
          have h := btw_add f6 (show btw (1 : Int64) 1 1 from ⟨by decide, by decide⟩) (by omega) (by omega)
          have := h.2
          omega⟩
    · rw [bi_f c, if_pos rfl]
      exact fin τ _ (fun y => by
        by_cases e : y = 58 + 16 * j + 6
        · rw [if_pos e, e, x6]
        · rw [if_neg e]) (by rw [bkS_7, if_neg c]) (btw_w f6 (Int.le_refl _) (by omega))
  · obtain ⟨p2, w⟩ := a
    show Ww (t_X6_closeMonth_l32 E (m + 1) (Int32.ofNat mo) p2 (Int32.ofNat N.2.1) w) _
    obtain ⟨b1, b2, b3, hbk⟩ := ha
    have b1 : p2 = sml (fun i => STm s N i 1) N.2.1 := b1
    have y11 : ∀ v, tsL w 1 (11 : Int32) v = some (uSt w (va_up w.1 11 v)) := fun v => y_s (k := 11) (by decide)
    unfold t_X6_closeMonth_l32
    rw [y_d2, b1_some, r_nf b3, if_pos (i64_nre (by omega)), y_d11, b1_some, y_d7, b1_some, y_rated, b2_some, y11, b1_some, b1]
    exact hQ w b2 b3 hbk
end TL
