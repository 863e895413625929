/-! closing a month: congruences, bounds, the component's rows -/
set_option maxRecDepth 100000
theorem uR_s (s : cT) (c k : Nat) (v : Option Nat) : (uR s c k v).2.2.2 c k = v := by
  show va_up s.2.2.2 c (va_up (s.2.2.2 c) k v) c k = v
  rw [cu_same, cu_same]
theorem uR_ne (s : cT) {c k c1 k1 : Nat} (v : Option Nat) (h : c1 ≠ c ∨ k1 ≠ k) : (uR s c k v).2.2.2 c1 k1 = s.2.2.2 c1 k1 := by
  show va_up s.2.2.2 c (va_up (s.2.2.2 c) k v) c1 k1 = _
  by_cases e : c1 = c
  · subst e
    rw [cu_same]
    exact cu_ne _ _ (h.elim (fun q => absurd rfl q) id)
  · rw [show va_up s.2.2.2 c (va_up (s.2.2.2 c) k v) c1 = s.2.2.2 c1 from cu_ne _ _ e]
/-- the plan of i -/
def plo (s : cT) (o i : Nat) : Nat := (s.2.1 (o + 130 + i) 3).toNatClampNeg
/-- the row of i's invoice -/
def STm (s : cT) (N : iN) (i : Nat) : Nat → Int64 := STv s N.1 N.2.1 i (plo s N.1 i) (N.2.2.2.2 (plo s N.1 i)) (SA s N.1 N.2.2.1 (Int32.ofNat i) 100)
section CG
variable {s s1 : cT} {o : Nat}
theorem CR_cg (hC : ∀ c, c < 200 → s1.2.1 c = s.2.1 c ∧ s1.2.2.1 c = s.2.2.1 c) (hD : ∀ f, f < 8 → s1.2.2.1 (o + 190 + f) = s.2.2.1 (o + 190 + f)) {f h : Nat} (hf : f < 8) : CR s1 o f h = CR s o f h := by
  unfold CR
  rw [hD f hf, (hC 7 (by decide)).1, (hC 2 (by decide)).2]
theorem RY_cg (hC : ∀ c, c < 200 → s1.2.1 c = s.2.1 c ∧ s1.2.2.1 c = s.2.2.1 c) {i n : Nat} (hi : i < 4) (hn : n ≤ 5) (x : Int64) : RY s1 i n x = RY s i n x := by
  unfold RY
  rw [sml_cg (G := rtm s i n x) fun j hj => ?_]
  unfold rtm nxt th rt
  rw [(hC (70 + 8 * i + j) (by omega)).1, (hC (70 + 8 * i + j) (by omega)).2, (hC (70 + 8 * i + (j + 1)) (by omega)).2]
theorem STv_cg {nf i pl n : Nat} (hC : ∀ c, c < 200 → s1.2.1 c = s.2.1 c ∧ s1.2.2.1 c = s.2.2.1 c) (hD : ∀ f, f < 8 → s1.2.2.1 (o + 190 + f) = s.2.2.1 (o + 190 + f)) (hA : s1.2.1 (o + 130 + i) 5 = s.2.1 (o + 130 + i) 5) (hB : s1.2.2.1 (o + 130 + i) 8 = s.2.2.1 (o + 130 + i) 8) (hf : nf ≤ 8) (hi : i < nf) (hp : pl < 4) (hn : n ≤ 5) (x : Int64) (k : Nat) : STv s1 o nf i pl n x k = STv s o nf i pl n x k := by
  have e3 : sml (fun h => CR s1 o i h) nf = sml (fun h => CR s o i h) nf := sml_cg fun h _ => CR_cg hC hD (by omega)
  have e4 : sml (fun h => CR s1 o h i) nf = sml (fun h => CR s o h i) nf := sml_cg fun h hh => CR_cg hC hD (by omega)
  have e0 := RY_cg hC hp hn x
  have a := congrFun (hC (40 + pl) (by omega)).1 0
  have b := congrFun (hC 8 (by decide)).1 0
  have key : ∀ k, STp s1 o nf i pl n x k = STp s o nf i pl n x k := fun k => match k with
    | 0 => by simp only [STp]; rw [e0]
    | 1 => by simp only [STp]; rw [a]
    | 2 => by simp only [STp]; rw [hB, b]
    | 3 => by simp only [STp]; rw [e3]
    | 4 => by simp only [STp]; rw [e4]
    | 5 => by simp only [STp]; rw [e0, a, hB, b, e3, e4]
    | _ + 6 => by simp only [STp]
  unfold STv
  rw [hA, key]
end CG
/-! bounds -/
theorem td4 (y : Int) : y.tdiv 10000 = if 0 ≤ y then y / 10000 else -((-y) / 10000) := by
  by_cases h : 0 ≤ y
  · rw [if_pos h, Int.tdiv_eq_ediv_of_nonneg h]
  · rw [if_neg h, ← Int.tdiv_eq_ediv_of_nonneg (by omega), Int.neg_tdiv, Int.neg_neg]
theorem btw_d4 (y : Int64) : btw (y / 10000) (-922337203685478) 922337203685478 := by
  have h1 := Int64.le_toInt y
  have h2 := Int64.toInt_lt y
  have e : (y / 10000).toInt = y.toInt.tdiv 10000 := by
    rw [Int64.toInt_div]
    show (y.toInt.tdiv 10000).bmod (2 ^ 64) = _
    have q := td4 y.toInt
    rw [Int.bmod_eq_of_le (by split at q <;> omega) (by split at q <;> omega)]
  have q := td4 y.toInt
  unfold btw
  rw [e]
  split at q <;> omega
theorem btw_sml {F : Nat → Int64} {a b : Nat} (ha : a < 1000000000000000) (hb : b < 1000000000000000) : ∀ {n : Nat}, n ≤ 16 → (∀ i, i < n → btw (F i) (-(a : Int)) b) → btw (sml F n) (-((a * n : Nat) : Int)) ((b * n : Nat) : Int) := by
  intro n
  induction n with
  | zero => intro _ _; exact (show btw (0 : Int64) _ _ from ⟨by rw [Nat.mul_zero]; decide, by rw [Nat.mul_zero]; decide⟩)
  | succ n ih =>
    intro hn h
    have i1 := ih (by omega) (fun i hi => h i (by omega))
    have q1 : a * n ≤ a * 16 := Nat.mul_le_mul_left a (by omega)
    have q2 : b * n ≤ b * 16 := Nat.mul_le_mul_left b (by omega)
    have q3 : a * (n + 1) = a * n + a := Nat.mul_succ a n
    have q4 : b * (n + 1) = b * n + b := Nat.mul_succ b n
    have k := btw_add i1 (h n (by omega)) (by omega) (by omega)
    rw [q3, q4]
    exact btw_w k (by omega) (by omega)
theorem btw_CR {s : cT} {o f h : Nat} (hc : btw (s.2.2.1 2 5) 0 999900) : btw (CR s o f h) (-922337203685478) 922337203685478 := by
  unfold CR
  split
  · exact btw_d4 _
  · exact btw_w hc (by decide) (by decide)
theorem btw_ST {s : cT} {o nf i pl n : Nat} (hc : btw (s.2.2.1 2 5) 0 999900) (hf : nf ≤ 8) (x : Int64) (k : Nat) : btw (STv s o nf i pl n x k) (-19000000000000000) 19000000000000000 ∧ btw (STv s o nf i pl n x 1) (-1000000000000000) 1000000000000000 := by
  have z : ∀ a b : Int, a ≤ 0 → 0 ≤ b → btw (0 : Int64) a b := fun a b h1 h2 => ⟨h1, h2⟩
  have s3 := btw_sml (F := fun h => CR s o i h) (a := 922337203685478) (b := 922337203685478) (by decide) (by decide) (n := nf) (by omega) (fun h _ => btw_CR hc)
  have s4 := btw_sml (F := fun h => CR s o h i) (a := 922337203685478) (b := 922337203685478) (by decide) (by decide) (n := nf) (by omega) (fun h _ => btw_CR hc)
  have s3 : btw (sml (fun h => CR s o i h) nf) (-8000000000000000) 8000000000000000 := btw_w s3 (by omega) (by omega)
  have s4 : btw (sml (fun h => CR s o h i) nf) (-8000000000000000) 8000000000000000 := btw_w s4 (by omega) (by omega)
  have i2 : btw (if s.2.2.1 (o + 130 + i) 8 ≤ 0 then (0 : Int64) else (s.2.2.1 (o + 130 + i) 8 * (s.2.1 8 0).toInt64 + 5000) / 10000) (-922337203685478) 922337203685478 := by
    split
    · exact z _ _ (by decide) (by decide)
    · exact btw_d4 _
  have a1 := btw_d4 (x * (s.2.1 (40 + pl) 0).toInt64 + 5000)
  have r0 : btw (RY s pl n x) (-922337203685478) 922337203685478 := btw_d4 _
  have t5 := btw_sub (btw_add (btw_add (btw_add r0 a1 (by decide) (by decide)) i2 (by decide) (by decide)) s3 (by decide) (by decide)) s4 (by decide) (by decide) (by decide)
  unfold STv
  refine ⟨?_, ?_⟩
  · split
    · match k with
      | 0 => exact btw_w r0 (by decide) (by decide)
      | 1 => exact btw_w a1 (by decide) (by decide)
      | 2 => exact btw_w i2 (by decide) (by decide)
      | 3 => exact btw_w s3 (by decide) (by decide)
      | 4 => exact btw_w s4 (by decide) (by decide)
      | 5 => exact btw_w t5 (by decide) (by decide)
      | _ + 6 => exact z _ _ (by decide) (by decide)
    · exact z _ _ (by decide) (by decide)
  · split
    · exact btw_w a1 (by decide) (by decide)
    · exact z _ _ (by decide) (by decide)
theorem l100e {x : Int64} {a : Nat} (h : btw x 0 a) (ha : a ≤ 10000000) : x * (100 : Int64) / 100 = x := by
  have m := btw_mul (a := a) (b := 100) h (show btw (100 : Int64) 0 100 from ⟨by decide, by decide⟩) (by omega)
  have e : (x * 100).toInt = x.toInt * 100 := by
    rw [Int64.toInt_mul]
    show (x.toInt * 100).bmod (2 ^ 64) = _
    have := h.1; have := h.2
    rw [Int.bmod_eq_of_le (by omega) (by omega)]
  rw [← Int64.toInt_inj, Int64.toInt_div, e]
  show ((x.toInt * 100).tdiv 100).bmod (2 ^ 64) = _
  have := h.1; have := h.2
  rw [Int.mul_tdiv_cancel _ (by decide), Int.bmod_eq_of_le (by omega) (by omega)]
theorem btw_SA1 {s : cT} {o nf no mo np n : Nat} {t : Nat → Int64} (hB : RB s o nf no mo t) (hI : IV t nf no np mo n) (f : Int32) : ∀ j, j ≤ no → btw (SA s o j f 100) 0 (10000000 * j : Nat) := by
  intro j
  induction j with
  | zero => intro _; exact (show btw (0 : Int64) 0 0 from ⟨by decide, by decide⟩)
  | succ j ih =>
    intro hj
    have i1 := ih (by omega)
    have hno := hI.1.2.2.1
    have hs := (hI.2.2.1 j (by omega)).2
    rw [r_osa hB (by omega)] at hs
    show btw (SA s o j f 100 + (if s.2.1 (o + 170 + j) 1 = f then s.2.2.1 (o + 170 + j) 2 * (100 : Int32).toInt64 / 100 else 0)) 0 _
    by_cases c : s.2.1 (o + 170 + j) 1 = f
    · rw [if_pos c, show (100 : Int32).toInt64 = 100 by decide, l100e (a := 10000000) hs (by decide)]
      exact btw_w (btw_add i1 hs (by omega) (by omega)) (by omega) (by omega)
    · rw [if_neg c, Int64.add_zero]
      exact btw_w i1 (by omega) (by omega)
/-! the rows -/
/-- j rows are laid -/
def pRw (s : cT) (N : iN) (mo g0 j : Nat) (a : cT) : Prop := a.2.1 = s.2.1 ∧ (∀ c, (∀ i, i < j → c ≠ XT + (g0 + i)) → a.1 c = s.1 c ∧ a.2.2.1 c = s.2.2.1 c) ∧ (∀ c k, (∀ i, i < j → ¬ (c = N.1 + 150 + i ∧ k = mo)) → a.2.2.2 c k = s.2.2.2 c k) ∧ ∀ i, i < j → a.2.2.2 (N.1 + 150 + i) mo = some (XT + (g0 + i)) ∧ a.1 (XT + (g0 + i)) = (3, 7) ∧ ∀ q, q < 7 → a.2.2.1 (XT + (g0 + i)) q = STm s N i q
theorem lRow_gm (g : zH) (f : Nat → Int64) : lRow (gm g f) g.2.1 = some f := by
  unfold lRow
  rw [gm_at]
  exact if_pos ⟨rfl, rfl, rfl⟩
section LC
variable {E : zE} {N : iN} {s : cT} {g : zH}
theorem x_l4 (hE : 1000 ≤ E.1) (h8 : N.2.1 ≤ 8) (h16 : N.2.2.1 ≤ 16) (h4 : N.2.2.2.1 ≤ 4) (hX : N.1 + 200 ≤ XT) (h2 : 200 ≤ N.1) {mo : Nat} (hm : mo < 60) (hmo : s.2.1 (N.1 + 10) 5 = Int32.ofNat mo) (hp : ∀ i, i < N.2.1 → plo s N.1 i < N.2.2.2.1 ∧ s.2.1 (N.1 + 130 + i) 3 = Int32.ofNat (plo s N.1 i)) (hn : ∀ i, i < N.2.2.2.1 → N.2.2.2.2 i ≤ 5) (hr : rm g 10 100) {Q : Unit × (cT × zH) → Prop} (hQ : ∀ a g1, pRw s N mo g.2.1 N.2.1 a → g1.2.1 = g.2.1 + N.2.1 → gx g g1 8 56 → Ww (c_close_l53 E N E.1 (0 : Int64) (0 : Int32) a g1) Q) : Ww (c_close_l4 E N E.1 (0 : Int64) (0 : Int32) s g) Q := by
  refine w_lp (σ := cT × zH) (L := fun m k a => c_close_l4 E N m (0 : Int64) k a.1 a.2) (n := N.2.1) (by omega) (Inv := fun j a => pRw s N mo g.2.1 j a.1 ∧ a.2.2.1 = g.2.1 + j ∧ gx g a.2 j (7 * j)) (fun m j a hj ha k => ?_) (fun m a ha => ?_) N.2.1 0 E.1 (s, g) (by omega) (by omega) ⟨⟨rfl, fun _ _ => ⟨rfl, rfl⟩, fun _ _ _ => rfl, fun i hi => by omega⟩, rfl, gx_rfl g⟩
  · show Ww (c_close_l4 E N (m + 1) (0 : Int64) (Int32.ofNat j) a.1 a.2) _
    obtain ⟨⟨a1, a2, a3, a4⟩, ag, ax⟩ := ha
    have low : ∀ c, c < XT → a.1.1 c = s.1 c ∧ a.1.2.2.1 c = s.2.2.1 c := fun c hc => a2 c (fun i hi => by omega)
    unfold c_close_l4
    rw [if_neg (le_ofn (by omega) hj), cGet_of hj (by omega), b1_some, w_bnd2]
    refine w_mono (x_ST (s := a.1) (g := a.2) (i := j) (pl := plo s N.1 j) hE h8 h4 h16 ⟨by have := ax.2.2.1; have := hr.1; omega, by have := ax.2.2.2; have := hr.2; omega⟩ hj (by rw [a1]; exact (hp j hj).2) (hp j hj).1 (hn _ (hp j hj).1) (100 : Int32)) fun z hz => ?_
    obtain ⟨f, rfl, hf⟩ := hz
    show Ww ((lRow (gm a.2 f) a.2.2.1).bind fun f1 => if ¬ (a.1.2.1 (N.1 + 10) 5 < 0 ∨ 60 ≤ (a.1.2.1 (N.1 + 10) 5).toNatClampNeg) ∧ (a.2.2.1 ≤ a.2.2.1 ∧ a.2.2.1 < a.2.2.1 + 1) then c_close_l4 E N m (0 : Int64) (Int32.ofNat j + 1) (uR (adL a.1 a.2.2.1 f1) (N.1 + 150 + j) (a.1.2.1 (N.1 + 10) 5).toNatClampNeg (some (XT + a.2.2.1))) (gm a.2 f) else none) Q
    rw [lRow_gm, b1_some, a1, hmo, nat_clamp (by omega), if_pos ⟨fun q => q.elim (i32_nneg (by omega)) (by omega), Nat.le_refl _, Nat.lt_succ_self _⟩, i32_s, ag]
    refine k (uR (adL a.1 (g.2.1 + j) f) (N.1 + 150 + j) mo (some (XT + (g.2.1 + j))), gm a.2 f) ⟨⟨a1, fun c hc => ?_, fun c q hc => ?_, fun i hi => ?_⟩, ?_, ?_⟩
    · have h1 := a2 c (fun i hi => hc i (by omega))
      have h2 := hc j (by omega)
      exact ⟨(cu_ne a.1.1 _ h2).trans h1.1, (cu_ne a.1.2.2.1 _ h2).trans h1.2⟩
    · have h2 := hc j (by omega)
      rw [uR_ne _ _ (by omega)]
      exact a3 c q (fun i hi => hc i (by omega))
    · by_cases e : i = j
      · subst e
        refine ⟨uR_s _ _ _ _, cu_same _ _ _, fun q hq => ?_⟩
        show va_up a.1.2.2.1 (XT + (g.2.1 + i)) f (XT + (g.2.1 + i)) q = _
        rw [show va_up a.1.2.2.1 (XT + (g.2.1 + i)) f (XT + (g.2.1 + i)) = f from cu_same _ _ _, hf q hq]
        unfold STm
        rw [SA_cg (s := s) fun k hk => ⟨by rw [a1], by rw [(low _ (by omega)).2]⟩]
        exact STv_cg (fun c hc => ⟨by rw [a1], (low c (by omega)).2⟩) (fun f hf => (low _ (by omega)).2) (by rw [a1]) (by rw [(low _ (by omega)).2]) h8 hj (by have := (hp i hj).1; omega) (hn _ (hp i hj).1) _ _
      · have h1 := a4 i (by omega)
        have h2 : XT + (g.2.1 + i) ≠ XT + (g.2.1 + j) := by omega
        refine ⟨(uR_ne _ _ (by omega)).trans h1.1, (cu_ne a.1.1 _ h2).trans h1.2.1, fun q hq => ?_⟩
        show va_up a.1.2.2.1 (XT + (g.2.1 + j)) f (XT + (g.2.1 + i)) q = _
        rw [show va_up a.1.2.2.1 (XT + (g.2.1 + j)) f (XT + (g.2.1 + i)) = a.1.2.2.1 (XT + (g.2.1 + i)) from cu_ne _ _ h2]
        exact h1.2.2 q hq
    · show a.2.2.1 + 1 = _
      omega
    · exact gx_gm1 ax
  · show Ww (c_close_l4 E N (m + 1) (0 : Int64) (Int32.ofNat N.2.1) a.1 a.2) _
    unfold c_close_l4
    rw [if_pos (Int32.le_refl _)]
    exact hQ a.1 a.2 ha.1 ha.2.1 (gx_widen ha.2.2 (by omega) (by omega))
end LC
