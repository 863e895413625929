/-! cells ceded: the loops of both -/
set_option maxRecDepth 100000
/-- a cell within a part of the grid -/
def wi (a1 b1 a2 b2 c : Nat) : Prop := a1 ≤ c % 30 ∧ c % 30 < a2 ∧ b1 ≤ c / 30 ∧ c / 30 < b2
def MV (s : cT) (o : Nat) (f : Int32) (a1 b1 a2 b2 c : Nat) : Prop := s.2.1 (o + 16) c = f ∧ wi a1 b1 a2 b2 c
def arC (a1 b1 a2 b2 : Nat) : zC := (true, .inr (12, [.int (Int32.ofNat a1), .int (Int32.ofNat b1), .int (Int32.ofNat a2), .int (Int32.ofNat b2)]))
theorem i8_rt : ∀ w, w < 8 → ((Int32.ofNat w).toInt8.toInt32).toInt8.toInt32 = Int32.ofNat w := by decide
theorem HO_cg {s s1 : cT} {o no : Nat} (h : ∀ k, k < no → s1.2.1 (o + 170 + k) = s.2.1 (o + 170 + k)) (c : Int32) : HO s1 o no c ↔ HO s o no c := by
  constructor
  · rintro ⟨k, hk, h1, h2⟩
    rw [h k hk] at h1 h2
    exact ⟨k, hk, h1, h2⟩
  · rintro ⟨k, hk, h1, h2⟩
    rw [← h k hk] at h1 h2
    exact ⟨k, hk, h1, h2⟩
section LC
variable {E : zE} {N : iN} {s : cT} {g : zH}
theorem x_wi {q a1 b1 a2 b2 c : Nat} (hq : g.1 q = some (arC a1 b1 a2 b2)) (h1 : a1 < a2) (h2 : a2 ≤ 30) (h3 : b1 < b2) (h4 : b2 ≤ 30) (hc : c < 900) : c_X13_contains E N q (Int32.ofNat c) s g = some (bi (wi a1 b1 a2 b2 c), (s, g)) := by
  have g0 : gI g q 12 0 = some (Int32.ofNat a1) := by unfold gI gF; rw [hq]; rfl
  have g1 : gI g q 12 1 = some (Int32.ofNat b1) := by unfold gI gF; rw [hq]; rfl
  have g2 : gI g q 12 2 = some (Int32.ofNat a2) := by unfold gI gF; rw [hq]; rfl
  have g3 : gI g q 12 3 = some (Int32.ofNat b2) := by unfold gI gF; rw [hq]; rfl
  have e1 : Int32.ofNat a2 - (1 : Int32) = Int32.ofNat (a2 - 1) := i32_sub (b := 1) (by omega) (by omega)
  have e2 : Int32.ofNat b2 - (1 : Int32) = Int32.ofNat (b2 - 1) := i32_sub (b := 1) (by omega) (by omega)
  have k1 : ((Int32.ofNat a1).toInt64 ≤ (Int32.ofNat (c % 30)).toInt64 ∧ (Int32.ofNat (c % 30)).toInt64 ≤ (Int32.ofNat (a2 - 1)).toInt64) ↔ a1 ≤ c % 30 ∧ c % 30 < a2 := by
    rw [i32_64_le, i32_64_le, i32_le (by omega) (by omega), i32_le (by omega) (by omega)]
    omega
  have k2 : ((Int32.ofNat b1).toInt64 ≤ (Int32.ofNat (c / 30)).toInt64 ∧ (Int32.ofNat (c / 30)).toInt64 ≤ (Int32.ofNat (b2 - 1)).toInt64) ↔ b1 ≤ c / 30 ∧ c / 30 < b2 := by
    rw [i32_64_le, i32_64_le, i32_le (by omega) (by omega), i32_le (by omega) (by omega)]
    omega
  unfold c_X13_contains c_X13_contains_b0 c_X13_contains_b50 c_X13_contains_b51
  rw [x_col (by omega), b2_some, g0, b1_some, g2, b1_some, e1, bi_of k1]
  by_cases q1 : a1 ≤ c % 30 ∧ c % 30 < a2
  · rw [bi_t q1, if_neg (by decide), x_row (by omega), b2_some, g1, b1_some, g3, b1_some, e2, bi_of k2]
    by_cases q2 : b1 ≤ c / 30 ∧ c / 30 < b2
    · rw [bi_t q2, if_neg (by decide), zgd1, bi_t (show wi a1 b1 a2 b2 c from ⟨q1.1, q1.2, q2.1, q2.2⟩)]; rfl
    · rw [bi_f q2, if_pos rfl, zgd0, bi_f (show ¬ wi a1 b1 a2 b2 c from fun k => q2 ⟨k.2.2.1, k.2.2.2⟩)]; rfl
  · rw [bi_f q1, if_pos rfl, zgd0, bi_f (show ¬ wi a1 b1 a2 b2 c from fun k => q1 ⟨k.1, k.2.1⟩)]; rfl
/-- s1 is s but for the owners -/
def okO (N : iN) (s s1 : cT) : Prop := s1.1 = s.1 ∧ s1.2.2 = s.2.2 ∧ ∀ c, c ≠ N.1 + 16 → s1.2.1 c = s.2.1 c
theorem x_mv (hE : 1000 ≤ E.1) (h16 : N.2.2.1 ≤ 16) {q a1 b1 a2 b2 w : Nat} {f : Int32} (hq : g.1 q = some (arC a1 b1 a2 b2)) (h1 : a1 < a2) (h2 : a2 ≤ 30) (h3 : b1 < b2) (h4 : b2 ≤ 30) (hw : w < 8) : Ww (c_X1_moveCells E N f (Int32.ofNat w) q s g) fun z => (∃ s2, z.2 = (s2, g) ∧ okO N s s2 ∧ ((∃ c, c < 900 ∧ MV s N.1 f a1 b1 a2 b2 c ∧ HO s N.1 N.2.2.1 (Int32.ofNat c)) ∧ z.1 = -2 ∨ (∀ c, c < 900 → MV s N.1 f a1 b1 a2 b2 c → ¬ HO s N.1 N.2.2.1 (Int32.ofNat c)) ∧ z.1 = Int32.ofNat (cnt (MV s N.1 f a1 b1 a2 b2) 900) ∧ ∀ c, c < 900 → (MV s N.1 f a1 b1 a2 b2 c → s2.2.1 (N.1 + 16) c = Int32.ofNat w) ∧ (¬ MV s N.1 f a1 b1 a2 b2 c → s2.2.1 (N.1 + 16) c = s.2.1 (N.1 + 16) c))) := by
  unfold c_X1_moveCells c_X1_moveCells_b0
  refine w_lp (σ := cT × Int32) (L := fun m i a => c_X1_moveCells_l18 E N m f (Int32.ofNat w) q a.2 i a.1 g) (n := 900) (by decide) (Inv := fun j a => okO N s a.1 ∧ a.2 = Int32.ofNat (cnt (MV s N.1 f a1 b1 a2 b2) j) ∧ (∀ c, c < j → MV s N.1 f a1 b1 a2 b2 c → ¬ HO s N.1 N.2.2.1 (Int32.ofNat c)) ∧ (∀ c, c < j → (MV s N.1 f a1 b1 a2 b2 c → a.1.2.1 (N.1 + 16) c = Int32.ofNat w) ∧ (¬ MV s N.1 f a1 b1 a2 b2 c → a.1.2.1 (N.1 + 16) c = s.2.1 (N.1 + 16) c)) ∧ ∀ c, j ≤ c → a.1.2.1 (N.1 + 16) c = s.2.1 (N.1 + 16) c) (fun m j a hj ha k => ?_) (fun m a ha => ?_) 900 0 E.1 (s, 0) rfl (by omega) ⟨⟨rfl, rfl, fun _ _ => rfl⟩, rfl, fun c hc => by omega, fun c hc => by omega, fun _ _ => rfl⟩
  · show Ww (c_X1_moveCells_l18 E N (m + 1) f (Int32.ofNat w) q a.2 (Int32.ofNat j) a.1 g) _
    obtain ⟨s2, cn⟩ := a
    obtain ⟨ok, ac, a3, a4, a5⟩ := ha
    have ok : okO N s s2 := ok
    have ac : cn = Int32.ofNat (cnt (MV s N.1 f a1 b1 a2 b2) j) := ac
    have a5 : ∀ c, j ≤ c → s2.2.1 (N.1 + 16) c = s.2.1 (N.1 + 16) c := a5
    have a4 : ∀ c, c < j → (MV s N.1 f a1 b1 a2 b2 c → s2.2.1 (N.1 + 16) c = Int32.ofNat w) ∧ (¬ MV s N.1 f a1 b1 a2 b2 c → s2.2.1 (N.1 + 16) c = s.2.1 (N.1 + 16) c) := a4
    have hck : cko g q 12 = some () := by unfold cko isO; rw [hq]; rfl
    have hho : HO s2 N.1 N.2.2.1 (Int32.ofNat j) ↔ HO s N.1 N.2.2.1 (Int32.ofNat j) := HO_cg (fun k hk => ok.2.2 _ (by omega)) _
    have skip : ¬ MV s N.1 f a1 b1 a2 b2 j → Ww (c_X1_moveCells_l18 E N m f (Int32.ofNat w) q cn (Int32.ofNat (j + 1)) s2 g) _ := fun hn => k (s2, cn) ⟨ok, by rw [cnt_n hn]; exact ac, fun c hc hm => by
      by_cases e : c = j
      · subst e; exact absurd hm hn
      · exact a3 c (by omega) hm, fun c hc => by
      by_cases e : c = j
      · subst e; exact ⟨fun hm => absurd hm hn, fun _ => a5 c (Nat.le_refl _)⟩
      · exact a4 c (by omega), fun c hc => a5 c (by omega)⟩
    unfold c_X1_moveCells_l18 c_X1_moveCells_b72
    rw [if_neg (le900 hj), cdI_of hj (by decide), b1_some, a5 j (Nat.le_refl _), hck, b1_some, x_wi hq h1 h2 h3 h4 hj, b2_some, i32_s]
    by_cases c1 : s.2.1 (N.1 + 16) j = f
    · rw [if_pos c1]
      by_cases c2 : wi a1 b1 a2 b2 j
      · rw [bi_t c2, if_neg (by decide), x_HO hE h16, b2_some, bi_c hho]
        by_cases c3 : HO s N.1 N.2.2.1 (Int32.ofNat j)
        · rw [if_neg (by rw [bi_t c3]; decide), w_some]
          exact ⟨s2, rfl, ok, Or.inl ⟨⟨j, hj, ⟨c1, c2⟩, c3⟩, rfl⟩⟩
        · rw [if_pos (bi_f c3), i8_rt w hw, csI_of hj (by decide), b1_some]
          refine k (uI s2 (N.1 + 16) j (Int32.ofNat w), cn + 1) ⟨⟨ok.1, ok.2.1, fun c hc => (uI_row _ hc _ _).trans (ok.2.2 c hc)⟩, by rw [cnt_y (show MV s N.1 f a1 b1 a2 b2 j from ⟨c1, c2⟩), ac]; exact i32_s _, fun c hc hm => ?_, fun c hc => ?_, fun c hc => ?_⟩
          · by_cases e : c = j
            · subst e; exact c3
            · exact a3 c (by omega) hm
          · by_cases e : c = j
            · subst e
              exact ⟨fun _ => uI_s _ _ _ _, fun hn => absurd ⟨c1, c2⟩ hn⟩
            · rw [uI_ne _ _ (Or.inr e)]
              exact a4 c (by omega)
          · show (uI s2 (N.1 + 16) j (Int32.ofNat w)).2.1 (N.1 + 16) c = _
            rw [uI_ne _ _ (Or.inr (by omega))]
            exact a5 c (by omega)
      · rw [if_pos (bi_f c2)]
        exact skip (fun q => c2 q.2)
    · rw [if_neg c1]
      exact skip (fun q => c1 q.1)
  · show Ww (c_X1_moveCells_l18 E N (m + 1) f (Int32.ofNat w) q a.2 (Int32.ofNat 900) a.1 g) _
    obtain ⟨ok, ac, a3, a4, a5⟩ := ha
    unfold c_X1_moveCells_l18
    rw [if_pos re900, w_some]
    exact ⟨a.1, rfl, ok, Or.inr ⟨a3, ac, a4⟩⟩
end LC
section LTT
variable {E : zE} {t : twS} {s : cT} {o nf no mo : Nat}
theorem y_wi {a1 b1 a2 b2 c : Nat} (h2 : a2 ≤ 30) (h4 : b2 ≤ 30) (h1 : a1 < 30) (h3 : b1 < 30) (hc : c < 900) : t_X6_isWithin E (Int32.ofNat c) (Int32.ofNat a1) (Int32.ofNat b1) (Int32.ofNat a2) (Int32.ofNat b2) t = some (bi (wi a1 b1 a2 b2 c), t) := by
  unfold t_X6_isWithin t_X6_isWithin_b0 t_X6_isWithin_b37 t_X6_isWithin_b38
  rw [i32_mod30 (by omega), i32_div30 (by omega)]
  by_cases q1 : a1 ≤ c % 30
  · rw [if_neg (fun e => by have := (i32_lt (by omega) (by omega)).mp e; omega)]
    by_cases q2 : c % 30 < a2
    · rw [if_neg (fun e => by have := (i32_le (by omega) (by omega)).mp e; omega)]
      by_cases q3 : b1 ≤ c / 30
      · rw [if_neg (fun e => by have := (i32_lt (by omega) (by omega)).mp e; omega)]
        by_cases q4 : c / 30 < b2
        · rw [if_neg (fun e => by have := (i32_le (by omega) (by omega)).mp e; omega), zgd1, bi_t (show wi a1 b1 a2 b2 c from ⟨q1, q2, q3, q4⟩)]; rfl
        · rw [if_pos ((i32_le (by omega) (by omega)).mpr (by omega)), zgd0, bi_f (show ¬ wi a1 b1 a2 b2 c from fun k => q4 k.2.2.2)]; rfl
      · rw [if_pos ((i32_lt (by omega) (by omega)).mpr (by omega)), zgd0, bi_f (show ¬ wi a1 b1 a2 b2 c from fun k => q3 k.2.2.1)]; rfl
    · rw [if_pos ((i32_le (by omega) (by omega)).mpr (by omega)), zgd0, bi_f (show ¬ wi a1 b1 a2 b2 c from fun k => q2 k.2.1)]; rfl
  · rw [if_pos ((i32_lt (by omega) (by omega)).mpr (by omega)), zgd0, bi_f (show ¬ wi a1 b1 a2 b2 c from fun k => q1 k.1)]; rfl
theorem ym_d {j : Nat} (hj : j < 900) : tdI t 4 3 (Int32.ofNat j) = some (t.2.2.1 4 j) := by
  show (if 3 = 3 ∧ ¬ (Int32.ofNat j < 0 ∨ 900 ≤ (Int32.ofNat j).toNatClampNeg) then some (t.2.2.1 4 (Int32.ofNat j).toNatClampNeg) else none) = _
  rw [nat_clamp (by omega), if_pos ⟨rfl, fun h => h.elim (i32_nneg (by omega)) (by omega)⟩]
theorem ym_s {j : Nat} (hj : j < 900) (v : Int32) : tsI t 4 3 (Int32.ofNat j) v = some (uAr t 4 (va_up (t.2.2.1 4) j v)) := by
  show (if 3 = 3 ∧ ¬ (Int32.ofNat j < 0 ∨ 900 ≤ (Int32.ofNat j).toNatClampNeg) then some (uAr t 4 (va_up (t.2.2.1 4) (Int32.ofNat j).toNatClampNeg v)) else none) = _
  rw [nat_clamp (by omega), if_pos ⟨rfl, fun h => h.elim (i32_nneg (by omega)) (by omega)⟩]
theorem uAr_4 (f : Nat → Int32) : (uAr t 4 f).2.2.1 4 = f := cu_same t.2.2.1 4 f
theorem uAr_uAr4 (f f1 : Nat → Int32) : uAr (uAr t 4 f) 4 f1 = uAr t 4 f1 := by
  unfold uAr
  refine congrArg (fun z => (t.1, (t.2.1, (z, t.2.2.2)))) ?_
  funext i
  show va_up (va_up t.2.2.1 4 f) 4 f1 i = va_up t.2.2.1 4 f1 i
  by_cases q : i = 4
  · subst q; rw [cu_same, cu_same]
  · rw [cu_ne _ _ q, cu_ne _ _ q, cu_ne _ _ q]
theorem uAr_self4 : uAr t 4 (t.2.2.1 4) = t := by
  unfold uAr
  refine congrArg (fun z => (t.1, (t.2.1, (z, t.2.2.2)))) ?_
  funext i
  by_cases q : i = 4
  · subst q; exact cu_same _ _ _
  · exact cu_ne _ _ q
theorem bi_or (a b : Prop) : bi a ||| bi b = bi (a ∨ b) := by
  by_cases h : a <;> by_cases h1 : b <;> simp only [bi_t, bi_f, h, h1, true_or, or_true, or_self, not_false_eq_true] <;> decide
/-- the cells that move are given to p -/
theorem y_give (hE : 1000 ≤ E.1) {m : Nat → Int32} {M : Nat → Prop} (hm : ∀ c, c < 900 → m c = bi (M c)) (p : Int32) (h4 : t.2.2.1 4 = m) : Ww (t_X6_give E p t) fun z => ∃ τ : Nat → Int64, z = ((), uSt t τ) ∧ (∀ c, c < 900 → (M c → τ (250 + c) = p.toInt64) ∧ (¬ M c → τ (250 + c) = t.1 (250 + c))) ∧ ∀ y, y < 250 ∨ 1150 ≤ y → τ y = t.1 y := by
  unfold t_X6_give t_X6_give_b0
  refine w_lp (L := fun m i τ => t_X6_give_l2 E m p i (uSt t τ)) (n := 900) (by decide) (Inv := fun j τ => (∀ c, c < j → (M c → τ (250 + c) = p.toInt64) ∧ (¬ M c → τ (250 + c) = t.1 (250 + c))) ∧ ∀ y, y < 250 ∨ 250 + j ≤ y → τ y = t.1 y) (fun m1 j τ hj ha k => ?_) (fun m1 τ ha => ?_) 900 0 E.1 t.1 rfl (by omega) ⟨fun c hc => by omega, fun _ _ => rfl⟩
  · show Ww (t_X6_give_l2 E (m1 + 1) p (Int32.ofNat j) (uSt t τ)) _
    obtain ⟨a1, a2⟩ := ha
    unfold t_X6_give_l2 t_X6_give_b30
    rw [if_neg (le900 hj), ym_d hj, b1_some, show (uSt t τ).2.2.1 4 j = bi (M j) from by show t.2.2.1 4 j = _; rw [h4]; exact hm j hj, i32_s]
    by_cases c : M j
    · rw [if_neg (by rw [bi_t c]; decide), y_cels hj, b1_some, uSt_uSt, uSt_1]
      refine k _ ⟨fun q hq => ?_, fun y hy => (cu_ne _ _ (by omega)).trans (a2 y (by omega))⟩
      by_cases e : q = j
      · subst e
        exact ⟨fun _ => cu_same _ _ _, fun hn => absurd c hn⟩
      · rw [cu_ne _ _ (by omega)]
        exact a1 q (by omega)
    · rw [if_pos (bi_f c)]
      refine k _ ⟨fun q hq => ?_, fun y hy => a2 y (by omega)⟩
      by_cases e : q = j
      · subst e
        exact ⟨fun hc => absurd hc c, fun _ => a2 _ (by omega)⟩
      · exact a1 q (by omega)
  · show Ww (t_X6_give_l2 E (m1 + 1) p (Int32.ofNat 900) (uSt t τ)) _
    unfold t_X6_give_l2
    rw [if_pos re900, w_some]
    exact ⟨τ, rfl, ha.1, fun y hy => ha.2 y (by omega)⟩
end LTT
