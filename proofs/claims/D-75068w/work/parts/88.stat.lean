/-! credit and the statement of a franchisee -/
set_option maxRecDepth 100000
/-- what f is credited by h -/
def CR (s : cT) (o f h : Nat) : Int64 := if (s.2.2.1 (o + 190 + f) h * (s.2.1 7 0).toInt64 + 5000) / 10000 < s.2.2.1 2 5 then (s.2.2.1 (o + 190 + f) h * (s.2.1 7 0).toInt64 + 5000) / 10000 else s.2.2.1 2 5
/-- the statement of an active one: its parts, of sales x -/
def STp (s : cT) (o nf i pl n : Nat) (x : Int64) : Nat → Int64
  | 0 => RY s pl n x
  | 1 => (x * (s.2.1 (40 + pl) 0).toInt64 + 5000) / 10000
  | 2 => if s.2.2.1 (o + 130 + i) 8 ≤ 0 then 0 else (s.2.2.1 (o + 130 + i) 8 * (s.2.1 8 0).toInt64 + 5000) / 10000
  | 3 => sml (fun h => CR s o i h) nf
  | 4 => sml (fun h => CR s o h i) nf
  | 5 => RY s pl n x + (x * (s.2.1 (40 + pl) 0).toInt64 + 5000) / 10000 + (if s.2.2.1 (o + 130 + i) 8 ≤ 0 then 0 else (s.2.2.1 (o + 130 + i) 8 * (s.2.1 8 0).toInt64 + 5000) / 10000) + sml (fun h => CR s o i h) nf - sml (fun h => CR s o h i) nf
  | _ => 0
def STv (s : cT) (o nf i pl n : Nat) (x : Int64) (k : Nat) : Int64 := if s.2.1 (o + 130 + i) 5 = 0 then STp s o nf i pl n x k else 0
/-- g with a new array of seven longs -/
def gm (g : zH) (f : Nat → Int64) : zH := zadd g (true, .inl (1, 7, .inr (.inl f))) 7
theorem gm_at (g : zH) (f : Nat → Int64) : (gm g f).1 g.2.1 = some (true, .inl (1, 7, .inr (.inl f))) := cu_same _ _ _
theorem gx_gm1 {g0 g : zH} {k m : Nat} {f : Nat → Int64} (h : gx g0 g k m) : gx g0 (gm g f) (k + 1) (m + 7) := gx_trans h (gx_add g _ 7)
theorem gm_set (g : zH) (f : Nat → Int64) (j : Nat) (v : Int64) : zup (gm g f) g.2.1 (true, .inl (1, 7, .inr (.inl (va_up f j v)))) = gm g (va_up f j v) := by
  refine Prod.ext ?_ rfl
  funext a
  show va_up (va_up g.1 g.2.1 _) g.2.1 _ a = va_up g.1 g.2.1 _ a
  by_cases h : a = g.2.1
  · subst h
    rw [cu_same, cu_same]
  · rw [cu_ne _ _ h, cu_ne _ _ h, cu_ne _ _ h]
theorem gm_dL {g : zH} {f : Nat → Int64} {j : Nat} (hj : j < 7) : dL (gm g f) g.2.1 (Int32.ofNat j) = some (f j) := by
  unfold dL
  rw [gm_at]
  show (if 1 = 1 ∧ ¬ (Int32.ofNat j < 0 ∨ 7 ≤ (Int32.ofNat j).toNatClampNeg) then some (f (Int32.ofNat j).toNatClampNeg) else none) = _
  rw [nat_clamp (by omega), if_pos ⟨rfl, fun h => h.elim (i32_nneg (by omega)) (by omega)⟩]
theorem gm_sL {g : zH} {f : Nat → Int64} {j : Nat} (hj : j < 7) (v : Int64) : sL (gm g f) g.2.1 (Int32.ofNat j) v = some (gm g (va_up f j v)) := by
  unfold sL
  rw [gm_at]
  show (if 1 = 1 ∧ ¬ (Int32.ofNat j < 0 ∨ 7 ≤ (Int32.ofNat j).toNatClampNeg) then some (zup (gm g f) g.2.1 (true, .inl (1, 7, .inr (.inl (va_up f (Int32.ofNat j).toNatClampNeg v))))) else none) = _
  rw [nat_clamp (by omega), if_pos ⟨rfl, fun h => h.elim (i32_nneg (by omega)) (by omega)⟩, gm_set]
theorem gm_d0 {g : zH} {f : Nat → Int64} : dL (gm g f) g.2.1 (0 : Int32) = some (f 0) := gm_dL (j := 0) (by decide)
theorem gm_s0 {g : zH} {f : Nat → Int64} (v : Int64) : sL (gm g f) g.2.1 (0 : Int32) v = some (gm g (va_up f 0 v)) := gm_sL (j := 0) (by decide) v
theorem ya_d0 {t : twS} : tdL t 5 (0 : Int32) = some (t.2.1 0) := rfl
theorem ya_s0 {t : twS} (v : Int64) : tsL t 5 (0 : Int32) v = some (uAm t (va_up t.2.1 0 v)) := rfl
theorem gm_d1 {g : zH} {f : Nat → Int64} : dL (gm g f) g.2.1 (1 : Int32) = some (f 1) := gm_dL (j := 1) (by decide)
theorem gm_s1 {g : zH} {f : Nat → Int64} (v : Int64) : sL (gm g f) g.2.1 (1 : Int32) v = some (gm g (va_up f 1 v)) := gm_sL (j := 1) (by decide) v
theorem ya_d1 {t : twS} : tdL t 5 (1 : Int32) = some (t.2.1 1) := rfl
theorem ya_s1 {t : twS} (v : Int64) : tsL t 5 (1 : Int32) v = some (uAm t (va_up t.2.1 1 v)) := rfl
theorem gm_d2 {g : zH} {f : Nat → Int64} : dL (gm g f) g.2.1 (2 : Int32) = some (f 2) := gm_dL (j := 2) (by decide)
theorem gm_s2 {g : zH} {f : Nat → Int64} (v : Int64) : sL (gm g f) g.2.1 (2 : Int32) v = some (gm g (va_up f 2 v)) := gm_sL (j := 2) (by decide) v
theorem ya_d2 {t : twS} : tdL t 5 (2 : Int32) = some (t.2.1 2) := rfl
theorem ya_s2 {t : twS} (v : Int64) : tsL t 5 (2 : Int32) v = some (uAm t (va_up t.2.1 2 v)) := rfl
theorem gm_d3 {g : zH} {f : Nat → Int64} : dL (gm g f) g.2.1 (3 : Int32) = some (f 3) := gm_dL (j := 3) (by decide)
theorem gm_s3 {g : zH} {f : Nat → Int64} (v : Int64) : sL (gm g f) g.2.1 (3 : Int32) v = some (gm g (va_up f 3 v)) := gm_sL (j := 3) (by decide) v
theorem ya_d3 {t : twS} : tdL t 5 (3 : Int32) = some (t.2.1 3) := rfl
theorem ya_s3 {t : twS} (v : Int64) : tsL t 5 (3 : Int32) v = some (uAm t (va_up t.2.1 3 v)) := rfl
theorem gm_d4 {g : zH} {f : Nat → Int64} : dL (gm g f) g.2.1 (4 : Int32) = some (f 4) := gm_dL (j := 4) (by decide)
theorem gm_s4 {g : zH} {f : Nat → Int64} (v : Int64) : sL (gm g f) g.2.1 (4 : Int32) v = some (gm g (va_up f 4 v)) := gm_sL (j := 4) (by decide) v
theorem ya_d4 {t : twS} : tdL t 5 (4 : Int32) = some (t.2.1 4) := rfl
theorem ya_s4 {t : twS} (v : Int64) : tsL t 5 (4 : Int32) v = some (uAm t (va_up t.2.1 4 v)) := rfl
theorem gm_d5 {g : zH} {f : Nat → Int64} : dL (gm g f) g.2.1 (5 : Int32) = some (f 5) := gm_dL (j := 5) (by decide)
theorem gm_s5 {g : zH} {f : Nat → Int64} (v : Int64) : sL (gm g f) g.2.1 (5 : Int32) v = some (gm g (va_up f 5 v)) := gm_sL (j := 5) (by decide) v
theorem ya_d5 {t : twS} : tdL t 5 (5 : Int32) = some (t.2.1 5) := rfl
theorem ya_s5 {t : twS} (v : Int64) : tsL t 5 (5 : Int32) v = some (uAm t (va_up t.2.1 5 v)) := rfl
theorem gm_d6 {g : zH} {f : Nat → Int64} : dL (gm g f) g.2.1 (6 : Int32) = some (f 6) := gm_dL (j := 6) (by decide)
theorem gm_s6 {g : zH} {f : Nat → Int64} (v : Int64) : sL (gm g f) g.2.1 (6 : Int32) v = some (gm g (va_up f 6 v)) := gm_sL (j := 6) (by decide) v
theorem ya_d6 {t : twS} : tdL t 5 (6 : Int32) = some (t.2.1 6) := rfl
theorem ya_s6 {t : twS} (v : Int64) : tsL t 5 (6 : Int32) v = some (uAm t (va_up t.2.1 6 v)) := rfl
theorem gm_new {g : zH} (hr : rm g 1 7) : nA g 1 (7 : Int32) (.inr (.inl fun _ => 0)) = some (g.2.1, gm g fun _ => 0) := by
  unfold nA
  rw [show (7 : Int32).toNatClampNeg = 7 by decide, if_pos ⟨by decide, by decide, hr.1, hr.2⟩]
  rfl
section LC
variable {E : zE} {N : iN} {s : cT} {g : zH}
theorem x_CR {f h : Nat} (hf : f < 8) (hh : h < 8) : c_X4_credit E N (Int32.ofNat f) (Int32.ofNat h) s g = some (CR s N.1 f h, (s, g)) := by
  unfold c_X4_credit c_X4_credit_b0
  rw [cGet_of hf (by decide), b1_some, cdL_of hh (by decide), b1_some, x_rated, b2_some, x_min2, b2_some]
  rfl
theorem x_planOf {i pl : Nat} (hN : N.2.1 ≤ 8) (h4 : N.2.2.2.1 ≤ 4) (hi : i < N.2.1) (hp : s.2.1 (N.1 + 130 + i) 3 = Int32.ofNat pl) (hl : pl < N.2.2.2.1) : c_X4_planOf E N (Int32.ofNat i) s g = some (pl, (s, g)) := by
  unfold c_X4_planOf c_X4_planOf_b0
  rw [cGet_of hi (by omega), b1_some, hp, cGet_of hl (by omega), b1_some]
theorem x_ST_l (hE : 1000 ≤ E.1) (hN : N.2.1 ≤ 8) {i : Nat} (hi : i < N.2.1) (f0 : Nat → Int64) (h3 : f0 3 = 0) (h4 : f0 4 = 0) : Ww (c_X4_statement_l105 E N E.1 (Int32.ofNat i) g.2.1 (0 : Int32) s (gm g f0)) fun z => ∃ f, z = (g.2.1, (s, gm g f)) ∧ f 0 = f0 0 ∧ f 1 = f0 1 ∧ f 2 = f0 2 ∧ f 3 = sml (fun h => CR s N.1 i h) N.2.1 ∧ f 4 = sml (fun h => CR s N.1 h i) N.2.1 ∧ f 5 = f0 0 + f0 1 + f0 2 + sml (fun h => CR s N.1 i h) N.2.1 - sml (fun h => CR s N.1 h i) N.2.1 ∧ f 6 = f0 6 := by
  refine w_lp (σ := Nat → Int64) (L := fun m k f => c_X4_statement_l105 E N m (Int32.ofNat i) g.2.1 k s (gm g f)) (n := N.2.1) (by omega) (Inv := fun j f => f 0 = f0 0 ∧ f 1 = f0 1 ∧ f 2 = f0 2 ∧ f 3 = sml (fun h => CR s N.1 i h) j ∧ f 4 = sml (fun h => CR s N.1 h i) j ∧ f 6 = f0 6) (fun m j f hj ha k => ?_) (fun m f ha => ?_) N.2.1 0 E.1 f0 (by omega) (by omega) ⟨rfl, rfl, rfl, h3, h4, rfl⟩
  · show Ww (c_X4_statement_l105 E N (m + 1) (Int32.ofNat i) g.2.1 (Int32.ofNat j) s (gm g f)) _
    obtain ⟨a0, a1, a2, a3, a4, a6⟩ := ha
    unfold c_X4_statement_l105
    rw [if_neg (le_ofn (by omega) hj), gm_d3, b1_some, x_CR (by omega) (by omega), b2_some, gm_s3, b1_some, gm_d4, b1_some, x_CR (by omega) (by omega), b2_some, gm_s4, b1_some, i32_s]
    exact k _ ⟨a0, a1, a2, by show f 3 + _ = _; rw [a3]; rfl, by show f 4 + _ = _; rw [a4]; rfl, a6⟩
  · show Ww (c_X4_statement_l105 E N (m + 1) (Int32.ofNat i) g.2.1 (Int32.ofNat N.2.1) s (gm g f)) _
    obtain ⟨a0, a1, a2, a3, a4, a6⟩ := ha
    unfold c_X4_statement_l105
    rw [if_pos (Int32.le_refl _), gm_d0, b1_some, gm_d1, b1_some, gm_d2, b1_some, gm_d3, b1_some, gm_d4, b1_some, gm_s5, b1_some, w_some]
    exact ⟨_, rfl, a0, a1, a2, a3, a4, by show f 0 + f 1 + f 2 + f 3 - f 4 = _; rw [a0, a1, a2, a3, a4], a6⟩
theorem x_ST (hE : 1000 ≤ E.1) (hN : N.2.1 ≤ 8) (h4 : N.2.2.2.1 ≤ 4) (h16 : N.2.2.1 ≤ 16) (hr : rm g 1 7) {i pl : Nat} (hi : i < N.2.1) (hp : s.2.1 (N.1 + 130 + i) 3 = Int32.ofNat pl) (hl : pl < N.2.2.2.1) (hn : N.2.2.2.2 pl ≤ 5) (pc : Int32) : Ww (c_X4_statement E N (Int32.ofNat i) pc s g) fun z => ∃ f, z = (g.2.1, (s, gm g f)) ∧ ∀ k, k < 7 → f k = STv s N.1 N.2.1 i pl (N.2.2.2.2 pl) (SA s N.1 N.2.2.1 (Int32.ofNat i) pc) k := by
  unfold c_X4_statement c_X4_statement_b0
  rw [gm_new hr, b2_some, cGet_of hi (by omega), b1_some, x_isAc, b2_some]
  by_cases c : s.2.1 (N.1 + 130 + i) 5 = 0
  · have fin : ∀ v, v = STp s N.1 N.2.1 i pl (N.2.2.2.2 pl) (SA s N.1 N.2.2.1 (Int32.ofNat i) pc) 2 → Ww (c_X4_statement_b101 E N (Int32.ofNat i) g.2.1 g.2.1 2 v s (gm g (va_up (va_up (fun _ => 0) 0 (RY s pl (N.2.2.2.2 pl) (SA s N.1 N.2.2.1 (Int32.ofNat i) pc))) 1 ((SA s N.1 N.2.2.1 (Int32.ofNat i) pc * (s.2.1 (40 + pl) 0).toInt64 + 5000) / 10000)))) (fun z => ∃ f, z = (g.2.1, (s, gm g f)) ∧ ∀ k, k < 7 → f k = STv s N.1 N.2.1 i pl (N.2.2.2.2 pl) (SA s N.1 N.2.2.1 (Int32.ofNat i) pc) k) := fun v hv => by
      unfold c_X4_statement_b101
      rw [gm_s2, b1_some]
      refine w_mono (x_ST_l hE hN hi _ rfl rfl) fun z hz => ?_
      obtain ⟨f, e, a0, a1, a2, a3, a4, a5, a6⟩ := hz
      refine ⟨f, e, fun k hk => ?_⟩
      unfold STv
      rw [if_pos c]
      rcases (show k = 0 ∨ k = 1 ∨ k = 2 ∨ k = 3 ∨ k = 4 ∨ k = 5 ∨ k = 6 by omega) with rfl | rfl | rfl | rfl | rfl | rfl | rfl
      · exact a0
      · exact a1
      · exact a2.trans hv
      · exact a3
      · exact a4
      · rw [a5]
        show _ + _ + v + _ - _ = _
        rw [hv]
        rfl
      · exact a6
    rw [bi_t c, if_neg (by decide), x_SA hE h16, b2_some, x_planOf hN h4 hi hp hl, b2_some, x_RY hE hn, b2_some, gm_s0, b1_some, x_planOf hN h4 hi hp hl, b2_some, x_rated, b2_some, gm_s1, b1_some]
    by_cases q : s.2.2.1 (N.1 + 130 + i) 8 ≤ 0
    · rw [if_pos q]
      exact fin _ (if_pos q).symm
    · rw [if_neg q, x_rated, b2_some]
      exact fin _ (if_neg q).symm
  · rw [bi_f c, if_pos rfl, w_some]
    exact ⟨_, rfl, fun k hk => (if_neg c).symm⟩
end LC
section LTT
variable {E : zE} {t : twS} {s : cT} {o nf no mo np : Nat} {nt : Nat → Nat}
theorem y_CR (h : RB s o nf no mo t.1) (hR : RR s np nt t.1) {f k : Nat} (hf : f < 8) (hk : k < 8) : t_X6_credit E (Int32.ofNat f) (Int32.ofNat k) t = some (CR s o f k, t) := by
  unfold t_X6_credit t_X6_credit_b0 t_X6_credit_b46
  have e : tdL t 1 ((1150 : Int32) + (8 : Int32) * Int32.ofNat f + Int32.ofNat k) = some (s.2.2.1 (o + 190 + f) k) := by
    show tdL t 1 (Int32.ofNat 1150 + Int32.ofNat 8 * Int32.ofNat f + Int32.ofNat k) = _
    rw [← Int32.ofNat_mul, ← Int32.ofNat_add, ← Int32.ofNat_add, y_d (by omega), r_del h hf hk]
  rw [e, b1_some, y_d4, b1_some, y_rated, b2_some, y_d5, b1_some, r_cr hR, r_cap hR]
  unfold CR
  by_cases c : s.2.2.1 2 5 ≤ (s.2.2.1 (o + 190 + f) k * (s.2.1 7 0).toInt64 + 5000) / 10000
  · rw [if_pos c, b1_some, if_neg (Int64.not_lt.mpr c)]
  · rw [if_neg c, if_pos (Int64.not_le.mp c)]
theorem y_ST_l (h : RB s o nf no mo t.1) (hR : RR s np nt t.1) (hE : 1000 ≤ E.1) (hN : nf ≤ 8) {i : Nat} (hi : i < nf) (f0 : Nat → Int64) (h3 : f0 3 = 0) (h4 : f0 4 = 0) : Ww (t_X6_calculate_l105 E E.1 (Int32.ofNat i) (0 : Int32) (uAm t f0)) fun z => ∃ f, z = ((), uAm t f) ∧ f 0 = f0 0 ∧ f 1 = f0 1 ∧ f 2 = f0 2 ∧ f 3 = sml (fun h => CR s o i h) nf ∧ f 4 = sml (fun h => CR s o h i) nf ∧ f 5 = f0 0 + f0 1 + f0 2 + sml (fun h => CR s o i h) nf - sml (fun h => CR s o h i) nf ∧ f 6 = f0 6 := by
  refine w_lp (σ := Nat → Int64) (L := fun m k f => t_X6_calculate_l105 E m (Int32.ofNat i) k (uAm t f)) (n := nf) (by omega) (Inv := fun j f => f 0 = f0 0 ∧ f 1 = f0 1 ∧ f 2 = f0 2 ∧ f 3 = sml (fun h => CR s o i h) j ∧ f 4 = sml (fun h => CR s o h i) j ∧ f 6 = f0 6) (fun m j f hj ha k => ?_) (fun m f ha => ?_) nf 0 E.1 f0 (by omega) (by omega) ⟨rfl, rfl, rfl, h3, h4, rfl⟩
  · show Ww (t_X6_calculate_l105 E (m + 1) (Int32.ofNat i) (Int32.ofNat j) (uAm t f)) _
    obtain ⟨a0, a1, a2, a3, a4, a6⟩ := ha
    have e1 : ∀ f1, t_X6_credit E (Int32.ofNat i) (Int32.ofNat j) (uAm t f1) = some (CR s o i j, uAm t f1) := fun f1 => y_CR (t := uAm t f1) h hR (by omega) (by omega)
    have e2 : ∀ f1, t_X6_credit E (Int32.ofNat j) (Int32.ofNat i) (uAm t f1) = some (CR s o j i, uAm t f1) := fun f1 => y_CR (t := uAm t f1) h hR (by omega) (by omega)
    unfold t_X6_calculate_l105
    rw [y_d2, b1_some, uAm_1, r_nf h, if_neg (i64_nle (by omega) hj), ya_d3, b1_some, e1, b2_some, ya_s3, b1_some, ya_d4, b1_some]
    show Ww (bnd2 (t_X6_credit E (Int32.ofNat j) (Int32.ofNat i) (uAm t (va_up f 3 (f 3 + CR s o i j)))) _) _
    rw [e2, b2_some, ya_s4, b1_some, i32_s]
    exact k _ ⟨a0, a1, a2, by show f 3 + _ = _; rw [a3]; rfl, by show f 4 + _ = _; rw [a4]; rfl, a6⟩
  · show Ww (t_X6_calculate_l105 E (m + 1) (Int32.ofNat i) (Int32.ofNat nf) (uAm t f)) _
    obtain ⟨a0, a1, a2, a3, a4, a6⟩ := ha
    unfold t_X6_calculate_l105
    rw [y_d2, b1_some, uAm_1, r_nf h, if_pos (i64_nre (by omega)), ya_d0, b1_some, ya_d1, b1_some, ya_d2, b1_some, ya_d3, b1_some, ya_d4, b1_some, ya_s5, b1_some, w_some]
    exact ⟨_, rfl, a0, a1, a2, a3, a4, by show f 0 + f 1 + f 2 + f 3 - f 4 = _; rw [a0, a1, a2, a3, a4], a6⟩
theorem y_ST (h : RB s o nf no mo t.1) (hR : RR s np nt t.1) (hJ : IR t.1 np) (hE : 1000 ≤ E.1) (hN : nf ≤ 8) (h4 : np ≤ 4) {i pl : Nat} (hi : i < nf) (hp : s.2.1 (o + 130 + i) 3 = Int32.ofNat pl) (hl : pl < np) {x : Int64} (hx : btw x (-4611686018427387904) 4611686018427387904) : Ww (t_X6_calculate E (Int32.ofNat i) x t) fun z => ∃ f, z = ((), uAm t f) ∧ ∀ k, k < 7 → f k = STv s o nf i pl (nt pl) x k := by
  unfold t_X6_calculate t_X6_calculate_b0
  refine w_lp (σ := Nat → Int64) (L := fun m k f => t_X6_calculate_l3 E m (Int32.ofNat i) x k (uAm t f)) (n := 7) (by decide) (Inv := fun j f => ∀ k, k < j → f k = 0) (fun m j f hj ha k => ?_) (fun m f ha => ?_) 7 0 E.1 t.2.1 rfl (by omega) (fun k hk => by omega)
  · show Ww (t_X6_calculate_l3 E (m + 1) (Int32.ofNat i) x (Int32.ofNat j) (uAm t f)) _
    unfold t_X6_calculate_l3
    have e : tsL (uAm t f) 5 (Int32.ofNat j) 0 = some (uAm t (va_up f j 0)) := by
      show (if ¬ (Int32.ofNat j < 0 ∨ 7 ≤ (Int32.ofNat j).toNatClampNeg) then some (uAm (uAm t f) (va_up f (Int32.ofNat j).toNatClampNeg 0)) else none) = _
      rw [nat_clamp (by omega), if_pos (fun h => h.elim (i32_nneg (by omega)) (by omega))]
      rfl
    rw [if_neg (show ¬ (7 : Int32) ≤ Int32.ofNat j from le_ofn (n := 7) (by decide) hj), e, b1_some, i32_s]
    refine k _ (fun q hq => ?_)
    by_cases c : q = j
    · subst c; exact cu_same _ _ _
    · exact (cu_ne _ _ c).trans (ha q (by omega))
  · show Ww (t_X6_calculate_l3 E (m + 1) (Int32.ofNat i) x (Int32.ofNat 7) (uAm t f)) _
    have pn : ∀ f1, t_X6_planNow E (Int32.ofNat i) (uAm t f1) = some (Int32.ofNat pl, uAm t f1) := fun f1 => by rw [y_planNow (by omega), uAm_1, r_plan h hi, hp, i32_64_32]
    have ry : ∀ f1, t_X6_royaltyOf E (Int32.ofNat pl) x (uAm t f1) = some (RY s pl (nt pl) x, uAm t f1) := fun f1 => y_RY (t := uAm t f1) hR hJ hE h4 hl hx
    have ac : ∀ f1, t_X6_isActive E (Int32.ofNat i) (uAm t f1) = some (bi (s.2.1 (o + 130 + i) 5 = 0), uAm t f1) := fun f1 => by rw [y_isActive (by omega), uAm_1, r_stat h hi, bi_c le_0]
    unfold t_X6_calculate_l3
    rw [if_pos (show (7 : Int32) ≤ Int32.ofNat 7 from Int32.le_refl _), ac, b2_some]
    by_cases c : s.2.1 (o + 130 + i) 5 = 0
    · have fin : ∀ f1 : Nat → Int64, f1 0 = RY s pl (nt pl) x → f1 1 = STp s o nf i pl (nt pl) x 1 → f1 2 = STp s o nf i pl (nt pl) x 2 → f1 3 = 0 → f1 4 = 0 → f1 6 = 0 → Ww (t_X6_calculate_b102 E (Int32.ofNat i) (uAm t f1)) (fun z => ∃ f, z = ((), uAm t f) ∧ ∀ k, k < 7 → f k = STv s o nf i pl (nt pl) x k) := fun f1 b0 b1 b2 b3 b4 b6 => by
        unfold t_X6_calculate_b102
        refine w_mono (y_ST_l h hR hE hN hi f1 b3 b4) fun z hz => ?_
        obtain ⟨f, e, a0, a1, a2, a3, a4, a5, a6⟩ := hz
        refine ⟨f, e, fun k hk => ?_⟩
        unfold STv
        rw [if_pos c]
        rcases (show k = 0 ∨ k = 1 ∨ k = 2 ∨ k = 3 ∨ k = 4 ∨ k = 5 ∨ k = 6 by omega) with rfl | rfl | rfl | rfl | rfl | rfl | rfl
        · exact a0.trans b0
        · exact a1.trans b1
        · exact a2.trans b2
        · exact a3
        · exact a4
        · rw [a5, b0, b1, b2]
          rfl
        · exact a6.trans b6
      rw [bi_t c, if_neg (by decide), pn, b2_some, ry, b2_some, ya_s0, b1_some]
      show Ww (bnd2 (t_X6_planNow E (Int32.ofNat i) (uAm t (va_up f 0 (RY s pl (nt pl) x)))) _) _
      rw [pn, b2_some, y_op0 (by omega), b2_some, uAm_1, r_adv hR hl, y_rated, b2_some, ya_s1, b1_some, y_of4 (by omega), b2_some, uAm_1, uAm_1, r_bal h hi]
      by_cases q : s.2.2.1 (o + 130 + i) 8 ≤ 0
      · rw [if_pos q]
        exact fin _ rfl rfl (by show f 2 = _; rw [ha 2 (by decide)]; exact (if_pos q).symm) (ha 3 (by decide)) (ha 4 (by decide)) (ha 6 (by decide))
      · rw [if_neg q, y_of4 (by omega), b2_some, y_d6, b1_some, uAm_1, uAm_1, r_bal h hi, r_int hR, y_rated, b2_some, ya_s2, b1_some]
        exact fin _ rfl rfl (if_neg q).symm (ha 3 (by decide)) (ha 4 (by decide)) (ha 6 (by decide))
    · rw [bi_f c, if_pos rfl, w_some]
      exact ⟨f, rfl, fun k hk => (ha k hk).trans (if_neg c).symm⟩
end LTT
