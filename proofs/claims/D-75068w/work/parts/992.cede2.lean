/-! cells ceded: both -/
set_option maxRecDepth 100000
section LTT
variable {E : zE} {t : twS} {s : cT} {o nf no mo : Nat}
theorem y_mv (h : RB s o nf no mo t.1) (hE : 1000 ≤ E.1) (h16 : no ≤ 16) {a1 b1 a2 b2 : Nat} {f p2 : Int32} (h1 : a1 < 30) (h2 : a2 ≤ 30) (h3 : b1 < 30) (h4 : b2 ≤ 30) {Q : Int32 × twS → Prop} (kf : ∀ m : Nat → Int32, (∀ c, c < 900 → m c = bi (MV s o f a1 b1 a2 b2 c)) → Ww (if Int32.ofNat (cnt (MV s o f a1 b1 a2 b2) 900) = 0 then some ((0 : Int32), uAr t 4 m) else if bi (∃ c, c < 900 ∧ MV s o f a1 b1 a2 b2 c ∧ HO s o no (Int32.ofNat c)) = 0 then (bnd2 (t_X6_give E p2 (uAr t 4 m)) fun x7 s5_ => bnd2 (t_X6_connected E f s5_) fun x11 s9_ => if x11 = 0 then t_X6_cede_b241 E f s9_ else bnd2 (t_X6_connected E p2 s9_) fun x16 s14_ => if x16 = 0 then t_X6_cede_b241 E f s14_ else some (Int32.ofNat (cnt (MV s o f a1 b1 a2 b2) 900), s14_)) else some ((-2 : Int32), uAr t 4 m)) Q) : Ww (t_X6_cede_l95 E E.1 f p2 (Int32.ofNat a1) (Int32.ofNat b1) (Int32.ofNat a2) (Int32.ofNat b2) (0 : Int32) (0 : Int32) (0 : Int32) t) Q := by
  have start : t_X6_cede_l95 E E.1 f p2 (Int32.ofNat a1) (Int32.ofNat b1) (Int32.ofNat a2) (Int32.ofNat b2) (0 : Int32) (0 : Int32) (0 : Int32) t = t_X6_cede_l95 E E.1 f p2 (Int32.ofNat a1) (Int32.ofNat b1) (Int32.ofNat a2) (Int32.ofNat b2) (0 : Int32) (0 : Int32) (0 : Int32) (uAr t 4 (t.2.2.1 4)) := congrArg (t_X6_cede_l95 E E.1 f p2 (Int32.ofNat a1) (Int32.ofNat b1) (Int32.ofNat a2) (Int32.ofNat b2) (0 : Int32) (0 : Int32) (0 : Int32)) uAr_self4.symm
  rw [start]
  refine w_lp (σ := (Nat → Int32) × (Int32 × Int32)) (L := fun m i a => t_X6_cede_l95 E m f p2 (Int32.ofNat a1) (Int32.ofNat b1) (Int32.ofNat a2) (Int32.ofNat b2) a.2.1 a.2.2 i (uAr t 4 a.1)) (n := 900) (by decide) (Inv := fun j a => (∀ c, c < j → a.1 c = bi (MV s o f a1 b1 a2 b2 c)) ∧ a.2.1 = Int32.ofNat (cnt (MV s o f a1 b1 a2 b2) j) ∧ a.2.2 = bi (∃ c, c < j ∧ MV s o f a1 b1 a2 b2 c ∧ HO s o no (Int32.ofNat c))) (fun m j a hj ha k => ?_) (fun m a ha => ?_) 900 0 E.1 (t.2.2.1 4, (0, 0)) rfl (by omega) ⟨fun c hc => by omega, rfl, (bi_f (fun q => by obtain ⟨c, hc, _⟩ := q; omega)).symm⟩
  · show Ww (t_X6_cede_l95 E (m + 1) f p2 (Int32.ofNat a1) (Int32.ofNat b1) (Int32.ofNat a2) (Int32.ofNat b2) a.2.1 a.2.2 (Int32.ofNat j) (uAr t 4 a.1)) _
    obtain ⟨r, cn, bd⟩ := a
    obtain ⟨i1, i2, i3⟩ := ha
    have i1 : ∀ c, c < j → r c = bi (MV s o f a1 b1 a2 b2 c) := i1
    have i2 : cn = Int32.ofNat (cnt (MV s o f a1 b1 a2 b2) j) := i2
    have i3 : bd = bi (∃ c, c < j ∧ MV s o f a1 b1 a2 b2 c ∧ HO s o no (Int32.ofNat c)) := i3
    have exs : (∃ c, c < j + 1 ∧ MV s o f a1 b1 a2 b2 c ∧ HO s o no (Int32.ofNat c)) ↔ (∃ c, c < j ∧ MV s o f a1 b1 a2 b2 c ∧ HO s o no (Int32.ofNat c)) ∨ (MV s o f a1 b1 a2 b2 j ∧ HO s o no (Int32.ofNat j)) := by
      constructor
      · rintro ⟨c, hc, q⟩
        by_cases e : c = j
        · subst e; exact Or.inr q
        · exact Or.inl ⟨c, by omega, q⟩
      · rintro (⟨c, hc, q⟩ | q)
        · exact ⟨c, by omega, q⟩
        · exact ⟨j, by omega, q⟩
    have hho : t_X6_hasOutlet E (Int32.ofNat j) (uAr t 4 (va_up r j 1)) = some (bi (HO s o no (Int32.ofNat j)), uAr t 4 (va_up r j 1)) := y_HO (t := uAr t 4 (va_up r j 1)) h hE h16 _
    have no_ : ¬ MV s o f a1 b1 a2 b2 j → Ww (t_X6_cede_b145 E (t_X6_cede_l95 E m) f p2 (Int32.ofNat a1) (Int32.ofNat b1) (Int32.ofNat a2) (Int32.ofNat b2) cn bd (Int32.ofNat j) 4 (Int32.ofNat j) (uAr t 4 r)) Q := fun hn => by
      unfold t_X6_cede_b145 t_X6_cede_b146 t_X6_cede_b164 t_X6_cede_b192 t_X6_cede_b193
      rw [zgd0, b1_some, ym_s hj, b1_some, uAr_4, uAr_uAr4, ym_d hj, b1_some, uAr_4, cu_same, if_pos rfl, b1_some, if_pos rfl, i32_s]
      refine k (va_up r j 0, (cn + 0, bd ||| 0)) ⟨fun c hc => ?_, by show cn + 0 = _; rw [cnt_n hn, i2]; exact Int32.add_zero _, ?_⟩
      · show va_up r j 0 c = _
        by_cases e : c = j
        · subst e; rw [cu_same, bi_f hn]
        · rw [cu_ne _ _ e]; exact i1 c (by omega)
      · show bd ||| 0 = _
        rw [bi_c exs, ← bi_or, bi_f (show ¬ (MV s o f a1 b1 a2 b2 j ∧ HO s o no (Int32.ofNat j)) from fun q => hn q.1), i3]
    have ys_ : MV s o f a1 b1 a2 b2 j → Ww (t_X6_cede_b146 E (t_X6_cede_l95 E m) f p2 (Int32.ofNat a1) (Int32.ofNat b1) (Int32.ofNat a2) (Int32.ofNat b2) cn bd (Int32.ofNat j) 4 (Int32.ofNat j) (1 : Int32) (uAr t 4 r)) Q := fun hy => by
      have fin : ∀ v : Int32, v = bi (HO s o no (Int32.ofNat j)) → Ww (t_X6_cede_l95 E m f p2 (Int32.ofNat a1) (Int32.ofNat b1) (Int32.ofNat a2) (Int32.ofNat b2) (cn + 1) (bd ||| v) (Int32.ofNat (j + 1)) (uAr t 4 (va_up r j 1))) Q := fun v hv => k (va_up r j 1, (cn + 1, bd ||| v)) ⟨fun c hc => by
        show va_up r j 1 c = _
        by_cases e : c = j
        · subst e; rw [cu_same, bi_t hy]
        · rw [cu_ne _ _ e]; exact i1 c (by omega), by show cn + 1 = _; rw [cnt_y hy, i2]; exact i32_s _, by
        show bd ||| v = _
        rw [bi_c exs, ← bi_or, i3, hv]
        congr 1
        exact bi_c ⟨fun q => ⟨hy, q⟩, fun q => q.2⟩⟩
      unfold t_X6_cede_b146 t_X6_cede_b164 t_X6_cede_b192 t_X6_cede_b193
      rw [zgd1, b1_some, ym_s hj, b1_some, uAr_4, uAr_uAr4, ym_d hj, b1_some, uAr_4, cu_same, if_neg (by decide), b1_some, if_neg (by decide), hho, b2_some, i32_s]
      by_cases c : HO s o no (Int32.ofNat j)
      · rw [if_neg (by rw [bi_t c]; decide)]
        exact fin 1 (bi_t c).symm
      · rw [if_pos (bi_f c)]
        exact fin 0 (bi_f c).symm
    unfold t_X6_cede_l95
    rw [if_neg (le900 hj), y_cell hj, b1_some, uAr_1, r_cel h hj, y_wi h2 h4 h1 h3 hj, b2_some]
    by_cases c1 : s.2.1 (o + 16) j = f
    · rw [if_pos (i32_64_inj.mpr c1)]
      by_cases c2 : wi a1 b1 a2 b2 j
      · rw [if_neg (by rw [bi_t c2]; decide)]
        exact ys_ ⟨c1, c2⟩
      · rw [if_pos (bi_f c2)]
        exact no_ (fun q => c2 q.2)
    · rw [if_neg (fun e => c1 (i32_64_inj.mp e))]
      exact no_ (fun q => c1 q.1)
  · show Ww (t_X6_cede_l95 E (m + 1) f p2 (Int32.ofNat a1) (Int32.ofNat b1) (Int32.ofNat a2) (Int32.ofNat b2) a.2.1 a.2.2 (Int32.ofNat 900) (uAr t 4 a.1)) _
    obtain ⟨r, cn, bd⟩ := a
    obtain ⟨i1, i2, i3⟩ := ha
    have i2 : cn = _ := i2
    have i3 : bd = _ := i3
    subst i2 i3
    unfold t_X6_cede_l95
    rw [if_pos re900]
    exact kf r i1
end LTT
theorem cnt_pos {P : Nat → Prop} {n c : Nat} (hc : c < n) (h : P c) : 0 < cnt P n := by
  by_cases z : cnt P n = 0
  · exfalso
    have : ∀ m, c < m → 0 < cnt P m := fun m => by
      induction m with
      | zero => intro q; omega
      | succ m ih =>
        intro q
        by_cases e : c = m
        · subst e; rw [cnt_y h]; omega
        · have := ih (by omega)
          by_cases r : P m
          · rw [cnt_y r]; omega
          · rw [cnt_n r]; exact this
    have := this n hc
    omega
  · omega
theorem cnt_z {P : Nat → Prop} {n : Nat} (h : cnt P n = 0) : ∀ c, c < n → ¬ P c := fun c hc hp => by
  have := cnt_pos hc hp
  omega
