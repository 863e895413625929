/-! outlet: the pieces -/
set_option maxRecDepth 100000
section OU
variable {E : zE} {p : cP} {s : cT} {g : zH} {t : twS} {nb np nf no : Nat}
theorem ho_l (hp : okP p s) (hB : iBk s nb nf no) (hop : ∀ k, k < no → s.2.1 (nb + 170 + k) 1 ≠ -1) {ce : Nat} : ∀ k j m, j + k = no → f_X4_hasOutlet_l2 E (m + k + 1) (p.1 (nb + 10)) (Int32.ofNat ce) (Int32.ofNat j) (cH p s g) = some (bi (∃ q, j ≤ q ∧ q < no ∧ s.2.1 (nb + 170 + q) 0 = Int32.ofNat ce), cH p s g)
  | 0, j, m, hj => by
    have hl := hB.2.2.2.2.2.2.2.2.2.2.1
    have n3 := hl.2.2.2.1
    rw [f_X4_hasOutlet_l2, c_gR hp hB.1 rfl hB.2.2.1, b1_some, c_cko hp hl.1, b1_some, b_size hp hl E, b2_some, if_pos (by rw [i32_le (by omega) (by omega)]; omega), bi_f (fun q => by obtain ⟨q, q1, q2, _⟩ := q; omega)]
  | k + 1, j, m, hj => by
    have hl := hB.2.2.2.2.2.2.2.2.2.2.1
    have n3 := hl.2.2.2.1
    have so := hB.2.2.2.2.2.2.2.2.2.2.2.2.2.1 j (by omega)
    have ih := ho_l hp hB hop (ce := ce) k (j + 1) m (by omega)
    have hg := b_get (g := g) hp hl E (show j < no by omega)
    have ck := c_cko (g := g) hp so
    have hopn : f_X14_isOpen E (p.1 (nb + 170 + j)) (cH p s g) = some (1, cH p s g) := by
      unfold f_X14_isOpen f_X14_isOpen_b0 f_X14_isOpen_b13
      rw [c_gI hp so rfl, b1_some, if_neg (hop j (by omega)), zgd1, b1_some]
    have nle : ¬ Int32.ofNat no ≤ Int32.ofNat j := by rw [i32_le (by omega) (by omega)]; omega
    rw [show m + (k + 1) + 1 = (m + k + 1) + 1 by omega, f_X4_hasOutlet_l2, c_gR hp hB.1 rfl hB.2.2.1, b1_some, c_cko hp hl.1, b1_some, b_size hp hl E, b2_some, if_neg nle, c_gR hp hB.1 rfl hB.2.2.1, b1_some, c_cko hp hl.1, b1_some, hg, b2_some, ck, b1_some, b1_some, hopn, b2_some, if_neg (by decide), c_gR hp hB.1 rfl hB.2.2.1, b1_some, c_cko hp hl.1, b1_some, hg, b2_some, ck, b1_some, c_gI hp so rfl, b1_some]
    by_cases q : s.2.1 (nb + 170 + j) 0 = Int32.ofNat ce
    · rw [if_pos q, bi_t ⟨j, Nat.le_refl _, by omega, q⟩]
    · rw [if_neg q]
      unfold f_X4_hasOutlet_b56
      rw [i32_s, ih]
      refine congrArg (fun x => some (x, cH p s g)) (bi_c ⟨fun w => ?_, fun w => ?_⟩)
      · obtain ⟨x, x1, x2, x3⟩ := w
        exact ⟨x, by omega, x2, x3⟩
      · obtain ⟨x, x1, x2, x3⟩ := w
        by_cases e : x = j
        · rw [e] at x3; exact absurd x3 q
        · exact ⟨x, by omega, x2, x3⟩
theorem yr_l (hRB : RB s nb nf no 0 (dr t)) (h16 : no ≤ 16) {xx yy : Nat} (hx : xx < 30) (hy : yy < 30) : ∀ k j m, j + k = no → t_X6_hasOutletRead_l2 E (m + k + 1) (Int32.ofNat xx) (Int32.ofNat yy) (Int32.ofNat j) t = some (bi (∃ q, j ≤ q ∧ q < no ∧ s.2.1 (nb + 170 + q) 0 = Int32.ofNat (30 * yy + xx)), t)
  | 0, j, m, hj => by
    have e3 : tdL t 1 (15165 : Int32) = some (Int64.ofNat no) := (y_d (t := t) (k := 15165) (by decide)).trans (congrArg some hRB.1.2.2.2)
    rw [t_X6_hasOutletRead_l2, e3, b1_some, i32_64 (by omega), if_pos ((i64_le (by omega) (by omega)).mpr (by omega)), bi_f (fun q => by obtain ⟨q, q1, q2, _⟩ := q; omega)]
  | k + 1, j, m, hj => by
    have e3 : tdL t 1 (15165 : Int32) = some (Int64.ofNat no) := (y_d (t := t) (k := 15165) (by decide)).trans (congrArg some hRB.1.2.2.2)
    have ih := yr_l hRB h16 hx hy k (j + 1) m (by omega)
    obtain ⟨-, ⟨e, he, o1, o2, o3⟩, -⟩ := hRB.2.2.1 j (by omega)
    have rd : ∀ q : Nat, q < 4 → tdL t 1 ((15348 : Int32) + (4 : Int32) * Int32.ofNat j + Int32.ofNat q) = some (dr t (186 + 4 * j + q)) := fun q hq => by
      rw [show (15348 : Int32) = Int32.ofNat 15348 from rfl, show (4 : Int32) = Int32.ofNat 4 from rfl, ← Int32.ofNat_mul, ← Int32.ofNat_add, ← Int32.ofNat_add, y_d (by omega)]
      show some (t.1 (15348 + 4 * j + q)) = some (t.1 (15162 + (186 + 4 * j + q)))
      rw [show 15348 + 4 * j + q = 15162 + (186 + 4 * j + q) by omega]
    have r1 : tdL t 1 ((15348 : Int32) + (4 : Int32) * Int32.ofNat j + (1 : Int32)) = some (Int64.ofNat (e % 30)) := (rd 1 (by decide)).trans (congrArg some o2)
    have r2 : tdL t 1 ((15348 : Int32) + (4 : Int32) * Int32.ofNat j + (2 : Int32)) = some (Int64.ofNat (e / 30)) := (rd 2 (by decide)).trans (congrArg some o3)
    have i1 : Int64.ofNat (e % 30) = Int64.ofNat xx ↔ e % 30 = xx := i64_eq (by omega) (by omega)
    have i2 : Int64.ofNat (e / 30) = Int64.ofNat yy ↔ e / 30 = yy := i64_eq (by omega) (by omega)
    have i0 : s.2.1 (nb + 170 + j) 0 = Int32.ofNat (30 * yy + xx) ↔ e % 30 = xx ∧ e / 30 = yy := by
      rw [o1, i32_eq (by omega) (by omega)]
      omega
    have go : ¬ s.2.1 (nb + 170 + j) 0 = Int32.ofNat (30 * yy + xx) → t_X6_hasOutletRead_b58 E (t_X6_hasOutletRead_l2 E (m + k + 1)) (Int32.ofNat xx) (Int32.ofNat yy) (Int32.ofNat j) t = some (bi (∃ q, j ≤ q ∧ q < no ∧ s.2.1 (nb + 170 + q) 0 = Int32.ofNat (30 * yy + xx)), t) := fun q => by
      unfold t_X6_hasOutletRead_b58
      rw [i32_s, ih]
      refine congrArg (fun x => some (x, t)) (bi_c ⟨fun w => ?_, fun w => ?_⟩)
      · obtain ⟨x, x1, x2, x3⟩ := w
        exact ⟨x, by omega, x2, x3⟩
      · obtain ⟨x, x1, x2, x3⟩ := w
        by_cases e : x = j
        · rw [e] at x3; exact absurd x3 q
        · exact ⟨x, by omega, x2, x3⟩
    rw [show m + (k + 1) + 1 = (m + k + 1) + 1 by omega, t_X6_hasOutletRead_l2, e3, b1_some, i32_64 (show j < 2 ^ 31 by omega), if_neg (fun w => by have := (i64_le (by omega) (by omega)).mp w; omega), r1, b1_some, i32_64 (show xx < 2 ^ 31 by omega)]
    by_cases w1 : e % 30 = xx
    · rw [if_pos (i1.mpr w1), r2, b1_some, i32_64 (show yy < 2 ^ 31 by omega)]
      by_cases w2 : e / 30 = yy
      · rw [if_pos (i2.mpr w2), bi_t ⟨j, Nat.le_refl _, by omega, i0.mpr ⟨w1, w2⟩⟩]
      · rw [if_neg (fun w => w2 (i2.mp w))]
        exact go (fun w => w2 (i0.mp w).2)
    · rw [if_neg (fun w => w1 (i1.mp w))]
      exact go (fun w => w1 (i0.mp w).1)
theorem y_put3 {no : Nat} (hno : no < 16) (h3 : dr t 3 = Int64.ofNat no) {i xx yy : Nat} (hi : i < 8) (hx : xx < 30) (hy : yy < 30) : ∃ f, t_X6_putOutlet E (3 : Int32) (Int32.ofNat i) (Int32.ofNat xx) (Int32.ofNat yy) t = some ((), uSt t f) ∧ (∀ y, y < 15162 → f y = t.1 y) ∧ (fun y => f (15162 + y)) = puO (dr t) no i xx yy := by
  have h3' : t.1 15165 = Int64.ofNat no := h3
  have e3 : ∀ u : twS, tdL u 1 ((5054 : Int32) * (3 : Int32) + (3 : Int32)) = some (u.1 15165) := fun u => y_d (k := 15165) (by decide)
  have s3 : ∀ (u : twS) (v : Int64), tsL u 1 ((5054 : Int32) * (3 : Int32) + (3 : Int32)) v = some (uSt u (va_up u.1 15165 v)) := fun u v => y_s (k := 15165) (by decide)
  have sk : ∀ (k : Nat) (u : twS) (v : Int64), k < 4 → tsL u 1 ((5054 : Int32) * (3 : Int32) + (186 : Int32) + (4 : Int32) * Int32.ofNat no + Int32.ofNat k) v = some (uSt u (va_up u.1 (15348 + 4 * no + k) v)) := fun k u v hk => by
    rw [show (5054 : Int32) * (3 : Int32) + (186 : Int32) = Int32.ofNat 15348 by decide, show (4 : Int32) = Int32.ofNat 4 from rfl, ← Int32.ofNat_mul, ← Int32.ofNat_add, ← Int32.ofNat_add, y_s (by omega)]
  have s0' : ∀ (u : twS) (v : Int64), tsL u 1 ((5054 : Int32) * (3 : Int32) + (186 : Int32) + (4 : Int32) * Int32.ofNat no + (0 : Int32)) v = some (uSt u (va_up u.1 (15348 + 4 * no + 0) v)) := fun u v => sk 0 u v (by decide)
  have s1' : ∀ (u : twS) (v : Int64), tsL u 1 ((5054 : Int32) * (3 : Int32) + (186 : Int32) + (4 : Int32) * Int32.ofNat no + (1 : Int32)) v = some (uSt u (va_up u.1 (15348 + 4 * no + 1) v)) := fun u v => sk 1 u v (by decide)
  have s2' : ∀ (u : twS) (v : Int64), tsL u 1 ((5054 : Int32) * (3 : Int32) + (186 : Int32) + (4 : Int32) * Int32.ofNat no + (2 : Int32)) v = some (uSt u (va_up u.1 (15348 + 4 * no + 2) v)) := fun u v => sk 2 u v (by decide)
  have s3' : ∀ (u : twS) (v : Int64), tsL u 1 ((5054 : Int32) * (3 : Int32) + (186 : Int32) + (4 : Int32) * Int32.ofNat no + (3 : Int32)) v = some (uSt u (va_up u.1 (15348 + 4 * no + 3) v)) := fun u v => sk 3 u v (by decide)
  unfold t_X6_putOutlet t_X6_putOutlet_b0
  rw [e3, b1_some, h3', i64_32, s0', b1_some, s1', b1_some, s2', b1_some, s3', b1_some, e3, b1_some, s3, b1_some]
  refine ⟨_, rfl, fun y hy => ?_, ?_⟩
  · simp only [uSt_1]
    rw [cu_ne _ _ (by omega), cu_ne _ _ (by omega), cu_ne _ _ (by omega), cu_ne _ _ (by omega), cu_ne _ _ (by omega)]
  · funext z
    unfold puO
    simp only [uSt_1, va_app]
    by_cases c3 : z = 3
    · rw [if_pos (show 15162 + z = 15165 by omega), if_pos c3, if_neg (by omega), if_neg (by omega), if_neg (by omega), if_neg (by omega), h3', i64_s]
    · rw [if_neg (show ¬ 15162 + z = 15165 by omega), if_neg c3, i32_64 (by omega), i32_64 (by omega), i32_64 (by omega)]
      have k : ∀ j, (15162 + z = 15348 + 4 * no + j) ↔ (z = 186 + 4 * no + j) := fun j => by omega
      simp only [k]
      rfl
end OU
