/-! the twin's sweeps for connected cells -/
set_option maxRecDepth 100000
section LTT
variable {E : zE} {t : twS} {s : cT} {o nf no mo : Nat}
theorem yr_d {j : Nat} (hj : j < 900) : tdI t 3 3 (Int32.ofNat j) = some (t.2.2.1 3 j) := by
  show (if 3 = 3 ∧ ¬ (Int32.ofNat j < 0 ∨ 900 ≤ (Int32.ofNat j).toNatClampNeg) then some (t.2.2.1 3 (Int32.ofNat j).toNatClampNeg) else none) = _
  rw [nat_clamp (by omega), if_pos ⟨rfl, fun h => h.elim (i32_nneg (by omega)) (by omega)⟩]
theorem yr_s {j : Nat} (hj : j < 900) (v : Int32) : tsI t 3 3 (Int32.ofNat j) v = some (uAr t 3 (va_up (t.2.2.1 3) j v)) := by
  show (if 3 = 3 ∧ ¬ (Int32.ofNat j < 0 ∨ 900 ≤ (Int32.ofNat j).toNatClampNeg) then some (uAr t 3 (va_up (t.2.2.1 3) (Int32.ofNat j).toNatClampNeg v)) else none) = _
  rw [nat_clamp (by omega), if_pos ⟨rfl, fun h => h.elim (i32_nneg (by omega)) (by omega)⟩]
theorem uAr_3 (f : Nat → Int32) : (uAr t 3 f).2.2.1 3 = f := cu_same t.2.2.1 3 f
theorem uAr_uAr (f f1 : Nat → Int32) : uAr (uAr t 3 f) 3 f1 = uAr t 3 f1 := by
  unfold uAr
  refine congrArg (fun z => (t.1, (t.2.1, (z, t.2.2.2)))) ?_
  funext i
  show va_up (va_up t.2.2.1 3 f) 3 f1 i = va_up t.2.2.1 3 f1 i
  by_cases q : i = 3
  · subst q; rw [cu_same, cu_same]
  · rw [cu_ne _ _ q, cu_ne _ _ q, cu_ne _ _ q]
theorem yr_0 {r : Nat → Int32} {x y : Nat} (hx : x < 30) (hy : y < 30) : t_X6_isReached E (Int32.ofNat x) (Int32.ofNat y) (uAr t 3 r) = some (bi (30 * y + x < 900 ∧ r (30 * y + x) ≠ 0), uAr t 3 r) := by
  unfold t_X6_isReached t_X6_isReached_b0 t_X6_isReached_b26 t_X6_isReached_b27
  rw [y_isCell, b2_some, bi_t ⟨(inF_n (by omega)).mpr hx, (inF_n (by omega)).mpr hy⟩, if_neg (by decide)]
  have e : tdI (uAr t 3 r) 3 3 ((30 : Int32) * Int32.ofNat y + Int32.ofNat x) = some (r (30 * y + x)) := by
    show tdI (uAr t 3 r) 3 3 (Int32.ofNat 30 * Int32.ofNat y + Int32.ofNat x) = _
    rw [← Int32.ofNat_mul, ← Int32.ofNat_add, yr_d (by omega), uAr_3]
  rw [e, b1_some]
  by_cases q : r (30 * y + x) = 0
  · rw [if_pos q, bi_f (fun k => k.2 q)]; rfl
  · rw [if_neg q, bi_t ⟨by omega, q⟩]; rfl
theorem yr_n {x y : Int32} (hn : ¬ isP x y) : t_X6_isReached E x y t = some (0, t) := by
  unfold t_X6_isReached t_X6_isReached_b0 t_X6_isReached_b26 t_X6_isReached_b27
  rw [y_isCell, b2_some, bi_f hn, if_pos rfl]; rfl
/-- a reached cell -/
def rc9 (r : Nat → Int32) (d : Nat) : Prop := d < 900 ∧ r d ≠ 0
theorem rc_9 (r : Nat → Int32) : ¬ rc9 r 900 := fun q => absurd q.1 (by decide)
theorem yr_side0 {r : Nat → Int32} {c : Nat} (hc : c < 900) : t_X6_isReached E (Int32.ofNat (c % 30) + 1) (Int32.ofNat (c / 30)) (uAr t 3 r) = some (bi (rc9 r (nbr c 0)), uAr t 3 r) := by
  show _ = some (bi (rc9 r (if c % 30 < 29 then c + 1 else 900)), uAr t 3 r)
  rw [i32_s]
  by_cases q : c % 30 < 29
  · rw [if_pos q, yr_0 (by omega) (by omega), show 30 * (c / 30) + (c % 30 + 1) = c + 1 by omega]; rfl
  · rw [if_neg q, yr_n (fun k => by have := (inF_n (by omega)).mp k.1; omega), bi_f (rc_9 r)]
theorem yr_side1 {r : Nat → Int32} {c : Nat} (hc : c < 900) : t_X6_isReached E (Int32.ofNat (c % 30) - 1) (Int32.ofNat (c / 30)) (uAr t 3 r) = some (bi (rc9 r (nbr c 1)), uAr t 3 r) := by
  show _ = some (bi (rc9 r (if 0 < c % 30 then c - 1 else 900)), uAr t 3 r)
  rw [i32_subm1 (by omega)]
  by_cases q : c % 30 = 0
  · rw [if_pos q, if_neg (show ¬ 0 < c % 30 by omega), yr_n (fun k => inF_m1 _ k.1), bi_f (rc_9 r)]
  · rw [if_neg q, if_pos (show 0 < c % 30 by omega), yr_0 (by omega) (by omega), show 30 * (c / 30) + (c % 30 - 1) = c - 1 by omega]; rfl
theorem yr_side2 {r : Nat → Int32} {c : Nat} (hc : c < 900) : t_X6_isReached E (Int32.ofNat (c % 30)) (Int32.ofNat (c / 30) + 1) (uAr t 3 r) = some (bi (rc9 r (nbr c 2)), uAr t 3 r) := by
  show _ = some (bi (rc9 r (if c / 30 < 29 then c + 30 else 900)), uAr t 3 r)
  rw [i32_s]
  by_cases q : c / 30 < 29
  · rw [if_pos q, yr_0 (by omega) (by omega), show 30 * (c / 30 + 1) + c % 30 = c + 30 by omega]; rfl
  · rw [if_neg q, yr_n (fun k => by have := (inF_n (by omega)).mp k.2; omega), bi_f (rc_9 r)]
theorem yr_side3 {r : Nat → Int32} {c : Nat} (hc : c < 900) : t_X6_isReached E (Int32.ofNat (c % 30)) (Int32.ofNat (c / 30) - 1) (uAr t 3 r) = some (bi (rc9 r (nbr c 3)), uAr t 3 r) := by
  show _ = some (bi (rc9 r (if 0 < c / 30 then c - 30 else 900)), uAr t 3 r)
  rw [i32_subm1 (by omega)]
  by_cases q : c / 30 = 0
  · rw [if_pos q, if_neg (show ¬ 0 < c / 30 by omega), yr_n (fun k => inF_m1 _ k.2), bi_f (rc_9 r)]
  · rw [if_neg q, if_pos (show 0 < c / 30 by omega), yr_0 (by omega) (by omega), show 30 * (c / 30 - 1) + c % 30 = c - 30 by omega]; rfl
/-- what was reached: cn cells -/
def swp (s : cT) (o : Nat) (f : Int32) (x0 : Nat) (r : Nat → Int32) (cn : Nat) : Prop := cn ≤ 900 ∧ cnt (rc9 r) 900 = cn ∧ rc9 r x0 ∧ ∀ c, rc9 r c → rch (ownd s o f) x0 c
/-- no neighbour of an own cell below j that is not reached is reached -/
def qui (s : cT) (o : Nat) (f : Int32) (r : Nat → Int32) (j : Nat) : Prop := ∀ c, c < j → ownd s o f c → ¬ rc9 r c → ∀ k, k < 4 → ¬ rc9 r (nbr c k)
theorem swp_add {f : Int32} {x0 : Nat} (h0 : ownd s o f x0) {r : Nat → Int32} {cn : Nat} (h : swp s o f x0 r cn) {c k : Nat} (hk : k < 4) (hc : ownd s o f c) (hn : ¬ rc9 r c) (hr : rc9 r (nbr c k)) : cn < 900 ∧ swp s o f x0 (va_up r c 1) (cn + 1) := by
  obtain ⟨b1, b2, b3, b4⟩ := h
  have hlt : cn < 900 := by
    rw [← b2]
    exact cnt_lt (x := c) hn hc.1
  have mk : ∀ i, rc9 (va_up r c 1) i ↔ rc9 r i ∨ i = c := fun i => by
    unfold rc9
    rw [va_app]
    by_cases q : i = c
    · rw [if_pos q]; exact ⟨fun _ => Or.inr q, fun _ => ⟨by rw [q]; exact hc.1, by decide⟩⟩
    · rw [if_neg q]; exact ⟨Or.inl, fun k => k.elim id (fun k => absurd k q)⟩
  refine ⟨hlt, by omega, ?_, (mk x0).mpr (Or.inl b3), fun e he => ?_⟩
  · have e := cnt_add (P := rc9 r) (Q := rc9 (va_up r c 1)) (x := c) hn mk hc.1
    rw [b2] at e
    exact e
  · rcases (mk e).mp he with q | q
    · exact b4 e q
    · rw [q]
      exact rch_s (b4 _ hr) (rch_O h0 (b4 _ hr)) hc (adj_sym hc.1 ⟨k, hk, rfl, hr.1⟩)
theorem y_in (h : RB s o nf no mo t.1) (hE : 1000 ≤ E.1) {f : Int32} {x0 : Nat} (h0 : ownd s o f x0) {k74 : Int32 → Int32 → Int32 → twS → Option (Int32 × twS)} {Q : Int32 × twS → Prop} {cn0 : Nat} (hk0 : ∀ r, swp s o f x0 r cn0 → qui s o f r 900 → Ww (k74 f (Int32.ofNat cn0) 0 (uAr t 3 r)) Q) (hk1 : ∀ r cn, swp s o f x0 r cn → cn0 < cn → Ww (k74 f (Int32.ofNat cn) 1 (uAr t 3 r)) Q) {r : Nat → Int32} (hr : swp s o f x0 r cn0) : Ww (t_X6_connected_l85 E k74 E.1 f (Int32.ofNat cn0) (0 : Int32) (0 : Int32) (uAr t 3 r)) Q := by
  refine w_lp (σ := (Nat → Int32) × (Nat × Int32)) (L := fun m k a => t_X6_connected_l85 E k74 m f (Int32.ofNat a.2.1) a.2.2 k (uAr t 3 a.1)) (n := 900) (by decide) (Inv := fun j a => swp s o f x0 a.1 a.2.1 ∧ (a.2.2 = 0 ∧ a.2.1 = cn0 ∧ qui s o f a.1 j ∨ a.2.2 = 1 ∧ cn0 < a.2.1)) (fun m j a hj ha k => ?_) (fun m a ha => ?_) 900 0 E.1 (r, (cn0, 0)) rfl (by omega) ⟨hr, Or.inl ⟨rfl, rfl, fun c hc => by omega⟩⟩
  · show Ww (t_X6_connected_l85 E k74 (m + 1) f (Int32.ofNat a.2.1) a.2.2 (Int32.ofNat j) (uAr t 3 a.1)) _
    obtain ⟨r, cn, mr⟩ := a
    obtain ⟨ha1, ha2⟩ := ha
    have ha1 : swp s o f x0 r cn := ha1
    have cle : cn0 ≤ cn := by
      rcases ha2 with q | q
      · have e : cn = cn0 := q.2.1
        omega
      · have := q.2
        exact Nat.le_of_lt this
    have stay : (ownd s o f j → ¬ rc9 r j → ∀ k, k < 4 → ¬ rc9 r (nbr j k)) → Ww (t_X6_connected_l85 E k74 m f (Int32.ofNat cn) mr (Int32.ofNat (j + 1)) (uAr t 3 r)) Q := fun hh => k (r, (cn, mr)) ⟨ha1, ha2.elim (fun q => Or.inl ⟨q.1, q.2.1, fun c hc ho hn => by
      by_cases e : c = j
      · subst e; exact hh ho hn
      · exact q.2.2 c (by omega) ho hn⟩) Or.inr⟩
    have take : ∀ q, q < 4 → ownd s o f j → ¬ rc9 r j → rc9 r (nbr j q) → Ww (t_X6_connected_b192 E k74 (t_X6_connected_l85 E k74 m) f (Int32.ofNat cn) (Int32.ofNat j) (uAr t 3 r)) Q := fun q hq ho hn hr => by
      obtain ⟨hlt, hs⟩ := swp_add h0 ha1 hq ho hn hr
      unfold t_X6_connected_b192 t_X6_connected_b206
      rw [yr_s hj, b1_some, uAr_3, uAr_uAr, i32_s, i32_s]
      exact k (va_up r j 1, (cn + 1, 1)) ⟨hs, Or.inr ⟨rfl, by show cn0 < cn + 1; omega⟩⟩
    unfold t_X6_connected_l85
    rw [if_neg (le900 hj), yr_d hj, b1_some, uAr_3]
    by_cases h1 : r j = 0
    · rw [if_pos h1, y_cell hj, b1_some, uAr_1, r_cel h hj]
      by_cases h2 : s.2.1 (o + 16) j = f
      · have ho : ownd s o f j := ⟨hj, h2⟩
        have hn : ¬ rc9 r j := fun k => k.2 h1
        rw [if_pos (i32_64_inj.mpr h2), i32_mod30 (by omega), i32_div30 (by omega), yr_side1 hj, b2_some]
        by_cases q1 : rc9 r (nbr j 1)
        · rw [if_neg (by rw [bi_t q1]; decide)]
          exact take 1 (by decide) ho hn q1
        · rw [if_pos (bi_f q1), yr_side0 hj, b2_some]
          by_cases q0 : rc9 r (nbr j 0)
          · rw [if_neg (by rw [bi_t q0]; decide)]
            exact take 0 (by decide) ho hn q0
          · rw [if_pos (bi_f q0), yr_side3 hj, b2_some]
            by_cases q3 : rc9 r (nbr j 3)
            · rw [if_neg (by rw [bi_t q3]; decide)]
              exact take 3 (by decide) ho hn q3
            · rw [if_pos (bi_f q3), yr_side2 hj, b2_some]
              by_cases q2 : rc9 r (nbr j 2)
              · rw [if_neg (by rw [bi_t q2]; decide)]
                exact take 2 (by decide) ho hn q2
              · rw [if_pos (bi_f q2)]
                unfold t_X6_connected_b206
                rw [i32_s]
                exact stay (fun _ _ k hk => by
                  rcases (show k = 0 ∨ k = 1 ∨ k = 2 ∨ k = 3 by omega) with rfl | rfl | rfl | rfl
                  · exact q0
                  · exact q1
                  · exact q2
                  · exact q3)
      · rw [if_neg (fun q => h2 (i32_64_inj.mp q))]
        unfold t_X6_connected_b206
        rw [i32_s]
        exact stay (fun ho => absurd ho.2 h2)
    · rw [if_neg h1]
      unfold t_X6_connected_b206
      rw [i32_s]
      exact stay (fun _ hn => absurd ⟨hj, h1⟩ hn)
  · show Ww (t_X6_connected_l85 E k74 (m + 1) f (Int32.ofNat a.2.1) a.2.2 (Int32.ofNat 900) (uAr t 3 a.1)) _
    obtain ⟨r, cn, mr⟩ := a
    obtain ⟨ha1, ha2⟩ := ha
    unfold t_X6_connected_l85
    rw [if_pos re900]
    rcases ha2 with ⟨e1, e2, e3⟩ | ⟨e1, e2⟩
    · have e1 : mr = 0 := e1
      have e2 : cn = cn0 := e2
      subst e1 e2
      exact hk0 r ha1 e3
    · have e1 : mr = 1 := e1
      subst e1
      exact hk1 r cn ha1 e2
theorem y_out (h : RB s o nf no mo t.1) (hE : 1000 ≤ E.1) {f : Int32} (hx : fst9 s o f < 900) (h0 : ownd s o f (fst9 s o f)) : ∀ (m : Nat) (r : Nat → Int32) (cn : Nat) (mr : Int32), 903 ≤ m + cn → swp s o f (fst9 s o f) r cn → (mr = 0 → qui s o f r 900) → Ww (t_X6_connected_l74 E (m + 1) f (Int32.ofNat cn) mr (uAr t 3 r)) fun z => ∃ r2, z = (bi (CN s o f), uAr t 3 r2) := by
  intro m
  induction m with
  | zero =>
    intro r cn mr hm hs hq
    have := hs.1
    omega
  | succ m ih =>
    intro r cn mr hm hs hq
    have hcn := hs.1
    have fin : ∀ (m1 : Nat) (r : Nat → Int32) (cn : Nat), swp s o f (fst9 s o f) r cn → qui s o f r 900 → Ww (t_X6_connected_l74 E (m1 + 1) f (Int32.ofNat cn) 0 (uAr t 3 r)) fun z => ∃ r2, z = (bi (CN s o f), uAr t 3 r2) := fun m1 r cn hs hq => by
      have hcn := hs.1
      have hall := rch_all (O := ownd s o f) (M := rc9 r) (x0 := fst9 s o f) hs.2.2.1 hs.2.2.2 (fun a b hMa hOa hOb hab => by
        by_cases hb : rc9 r b
        · exact hb
        · obtain ⟨j, hj, e, hl⟩ := adj_sym hOa.1 hab
          exact absurd (by rw [e]; exact hMa) (hq b hOb.1 hOb hb j hj))
      have ecn : cn = cnt (rch (ownd s o f) (fst9 s o f)) 900 := by
        rw [← hs.2.1]
        exact cnt_cg fun i hi => hall i
      have hle := cnt_le (ownd s o f) 900
      have ea : t_X6_areaOf E f (uAr t 3 r) = some (Int32.ofNat (cnt (ownd s o f) 900), uAr t 3 r) := by
        rw [y_area hE, ← sm_own]
        refine congrArg (fun v => some (v, uAr t 3 r)) (sm_cg fun c hc => bi_c ?_)
        rw [uAr_1, r_cel h hc, i32_64_inj]
      unfold t_X6_connected_l74 t_X6_connected_b229
      rw [if_pos rfl, ea, b2_some]
      by_cases q : cn = cnt (ownd s o f) 900
      · rw [if_pos (by rw [q]), zgd1, b1_some, w_some]
        exact ⟨r, by rw [bi_t (show CN s o f from ⟨hx, by rw [← ecn]; exact q⟩)]⟩
      · rw [if_neg (fun e => q ((i32_eq (by omega) (by omega)).mp e)), zgd0, b1_some, w_some]
        exact ⟨r, by rw [bi_f (show ¬ CN s o f from fun k => q (by rw [ecn]; exact k.2))]⟩
    by_cases c : mr = 0
    · subst c
      exact fin _ r cn hs (hq rfl)
    · conv => arg 1; unfold t_X6_connected_l74
      rw [if_neg c]
      exact y_in h hE h0 (fun r2 p1 p2 => fin m r2 cn p1 p2) (fun r2 cn2 p1 p2 => ih r2 cn2 1 (by omega) p1 (fun e => absurd e (by decide))) hs
theorem y_CN (h : RB s o nf no mo t.1) (hE : 1000 ≤ E.1) (f : Int32) : Ww (t_X6_connected E f t) fun z => ∃ r2, z = (bi (CN s o f), uAr t 3 r2) := by
  have hself : t = uAr t 3 (t.2.2.1 3) := by
    unfold uAr
    refine congrArg (fun z => (t.1, (t.2.1, (z, t.2.2.2)))) ?_
    funext i
    by_cases q : i = 3
    · subst q; exact (cu_same _ _ _).symm
    · exact (cu_ne _ _ q).symm
  have fin9 : (∀ d, d < 900 → ¬ s.2.1 (o + 16) d = f) → Ww (t_X6_connected_b31 E f (Int32.ofNat 900) t) fun z => ∃ r2, z = (bi (CN s o f), uAr t 3 r2) := fun hd => by
    unfold t_X6_connected_b31
    rw [if_pos (show Int32.ofNat 900 = (900 : Int32) from rfl), w_some]
    refine ⟨t.2.2.1 3, ?_⟩
    rw [bi_f (show ¬ CN s o f from fun k => by have := k.1; rw [fst9_no hd] at this; omega), ← hself]
  unfold t_X6_connected t_X6_connected_b0
  refine w_lp (σ := Unit) (L := fun m i a => t_X6_connected_l2 E m f i t) (n := 900) (by decide) (Inv := fun j a => ∀ d, d < j → ¬ s.2.1 (o + 16) d = f) (fun m j a hj ha k => ?_) (fun m a ha => ?_) 900 0 E.1 () rfl (by omega) (fun d hd => by omega)
  · show Ww (t_X6_connected_l2 E (m + 1) f (Int32.ofNat j) t) _
    unfold t_X6_connected_l2
    rw [if_neg (le900 hj), y_cell hj, b1_some, r_cel h hj]
    by_cases h1 : s.2.1 (o + 16) j = f
    · rw [if_pos (i32_64_inj.mpr h1)]
      have e9 := fst9_of hj h1 ha
      have h9 : fst9 s o f < 900 := by omega
      have h0 : ownd s o f (fst9 s o f) := by rw [e9]; exact ⟨hj, h1⟩
      unfold t_X6_connected_b31
      rw [if_neg (show ¬ Int32.ofNat j = (900 : Int32) from fun e => by have := (i32_eq (b := 900) (by omega) (by decide)).mp e; omega), ← e9]
      rw [show t_X6_connected_l42 E E.1 f (Int32.ofNat (fst9 s o f)) 0 t = t_X6_connected_l42 E E.1 f (Int32.ofNat (fst9 s o f)) 0 (uAr t 3 (t.2.2.1 3)) from congrArg (t_X6_connected_l42 E E.1 f (Int32.ofNat (fst9 s o f)) 0) hself]
      refine w_lp (L := fun m i a => t_X6_connected_l42 E m f (Int32.ofNat (fst9 s o f)) i (uAr t 3 a)) (n := 900) (by decide) (Inv := fun q a => ∀ c, c < q → a c = 0) (fun m1 q a hq ha1 k1 => ?_) (fun m1 a ha1 => ?_) 900 0 E.1 (t.2.2.1 3) rfl (by omega) (fun c hc => by omega)
      · show Ww (t_X6_connected_l42 E (m1 + 1) f (Int32.ofNat (fst9 s o f)) (Int32.ofNat q) (uAr t 3 a)) _
        unfold t_X6_connected_l42
        rw [if_neg (le900 hq), yr_s hq, b1_some, uAr_3, uAr_uAr, i32_s]
        refine k1 _ (fun c hc => ?_)
        rw [va_app]
        by_cases z : c = q
        · rw [if_pos z]
        · rw [if_neg z]; exact ha1 c (by omega)
      · show Ww (t_X6_connected_l42 E (m1 + 1) f (Int32.ofNat (fst9 s o f)) (Int32.ofNat 900) (uAr t 3 a)) _
        unfold t_X6_connected_l42
        rw [if_pos re900, yr_s h9, b1_some, uAr_3, uAr_uAr]
        obtain ⟨m2, hm2⟩ : ∃ m2, E.1 = m2 + 1 := ⟨E.1 - 1, by omega⟩
        rw [hm2]
        have mk : ∀ i, rc9 (va_up a (fst9 s o f) 1) i ↔ i = fst9 s o f := fun i => by
          unfold rc9
          rw [va_app]
          by_cases z : i = fst9 s o f
          · rw [if_pos z]; exact ⟨fun _ => z, fun _ => ⟨by omega, by decide⟩⟩
          · rw [if_neg z]; exact ⟨fun k => absurd (ha1 i k.1) k.2, fun k => absurd k z⟩
        refine y_out h hE h9 h0 m2 _ 1 1 (by omega) ⟨by decide, ?_, (mk _).mpr rfl, fun c hc => ?_⟩ (fun e => absurd e (by decide))
        · rw [← cnt_one (x := fst9 s o f) h9]
          exact cnt_cg fun i hi => mk i
        · rw [(mk c).mp hc]
          exact rch0 _ _
    · rw [if_neg (fun q => h1 (i32_64_inj.mp q)), i32_s]
      exact k () (fun d hd => by
        by_cases e : d = j
        · subst e; exact h1
        · exact ha d (by omega))
  · show Ww (t_X6_connected_l2 E (m + 1) f (Int32.ofNat 900) t) _
    unfold t_X6_connected_l2
    rw [if_pos re900]
    exact fin9 ha
end LTT
