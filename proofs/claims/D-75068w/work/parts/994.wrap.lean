/-! the law's wrappers: what is thrown is caught, the answer lies in out[0] -/
set_option maxRecDepth 100000
/-- out: a long[1] at a -/
def oC (g : zH) (a : Nat) : Prop := a < g.2.1 ∧ ∃ f : Nat → Int64, g.1 a = some (true, .inl (1, 1, .inr (.inl f)))
/-- g grew to g1, and only out (at a) was written -/
def gxp (g g1 : zH) (a : Nat) : Prop := g.2.1 ≤ g1.2.1 ∧ (∀ b, b < g.2.1 → b ≠ a → g1.1 b = g.1 b) ∧ oC g1 a ∧ g.2.2.1 ≤ g1.2.2.1 + 300 ∧ g.2.2.2 ≤ g1.2.2.2 + 3000
theorem gxp_gx {g g1 : zH} {a : Nat} (h : gx g g1 300 3000) (ho : oC g a) : gxp g g1 a := ⟨h.1, fun b hb _ => h.2.1 b hb, ⟨Nat.lt_of_lt_of_le ho.1 h.1, by
  obtain ⟨hl, f, hf⟩ := ho
  exact ⟨f, (h.2.1 a hl).trans hf⟩⟩, h.2.2.1, h.2.2.2⟩
theorem oC_sL {g : zH} {a : Nat} (ho : oC g a) (v : Int64) : ∃ g1, sL g a 0 v = some g1 ∧ dL g1 a 0 = some v ∧ oC g1 a ∧ g1.2 = g.2 ∧ ∀ b, b ≠ a → g1.1 b = g.1 b := by
  obtain ⟨hl, f, hf⟩ := ho
  refine ⟨zup g a (true, .inl (1, 1, .inr (.inl (va_up f 0 v)))), ?_, ?_, ⟨hl, va_up f 0 v, cu_same _ _ _⟩, rfl, fun b hb => cu_ne _ _ hb⟩
  · unfold sL
    rw [hf]
    exact if_pos ⟨rfl, by decide⟩
  · have e : (zup g a (true, .inl (1, 1, .inr (.inl (va_up f 0 v))))).1 a = some (true, .inl (1, 1, .inr (.inl (va_up f 0 v)))) := cu_same _ _ _
    unfold dL
    rw [e]
    show (if 1 = 1 ∧ ¬ ((0 : Int32) < 0 ∨ 1 ≤ (0 : Int32).toNatClampNeg) then some (va_up f 0 v (0 : Int32).toNatClampNeg) else none) = some v
    rw [if_pos ⟨rfl, by decide⟩]
    exact congrArg some (cu_same _ _ _)
/-- behind a wrapped operation -/
def Pw (N : iN) (mo n : Nat) (s : cT) (t : twS) (g : zH) (a : Nat) (s1 : cT) (t1 : twS) (g1 : zH) : Prop := RB s1 N.1 N.2.1 N.2.2.1 mo t1.1 ∧ IV t1.1 N.2.1 N.2.2.1 N.2.2.2.1 mo (n + 1) ∧ okS N s s1 ∧ okT t t1 ∧ gxp g g1 a
section WP
variable {α β : Type} {N : iN} {mo n a : Nat} {s : cT} {t : twS} {g : zH}
theorem Pw_e {s1 : cT} {t1 : twS} {g1 : zH} (h : Po N mo n s t g s1 t1 g1) (ho : oC g a) : Pw N mo n s t g a s1 t1 g1 := ⟨h.1, h.2.1, h.2.2.1, h.2.2.2.1, gxp_gx h.2.2.2.2 ho⟩
theorem Pw_v {s1 : cT} {t1 : twS} {g1 : zH} (h : Po N mo n s t g s1 t1 g1) (ho : oC g a) (v : Int64) : ∃ g2, sL g1 a 0 v = some g2 ∧ dL g2 a 0 = some v ∧ Pw N mo n s t g a s1 t1 g2 := by
  have hx := gxp_gx h.2.2.2.2 ho
  obtain ⟨g2, e1, e2, e3, e4, e5⟩ := oC_sL hx.2.2.1 v
  exact ⟨g2, e1, e2, h.1, h.2.1, h.2.2.1, h.2.2.2.1, by rw [e4]; exact hx.1, fun b hb hn => (e5 b hn).trans (hx.2.1 b hb hn), e3, by rw [e4]; exact hx.2.2.2.1, by rw [e4]; exact hx.2.2.2.2⟩
/-- the answer of a wrapper -/
def Wr (k : Int32) (v : Int64) (a : Nat) (k1 : Int32) (g1 : zH) : Prop := k1 = k ∧ (k1 = 0 → dL g1 a 0 = some v)
theorem wrp {F : Option ((α ⊕ (Nat × Nat)) × (cT × zH))} {T : Option (α × twS)} {ec : Nat → Int32} {cv : α → Int64} {X : (Nat × Nat) → (cT × zH) → Option (Int32 × (cT × zH))} (hF : Ww F fun z => Ww T fun w => Rs ec z.1 w.1 (tSc w.2 2) ∧ Po N mo n s t g z.2.1 w.2 z.2.2) (ho : oC g a) (hX : ∀ q z, ec q.1 ≠ 0 → (q.1 = 20 ∨ q.1 = 21 ∨ q.1 = 22) → X q z = some (ec q.1, (z.1, z.2))) : Ww (bnd2 F fun x z => Sum.elim (fun v => (sL z.2 a (0 : Int32) (cv v)).bind fun g1 => some ((0 : Int32), (z.1, g1))) (fun q => X q z) x) fun z => Ww T fun w => Wr (tSc w.2 2) (cv w.1) a z.1 z.2.2 ∧ Pw N mo n s t g a z.2.1 w.2 z.2.2 := by
  rw [w_bnd2]
  refine w_mono hF fun z hz => ?_
  obtain ⟨r, s1, g1⟩ := z
  obtain ⟨w, ew, hw, hP⟩ := hz
  cases r with
  | inl v =>
    obtain ⟨e1, e2⟩ : tSc w.2 2 = 0 ∧ v = w.1 := hw
    obtain ⟨g2, f1, f2, f3⟩ := Pw_v hP ho (cv v)
    show Ww ((sL g1 a (0 : Int32) (cv v)).bind fun g1 => some ((0 : Int32), (s1, g1))) _
    rw [f1]
    exact ⟨_, rfl, w, ew, ⟨e1.symm, fun _ => by rw [← e2]; exact f2⟩, f3⟩
  | inr q =>
    obtain ⟨e1, e2, e3⟩ : tSc w.2 2 = ec q.1 ∧ tSc w.2 2 ≠ 0 ∧ (q.1 = 20 ∨ q.1 = 21 ∨ q.1 = 22) := hw
    show Ww (X q (s1, g1)) _
    rw [hX q (s1, g1) (by rw [← e1]; exact e2) e3]
    exact ⟨_, rfl, w, ew, ⟨e1.symm, fun h => absurd (e1.trans h) e2⟩, Pw_e hP ho⟩
theorem wr20 {F : Option ((α ⊕ (Nat × Nat)) × (cT × zH))} {T : Option (α × twS)} {cv : α → Int64} (hF : Ww F fun z => Ww T fun w => Rs ec1 z.1 w.1 (tSc w.2 2) ∧ Po N mo n s t g z.2.1 w.2 z.2.2) (ho : oC g a) : Ww (bnd2 F fun x z => Sum.elim (fun v => (sL z.2 a (0 : Int32) (cv v)).bind fun g1 => some ((0 : Int32), (z.1, g1))) (fun q => if q.1 = 20 then some ((1 : Int32), (z.1, z.2)) else none) x) fun z => Ww T fun w => Wr (tSc w.2 2) (cv w.1) a z.1 z.2.2 ∧ Pw N mo n s t g a z.2.1 w.2 z.2.2 := wrp (X := fun q z => if q.1 = 20 then some ((1 : Int32), (z.1, z.2)) else none) hF ho fun q z h1 h2 => by
  by_cases e : q.1 = 20
  · rw [if_pos e, e]; rfl
  · exact absurd (if_neg e) h1
theorem wr21 {F : Option ((α ⊕ (Nat × Nat)) × (cT × zH))} {T : Option (α × twS)} {cv : α → Int64} (hF : Ww F fun z => Ww T fun w => Rs ecA z.1 w.1 (tSc w.2 2) ∧ Po N mo n s t g z.2.1 w.2 z.2.2) (ho : oC g a) : Ww (bnd2 F fun x z => Sum.elim (fun v => (sL z.2 a (0 : Int32) (cv v)).bind fun g1 => some ((0 : Int32), (z.1, g1))) (fun q => if q.1 = 21 then some ((1 : Int32), (z.1, z.2)) else none) x) fun z => Ww T fun w => Wr (tSc w.2 2) (cv w.1) a z.1 z.2.2 ∧ Pw N mo n s t g a z.2.1 w.2 z.2.2 := wrp (X := fun q z => if q.1 = 21 then some ((1 : Int32), (z.1, z.2)) else none) hF ho fun q z h1 h2 => by
  by_cases e : q.1 = 21
  · rw [if_pos e, e]; rfl
  · exact absurd (if_neg e) h1
theorem wr2 {F : Option ((α ⊕ (Nat × Nat)) × (cT × zH))} {T : Option (α × twS)} {cv : α → Int64} (hF : Ww F fun z => Ww T fun w => Rs ec2 z.1 w.1 (tSc w.2 2) ∧ Po N mo n s t g z.2.1 w.2 z.2.2) (ho : oC g a) : Ww (bnd2 F fun x z => Sum.elim (fun v => (sL z.2 a (0 : Int32) (cv v)).bind fun g1 => some ((0 : Int32), (z.1, g1))) (fun q => if q.1 = 20 then some ((1 : Int32), (z.1, z.2)) else (if q.1 = 21 then some ((2 : Int32), (z.1, z.2)) else none)) x) fun z => Ww T fun w => Wr (tSc w.2 2) (cv w.1) a z.1 z.2.2 ∧ Pw N mo n s t g a z.2.1 w.2 z.2.2 := wrp (X := fun q z => if q.1 = 20 then some ((1 : Int32), (z.1, z.2)) else (if q.1 = 21 then some ((2 : Int32), (z.1, z.2)) else none)) hF ho fun q z h1 h2 => by
  by_cases e : q.1 = 20
  · rw [if_pos e, e]; rfl
  · by_cases e1 : q.1 = 21
    · rw [if_neg e, if_pos e1, e1]; rfl
    · exact absurd ((if_neg e).trans (if_neg e1)) h1
theorem wr3 {F : Option ((α ⊕ (Nat × Nat)) × (cT × zH))} {T : Option (α × twS)} {cv : α → Int64} (hF : Ww F fun z => Ww T fun w => Rs ec3 z.1 w.1 (tSc w.2 2) ∧ Po N mo n s t g z.2.1 w.2 z.2.2) (ho : oC g a) : Ww (bnd2 F fun x z => Sum.elim (fun v => (sL z.2 a (0 : Int32) (cv v)).bind fun g1 => some ((0 : Int32), (z.1, g1))) (fun q => if q.1 = 20 then some ((1 : Int32), (z.1, z.2)) else (if q.1 = 21 then some ((2 : Int32), (z.1, z.2)) else (if q.1 = 22 then some ((3 : Int32), (z.1, z.2)) else none))) x) fun z => Ww T fun w => Wr (tSc w.2 2) (cv w.1) a z.1 z.2.2 ∧ Pw N mo n s t g a z.2.1 w.2 z.2.2 := wrp (X := fun q z => if q.1 = 20 then some ((1 : Int32), (z.1, z.2)) else (if q.1 = 21 then some ((2 : Int32), (z.1, z.2)) else (if q.1 = 22 then some ((3 : Int32), (z.1, z.2)) else none))) hF ho fun q z h1 h2 => by
  rcases h2 with e | e | e <;> rw [e] <;> rfl
end WP
section WO
variable {E : zE} {N : iN} {mo n a : Nat} {s : cT} {t : twS} {g : zH}
theorem v_owner (h : Pr E N mo n s t g) (ho : oC g a) (p1 : Int32) (p2 : Int32) : Ww (c_X0_owner E N p1 p2 a s g) fun z => Ww (t_X6_owner E p1 p2 t) fun w => Wr (tSc w.2 2) (w.1.toInt64) a z.1 z.2.2 ∧ Pw N mo n s t g a z.2.1 w.2 z.2.2 :=
  wr21 (cv := (fun (v : Int32) => v.toInt64)) (o_owner h p1 p2) ho
theorem v_area (h : Pr E N mo n s t g) (ho : oC g a) (p1 : Int32) : Ww (c_X0_area E N p1 a s g) fun z => Ww (t_X6_area E p1 t) fun w => Wr (tSc w.2 2) (w.1.toInt64) a z.1 z.2.2 ∧ Pw N mo n s t g a z.2.1 w.2 z.2.2 :=
  wr20 (cv := (fun (v : Int32) => v.toInt64)) (o_area h p1) ho
theorem v_perimeter (h : Pr E N mo n s t g) (ho : oC g a) (p1 : Int32) : Ww (c_X0_perimeter E N p1 a s g) fun z => Ww (t_X6_perimeter E p1 t) fun w => Wr (tSc w.2 2) (w.1.toInt64) a z.1 z.2.2 ∧ Pw N mo n s t g a z.2.1 w.2 z.2.2 :=
  wr20 (cv := (fun (v : Int32) => v.toInt64)) (o_perimeter h p1) ho
theorem v_border (h : Pr E N mo n s t g) (ho : oC g a) (p1 : Int32) (p2 : Int32) : Ww (c_X0_border E N p1 p2 a s g) fun z => Ww (t_X6_border E p1 p2 t) fun w => Wr (tSc w.2 2) (w.1.toInt64) a z.1 z.2.2 ∧ Pw N mo n s t g a z.2.1 w.2 z.2.2 :=
  wr20 (cv := (fun (v : Int32) => v.toInt64)) (o_border h p1 p2) ho
theorem v_isConnected (h : Pr E N mo n s t g) (ho : oC g a) (p1 : Int32) : Ww (c_X0_isConnected E N p1 a s g) fun z => Ww (t_X6_isConnected E p1 t) fun w => Wr (tSc w.2 2) (if w.1 = 0 then 0 else 1) a z.1 z.2.2 ∧ Pw N mo n s t g a z.2.1 w.2 z.2.2 := by
  have e : c_X0_isConnected E N p1 a s g = bnd2 (c_X1_isConnected E N p1 s g) fun x z => Sum.elim (fun v => (sL z.2 a (0 : Int32) (if v = 0 then (0 : Int64) else 1)).bind fun g1 => some ((0 : Int32), (z.1, g1))) (fun q => if q.1 = 20 then some ((1 : Int32), (z.1, z.2)) else none) x := by
    refine congrArg (bnd2 (c_X1_isConnected E N p1 s g)) ?_
    funext x z
    cases x with
    | inr q => rfl
    | inl v =>
      show (if v = 0 then c_X0_isConnected_b15 E N a (0 : Int32) (0 : Int64) z.1 z.2 else c_X0_isConnected_b15 E N a (0 : Int32) (1 : Int64) z.1 z.2) = (sL z.2 a (0 : Int32) (if v = 0 then (0 : Int64) else 1)).bind fun g1 => some ((0 : Int32), (z.1, g1))
      by_cases hv : v = 0
      · rw [if_pos hv, if_pos hv]; rfl
      · rw [if_neg hv, if_neg hv]; rfl
  rw [e]
  exact wr20 (cv := fun v => if v = 0 then (0 : Int64) else 1) (o_isConnected h p1) ho
theorem v_distance (h : Pr E N mo n s t g) (ho : oC g a) (p1 : Int32) (p2 : Int32) (p3 : Int32) : Ww (c_X0_distance E N p1 p2 p3 a s g) fun z => Ww (t_X6_distance E p1 p2 p3 t) fun w => Wr (tSc w.2 2) (w.1.toInt64) a z.1 z.2.2 ∧ Pw N mo n s t g a z.2.1 w.2 z.2.2 :=
  wr2 (cv := (fun (v : Int32) => v.toInt64)) (o_distance h p1 p2 p3) ho
theorem v_cede (h : Pr E N mo n s t g) (ho : oC g a) (p1 : Int32) (p2 : Int32) (p3 : Int32) (p4 : Int32) (p5 : Int32) (p6 : Int32) : Ww (c_X0_cede E N p1 p2 p3 p4 p5 p6 a s g) fun z => Ww (t_X6_cede E p1 p2 p3 p4 p5 p6 t) fun w => Wr (tSc w.2 2) (w.1.toInt64) a z.1 z.2.2 ∧ Pw N mo n s t g a z.2.1 w.2 z.2.2 :=
  wr2 (cv := (fun (v : Int32) => v.toInt64)) (o_cede h p1 p2 p3 p4 p5 p6) ho
theorem v_outletOwner (h : Pr E N mo n s t g) (ho : oC g a) (p1 : Int32) : Ww (c_X0_outletOwner E N p1 a s g) fun z => Ww (t_X6_outletOwner E p1 t) fun w => Wr (tSc w.2 2) (w.1.toInt64) a z.1 z.2.2 ∧ Pw N mo n s t g a z.2.1 w.2 z.2.2 :=
  wr20 (cv := (fun (v : Int32) => v.toInt64)) (o_outletOwner h p1) ho
theorem v_outletCell (h : Pr E N mo n s t g) (ho : oC g a) (p1 : Int32) : Ww (c_X0_outletCell E N p1 a s g) fun z => Ww (t_X6_outletCell E p1 t) fun w => Wr (tSc w.2 2) (w.1.toInt64) a z.1 z.2.2 ∧ Pw N mo n s t g a z.2.1 w.2 z.2.2 :=
  wr20 (cv := (fun (v : Int32) => v.toInt64)) (o_outletCell h p1) ho
theorem v_bestSite (h : Pr E N mo n s t g) (ho : oC g a) (p1 : Int32) : Ww (c_X0_bestSite E N p1 a s g) fun z => Ww (t_X6_bestSite E p1 t) fun w => Wr (tSc w.2 2) (w.1.toInt64) a z.1 z.2.2 ∧ Pw N mo n s t g a z.2.1 w.2 z.2.2 :=
  wr20 (cv := (fun (v : Int32) => v.toInt64)) (o_bestSite h p1) ho
theorem v_coverage (h : Pr E N mo n s t g) (ho : oC g a) (p1 : Int32) (p2 : Int32) : Ww (c_X0_coverage E N p1 p2 a s g) fun z => Ww (t_X6_coverage E p1 p2 t) fun w => Wr (tSc w.2 2) (w.1.toInt64) a z.1 z.2.2 ∧ Pw N mo n s t g a z.2.1 w.2 z.2.2 :=
  wr2 (cv := (fun (v : Int32) => v.toInt64)) (o_coverage h p1 p2) ho
theorem v_rivalCells (h : Pr E N mo n s t g) (ho : oC g a) (p1 : Int32) (p2 : Int32) : Ww (c_X0_rivalCells E N p1 p2 a s g) fun z => Ww (t_X6_rivalCells E p1 p2 t) fun w => Wr (tSc w.2 2) (w.1.toInt64) a z.1 z.2.2 ∧ Pw N mo n s t g a z.2.1 w.2 z.2.2 :=
  wr2 (cv := (fun (v : Int32) => v.toInt64)) (o_rivalCells h p1 p2) ho
theorem v_halvingLine (h : Pr E N mo n s t g) (ho : oC g a) (p1 : Int32) : Ww (c_X0_halvingLine E N p1 a s g) fun z => Ww (t_X6_halvingLine E p1 t) fun w => Wr (tSc w.2 2) (w.1.toInt64) a z.1 z.2.2 ∧ Pw N mo n s t g a z.2.1 w.2 z.2.2 :=
  wr20 (cv := (fun (v : Int32) => v.toInt64)) (o_halvingLine h p1) ho
theorem v_royalty (h : Pr E N mo n s t g) (ho : oC g a) (p1 : Int32) (p2 : Int64) : Ww (c_X0_royalty E N p1 p2 a s g) fun z => Ww (t_X6_royalty E p1 p2 t) fun w => Wr (tSc w.2 2) (w.1) a z.1 z.2.2 ∧ Pw N mo n s t g a z.2.1 w.2 z.2.2 :=
  wr2 (cv := (fun v => v)) (o_royalty h (fun i hi => r_nt5 h.2.2.1 hi) p1 p2) ho
theorem v_planOf (h : Pr E N mo n s t g) (ho : oC g a) (p1 : Int32) : Ww (c_X0_planOf E N p1 a s g) fun z => Ww (t_X6_planOf E p1 t) fun w => Wr (tSc w.2 2) (w.1.toInt64) a z.1 z.2.2 ∧ Pw N mo n s t g a z.2.1 w.2 z.2.2 :=
  wr20 (cv := (fun (v : Int32) => v.toInt64)) (o_planOf h p1) ho
theorem v_setPlan (h : Pr E N mo n s t g) (ho : oC g a) (p1 : Int32) (p2 : Int32) : Ww (c_X0_setPlan E N p1 p2 a s g) fun z => Ww (t_X6_setPlan E p1 p2 t) fun w => Wr (tSc w.2 2) (w.1.toInt64) a z.1 z.2.2 ∧ Pw N mo n s t g a z.2.1 w.2 z.2.2 :=
  wr20 (cv := (fun (v : Int32) => v.toInt64)) (o_setPlan h p1 p2) ho
theorem v_cheapestPlan (h : Pr E N mo n s t g) (ho : oC g a) (p1 : Int32) : Ww (c_X0_cheapestPlan E N p1 a s g) fun z => Ww (t_X6_cheapestPlan E p1 t) fun w => Wr (tSc w.2 2) (w.1.toInt64) a z.1 z.2.2 ∧ Pw N mo n s t g a z.2.1 w.2 z.2.2 :=
  wr20 (cv := (fun (v : Int32) => v.toInt64)) (o_cheapestPlan h (fun i hi => r_nt5 h.2.2.1 hi) p1) ho
theorem v_reportSales (h : Pr E N mo n s t g) (ho : oC g a) (p1 : Int32) (p2 : Int64) : Ww (c_X0_reportSales E N p1 p2 a s g) fun z => Ww (t_X6_reportSales E p1 p2 t) fun w => Wr (tSc w.2 2) (w.1) a z.1 z.2.2 ∧ Pw N mo n s t g a z.2.1 w.2 z.2.2 :=
  wr3 (cv := (fun v => v)) (o_reportSales h p1 p2) ho
theorem v_deliver (h : Pr E N mo n s t g) (ho : oC g a) (p1 : Int32) (p2 : Int32) (p3 : Int32) (p4 : Int64) : Ww (c_X0_deliver E N p1 p2 p3 p4 a s g) fun z => Ww (t_X6_deliver E p1 p2 p3 p4 t) fun w => Wr (tSc w.2 2) (w.1) a z.1 z.2.2 ∧ Pw N mo n s t g a z.2.1 w.2 z.2.2 :=
  wr3 (cv := (fun v => v)) (o_deliver h p1 p2 p3 p4) ho
theorem v_sales (h : Pr E N mo n s t g) (ho : oC g a) (p1 : Int32) : Ww (c_X0_sales E N p1 a s g) fun z => Ww (t_X6_sales E p1 t) fun w => Wr (tSc w.2 2) (w.1) a z.1 z.2.2 ∧ Pw N mo n s t g a z.2.1 w.2 z.2.2 :=
  wr20 (cv := (fun v => v)) (o_sales h p1) ho
theorem v_salesOf (h : Pr E N mo n s t g) (ho : oC g a) (p1 : Int32) (p2 : Int32) : Ww (c_X0_salesOf E N p1 p2 a s g) fun z => Ww (t_X6_salesOf E p1 p2 t) fun w => Wr (tSc w.2 2) (w.1) a z.1 z.2.2 ∧ Pw N mo n s t g a z.2.1 w.2 z.2.2 :=
  wr2 (cv := (fun v => v)) (o_salesOf h p1 p2) ho
theorem v_creditDue (h : Pr E N mo n s t g) (ho : oC g a) (p1 : Int32) (p2 : Int32) : Ww (c_X0_creditDue E N p1 p2 a s g) fun z => Ww (t_X6_creditDue E p1 p2 t) fun w => Wr (tSc w.2 2) (w.1) a z.1 z.2.2 ∧ Pw N mo n s t g a z.2.1 w.2 z.2.2 :=
  wr20 (cv := (fun v => v)) (o_creditDue h p1 p2) ho
theorem v_predictDue (h : Pr E N mo n s t g) (ho : oC g a) (p1 : Int32) (p2 : Int32) : Ww (c_X0_predictDue E N p1 p2 a s g) fun z => Ww (t_X6_predictDue E p1 p2 t) fun w => Wr (tSc w.2 2) (w.1) a z.1 z.2.2 ∧ Pw N mo n s t g a z.2.1 w.2 z.2.2 :=
  wr2 (cv := (fun v => v)) (o_predictDue h (fun i hi => r_nt5 h.2.2.1 hi) p1 p2) ho
theorem v_balance (h : Pr E N mo n s t g) (ho : oC g a) (p1 : Int32) : Ww (c_X0_balance E N p1 a s g) fun z => Ww (t_X6_balance E p1 t) fun w => Wr (tSc w.2 2) (w.1) a z.1 z.2.2 ∧ Pw N mo n s t g a z.2.1 w.2 z.2.2 :=
  wr20 (cv := (fun v => v)) (o_balance h p1) ho
theorem v_pay (h : Pr E N mo n s t g) (ho : oC g a) (p1 : Int32) (p2 : Int64) : Ww (c_X0_pay E N p1 p2 a s g) fun z => Ww (t_X6_pay E p1 p2 t) fun w => Wr (tSc w.2 2) (w.1) a z.1 z.2.2 ∧ Pw N mo n s t g a z.2.1 w.2 z.2.2 :=
  wr2 (cv := (fun v => v)) (o_pay h p1 p2) ho
theorem v_monthsOverdue (h : Pr E N mo n s t g) (ho : oC g a) (p1 : Int32) : Ww (c_X0_monthsOverdue E N p1 a s g) fun z => Ww (t_X6_monthsOverdue E p1 t) fun w => Wr (tSc w.2 2) (w.1.toInt64) a z.1 z.2.2 ∧ Pw N mo n s t g a z.2.1 w.2 z.2.2 :=
  wr20 (cv := (fun (v : Int32) => v.toInt64)) (o_monthsOverdue h p1) ho
theorem v_payOff (h : Pr E N mo n s t g) (ho : oC g a) (p1 : Int32) (p2 : Int64) : Ww (c_X0_payOff E N p1 p2 a s g) fun z => Ww (t_X6_payOff E p1 p2 t) fun w => Wr (tSc w.2 2) (w.1.toInt64) a z.1 z.2.2 ∧ Pw N mo n s t g a z.2.1 w.2 z.2.2 :=
  wr2 (cv := (fun (v : Int32) => v.toInt64)) (o_payOff h p1 p2) ho
theorem v_terminate (h : Pr E N mo n s t g) (ho : oC g a) (p1 : Int32) : Ww (c_X0_terminate E N p1 a s g) fun z => Ww (t_X6_terminate E p1 t) fun w => Wr (tSc w.2 2) (if w.1 = 0 then 0 else 1) a z.1 z.2.2 ∧ Pw N mo n s t g a z.2.1 w.2 z.2.2 := by
  have e : c_X0_terminate E N p1 a s g = bnd2 (c_X1_terminate E N p1 s g) fun x z => Sum.elim (fun v => (sL z.2 a (0 : Int32) (if v = 0 then (0 : Int64) else 1)).bind fun g1 => some ((0 : Int32), (z.1, g1))) (fun q => if q.1 = 20 then some ((1 : Int32), (z.1, z.2)) else none) x := by
    refine congrArg (bnd2 (c_X1_terminate E N p1 s g)) ?_
    funext x z
    cases x with
    | inr q => rfl
    | inl v =>
      show (if v = 0 then c_X0_terminate_b15 E N a (0 : Int32) (0 : Int64) z.1 z.2 else c_X0_terminate_b15 E N a (0 : Int32) (1 : Int64) z.1 z.2) = (sL z.2 a (0 : Int32) (if v = 0 then (0 : Int64) else 1)).bind fun g1 => some ((0 : Int32), (z.1, g1))
      by_cases hv : v = 0
      · rw [if_pos hv, if_pos hv]; rfl
      · rw [if_neg hv, if_neg hv]; rfl
  rw [e]
  exact wr20 (cv := fun v => if v = 0 then (0 : Int64) else 1) (o_terminate h p1) ho
theorem v_status (h : Pr E N mo n s t g) (ho : oC g a) (p1 : Int32) : Ww (c_X0_status E N p1 a s g) fun z => Ww (t_X6_status E p1 t) fun w => Wr (tSc w.2 2) (w.1.toInt64) a z.1 z.2.2 ∧ Pw N mo n s t g a z.2.1 w.2 z.2.2 :=
  wr20 (cv := (fun (v : Int32) => v.toInt64)) (o_status h p1) ho
theorem v_contributions (h : Pr E N mo n s t g) (ho : oC g a) (p1 : Int32) : Ww (c_X0_contributions E N p1 a s g) fun z => Ww (t_X6_contributions E p1 t) fun w => Wr (tSc w.2 2) (w.1) a z.1 z.2.2 ∧ Pw N mo n s t g a z.2.1 w.2 z.2.2 :=
  wr20 (cv := (fun v => v)) (o_contributions h p1) ho
theorem v_spent (h : Pr E N mo n s t g) (ho : oC g a) (p1 : Int32) : Ww (c_X0_spent E N p1 a s g) fun z => Ww (t_X6_spent E p1 t) fun w => Wr (tSc w.2 2) (w.1) a z.1 z.2.2 ∧ Pw N mo n s t g a z.2.1 w.2 z.2.2 :=
  wr21 (cv := (fun v => v)) (o_spent h p1) ho
theorem v_campaign (h : Pr E N mo n s t g) (ho : oC g a) (p1 : Int64) : Ww (c_X0_campaign E N p1 a s g) fun z => Ww (t_X6_campaign E p1 t) fun w => Wr (tSc w.2 2) (if w.1 = 0 then 0 else 1) a z.1 z.2.2 ∧ Pw N mo n s t g a z.2.1 w.2 z.2.2 := by
  have e : c_X0_campaign E N p1 a s g = bnd2 (c_X1_campaign E N p1 s g) fun x z => Sum.elim (fun v => (sL z.2 a (0 : Int32) (if v = 0 then (0 : Int64) else 1)).bind fun g1 => some ((0 : Int32), (z.1, g1))) (fun q => if q.1 = 21 then some ((1 : Int32), (z.1, z.2)) else none) x := by
    refine congrArg (bnd2 (c_X1_campaign E N p1 s g)) ?_
    funext x z
    cases x with
    | inr q => rfl
    | inl v =>
      show (if v = 0 then c_X0_campaign_b15 E N a (0 : Int32) (0 : Int64) z.1 z.2 else c_X0_campaign_b15 E N a (0 : Int32) (1 : Int64) z.1 z.2) = (sL z.2 a (0 : Int32) (if v = 0 then (0 : Int64) else 1)).bind fun g1 => some ((0 : Int32), (z.1, g1))
      by_cases hv : v = 0
      · rw [if_pos hv, if_pos hv]; rfl
      · rw [if_neg hv, if_neg hv]; rfl
  rw [e]
  exact wr21 (cv := fun v => if v = 0 then (0 : Int64) else 1) (o_campaign h p1) ho
theorem v_grant (h : Pr E N mo n s t g) (ho : oC g a) (p1 : Int32) (p2 : Int64) : Ww (c_X0_grant E N p1 p2 a s g) fun z => Ww (t_X6_grant E p1 p2 t) fun w => Wr (tSc w.2 2) (if w.1 = 0 then 0 else 1) a z.1 z.2.2 ∧ Pw N mo n s t g a z.2.1 w.2 z.2.2 := by
  have e : c_X0_grant E N p1 p2 a s g = bnd2 (c_X1_grant E N p1 p2 s g) fun x z => Sum.elim (fun v => (sL z.2 a (0 : Int32) (if v = 0 then (0 : Int64) else 1)).bind fun g1 => some ((0 : Int32), (z.1, g1))) (fun q => if q.1 = 20 then some ((1 : Int32), (z.1, z.2)) else (if q.1 = 21 then some ((2 : Int32), (z.1, z.2)) else none)) x := by
    refine congrArg (bnd2 (c_X1_grant E N p1 p2 s g)) ?_
    funext x z
    cases x with
    | inr q => rfl
    | inl v =>
      show (if v = 0 then c_X0_grant_b17 E N a (0 : Int32) (0 : Int64) z.1 z.2 else c_X0_grant_b17 E N a (0 : Int32) (1 : Int64) z.1 z.2) = (sL z.2 a (0 : Int32) (if v = 0 then (0 : Int64) else 1)).bind fun g1 => some ((0 : Int32), (z.1, g1))
      by_cases hv : v = 0
      · rw [if_pos hv, if_pos hv]; rfl
      · rw [if_neg hv, if_neg hv]; rfl
  rw [e]
  exact wr2 (cv := fun v => if v = 0 then (0 : Int64) else 1) (o_grant h p1 p2) ho
theorem v_allowance (h : Pr E N mo n s t g) (ho : oC g a) (p1 : Int32) : Ww (c_X0_allowance E N p1 a s g) fun z => Ww (t_X6_allowance E p1 t) fun w => Wr (tSc w.2 2) (w.1) a z.1 z.2.2 ∧ Pw N mo n s t g a z.2.1 w.2 z.2.2 :=
  wr20 (cv := (fun v => v)) (o_allowance h p1) ho
theorem v_nationalShare (h : Pr E N mo n s t g) (ho : oC g a) (p1 : Int32) : Ww (c_X0_nationalShare E N p1 a s g) fun z => Ww (t_X6_nationalShare E p1 t) fun w => Wr (tSc w.2 2) (w.1) a z.1 z.2.2 ∧ Pw N mo n s t g a z.2.1 w.2 z.2.2 :=
  wr20 (cv := (fun v => v)) (o_nationalShare h p1) ho
theorem v_requestTransfer (h : Pr E N mo n s t g) (ho : oC g a) (p1 : Int32) (p2 : Int32) (p3 : Int64) : Ww (c_X0_requestTransfer E N p1 p2 p3 a s g) fun z => Ww (t_X6_requestTransfer E p1 p2 p3 t) fun w => Wr (tSc w.2 2) (if w.1 = 0 then 0 else 1) a z.1 z.2.2 ∧ Pw N mo n s t g a z.2.1 w.2 z.2.2 := by
  have e : c_X0_requestTransfer E N p1 p2 p3 a s g = bnd2 (c_X1_requestTransfer E N p1 p2 p3 s g) fun x z => Sum.elim (fun v => (sL z.2 a (0 : Int32) (if v = 0 then (0 : Int64) else 1)).bind fun g1 => some ((0 : Int32), (z.1, g1))) (fun q => if q.1 = 20 then some ((1 : Int32), (z.1, z.2)) else (if q.1 = 21 then some ((2 : Int32), (z.1, z.2)) else none)) x := by
    refine congrArg (bnd2 (c_X1_requestTransfer E N p1 p2 p3 s g)) ?_
    funext x z
    cases x with
    | inr q => rfl
    | inl v =>
      show (if v = 0 then c_X0_requestTransfer_b18 E N a (0 : Int32) (0 : Int64) z.1 z.2 else c_X0_requestTransfer_b18 E N a (0 : Int32) (1 : Int64) z.1 z.2) = (sL z.2 a (0 : Int32) (if v = 0 then (0 : Int64) else 1)).bind fun g1 => some ((0 : Int32), (z.1, g1))
      by_cases hv : v = 0
      · rw [if_pos hv, if_pos hv]; rfl
      · rw [if_neg hv, if_neg hv]; rfl
  rw [e]
  exact wr2 (cv := fun v => if v = 0 then (0 : Int64) else 1) (o_requestTransfer h p1 p2 p3) ho
theorem v_vote (h : Pr E N mo n s t g) (ho : oC g a) (p1 : Int32) (p2 : Int32) (p3 : Int32) : Ww (c_X0_vote E N p1 p2 p3 a s g) fun z => Ww (t_X6_vote E p1 p2 p3 t) fun w => Wr (tSc w.2 2) (w.1.toInt64) a z.1 z.2.2 ∧ Pw N mo n s t g a z.2.1 w.2 z.2.2 :=
  wr2 (cv := (fun (v : Int32) => v.toInt64)) (o_vote h p1 p2 p3) ho
theorem v_exercise (h : Pr E N mo n s t g) (ho : oC g a) (p1 : Int32) : Ww (c_X0_exercise E N p1 a s g) fun z => Ww (t_X6_exercise E p1 t) fun w => Wr (tSc w.2 2) (if w.1 = 0 then 0 else 1) a z.1 z.2.2 ∧ Pw N mo n s t g a z.2.1 w.2 z.2.2 := by
  have e : c_X0_exercise E N p1 a s g = bnd2 (c_X1_exercise E N p1 s g) fun x z => Sum.elim (fun v => (sL z.2 a (0 : Int32) (if v = 0 then (0 : Int64) else 1)).bind fun g1 => some ((0 : Int32), (z.1, g1))) (fun q => if q.1 = 20 then some ((1 : Int32), (z.1, z.2)) else none) x := by
    refine congrArg (bnd2 (c_X1_exercise E N p1 s g)) ?_
    funext x z
    cases x with
    | inr q => rfl
    | inl v =>
      show (if v = 0 then c_X0_exercise_b15 E N a (0 : Int32) (0 : Int64) z.1 z.2 else c_X0_exercise_b15 E N a (0 : Int32) (1 : Int64) z.1 z.2) = (sL z.2 a (0 : Int32) (if v = 0 then (0 : Int64) else 1)).bind fun g1 => some ((0 : Int32), (z.1, g1))
      by_cases hv : v = 0
      · rw [if_pos hv, if_pos hv]; rfl
      · rw [if_neg hv, if_neg hv]; rfl
  rw [e]
  exact wr20 (cv := fun v => if v = 0 then (0 : Int64) else 1) (o_exercise h p1) ho
theorem v_withdraw (h : Pr E N mo n s t g) (ho : oC g a) (p1 : Int32) : Ww (c_X0_withdraw E N p1 a s g) fun z => Ww (t_X6_withdraw E p1 t) fun w => Wr (tSc w.2 2) (if w.1 = 0 then 0 else 1) a z.1 z.2.2 ∧ Pw N mo n s t g a z.2.1 w.2 z.2.2 := by
  have e : c_X0_withdraw E N p1 a s g = bnd2 (c_X1_withdraw E N p1 s g) fun x z => Sum.elim (fun v => (sL z.2 a (0 : Int32) (if v = 0 then (0 : Int64) else 1)).bind fun g1 => some ((0 : Int32), (z.1, g1))) (fun q => if q.1 = 20 then some ((1 : Int32), (z.1, z.2)) else none) x := by
    refine congrArg (bnd2 (c_X1_withdraw E N p1 s g)) ?_
    funext x z
    cases x with
    | inr q => rfl
    | inl v =>
      show (if v = 0 then c_X0_withdraw_b15 E N a (0 : Int32) (0 : Int64) z.1 z.2 else c_X0_withdraw_b15 E N a (0 : Int32) (1 : Int64) z.1 z.2) = (sL z.2 a (0 : Int32) (if v = 0 then (0 : Int64) else 1)).bind fun g1 => some ((0 : Int32), (z.1, g1))
      by_cases hv : v = 0
      · rw [if_pos hv, if_pos hv]; rfl
      · rw [if_neg hv, if_neg hv]; rfl
  rw [e]
  exact wr20 (cv := fun v => if v = 0 then (0 : Int64) else 1) (o_withdraw h p1) ho
theorem v_transferState (h : Pr E N mo n s t g) (ho : oC g a) (p1 : Int32) : Ww (c_X0_transferState E N p1 a s g) fun z => Ww (t_X6_transferState E p1 t) fun w => Wr (tSc w.2 2) (w.1.toInt64) a z.1 z.2.2 ∧ Pw N mo n s t g a z.2.1 w.2 z.2.2 :=
  wr20 (cv := (fun (v : Int32) => v.toInt64)) (o_transferState h p1) ho
theorem v_transferWait (h : Pr E N mo n s t g) (ho : oC g a) (p1 : Int32) : Ww (c_X0_transferWait E N p1 a s g) fun z => Ww (t_X6_transferWait E p1 t) fun w => Wr (tSc w.2 2) (w.1.toInt64) a z.1 z.2.2 ∧ Pw N mo n s t g a z.2.1 w.2 z.2.2 :=
  wr20 (cv := (fun (v : Int32) => v.toInt64)) (o_transferWait h p1) ho
theorem v_generation (h : Pr E N mo n s t g) (ho : oC g a) (p1 : Int32) : Ww (c_X0_generation E N p1 a s g) fun z => Ww (t_X6_generation E p1 t) fun w => Wr (tSc w.2 2) (w.1.toInt64) a z.1 z.2.2 ∧ Pw N mo n s t g a z.2.1 w.2 z.2.2 :=
  wr20 (cv := (fun (v : Int32) => v.toInt64)) (o_generation h p1) ho
theorem v_worth (h : Pr E N mo n s t g) (ho : oC g a) (p1 : Int32) : Ww (c_X0_worth E N p1 a s g) fun z => Ww (t_X6_worth E p1 t) fun w => Wr (tSc w.2 2) (w.1.toInt64) a z.1 z.2.2 ∧ Pw N mo n s t g a z.2.1 w.2 z.2.2 :=
  wr20 (cv := (fun (v : Int32) => v.toInt64)) (o_worth h p1) ho
end WO
