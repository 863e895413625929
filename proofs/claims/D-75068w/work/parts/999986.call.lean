/-! every call on the books: the component's answer is the twin's, and the world goes on *(printed)* -/
set_option maxRecDepth 100000
def Wd (X : cT → (Nat → Option zC) → twS → Prop) (q x a c : Nat) (H : zH) (t : twS) : Prop := ∃ n p s N mo nb, Wo X q x a c n H t p s N mo nb
/-- a wrapped call, and the twin's *(val: what lies in out)* -/
def Ans {α : Type} (fop : Option (Int32 × zH)) (T : Option (α × twS)) (val : α → Int64) (a : Nat) (P : zH → twS → Prop) : Prop := ∃ k H1 v t1, fop = some (k, H1) ∧ T = some (v, t1) ∧ k = tSc t1 2 ∧ (k = 0 → dL H1 a 0 = some (val v)) ∧ P H1 t1
theorem cH_two {p : cP} {p2 : Nat → Option Nat} {s : cT} {g : zH} (h : okP p s) (h2 : okP (p.1, p2) s) : cH p s g = cH (p.1, p2) s g := by
  refine Prod.ext (funext fun b => ?_) rfl
  show (match p.2 b with
    | some c => if (s.1 c).1 = 0 then g.1 b else some (cC p.1 s c)
    | none => g.1 b) = (match p2 b with
    | some c => if (s.1 c).1 = 0 then g.1 b else some (cC p.1 s c)
    | none => g.1 b)
  cases h3 : p.2 b with
  | none =>
    cases h4 : p2 b with
    | none => rfl
    | some e =>
      by_cases w : (s.1 e).1 = 0
      · exact (if_pos w).symm
      · have e1 : p.1 e = b := h2.2 b e h4
        have e2 := h.1 e w
        rw [e1, h3] at e2
        cases e2
  | some d =>
    by_cases w : (s.1 d).1 = 0
    · refine (if_pos w).trans ?_
      cases h4 : p2 b with
      | none => rfl
      | some e =>
        by_cases w2 : (s.1 e).1 = 0
        · exact (if_pos w2).symm
        · have e1 : p.1 e = b := h2.2 b e h4
          have e2 := h.1 e w2
          rw [e1, h3] at e2
          cases e2
          exact absurd w w2
    · have e1 : p.1 d = b := h.2 b d h3
      have e2 : p2 (p.1 d) = some d := h2.1 d w
      rw [e1] at e2
      rw [e2]
section WC
variable {X : cT → (Nat → Option zC) → twS → Prop} {E : zE} {q x a c n : Nat} {H : zH} {t : twS} {p : cP} {s : cT} {N : iN} {mo nb : Nat} {α : Type}
theorem W_call (hX : stb X) (h : Wo X q x a (c + 1) n H t p s N mo nb) {cop : Option (Int32 × (cT × zH))} {F : Nat → zH → Option (Int32 × zH)} {T : Option (α × twS)} {val : α → Int64} (cs : ∀ r s9 g9, cop = some (r, (s9, g9)) → F (p.1 1) (cH p s H) = some (r, cH p s9 g9) ∧ iH p s9 g9 N) (v : Ww cop fun z => Ww T fun w => Wr (tSc w.2 2) (val w.1) a z.1 z.2.2 ∧ Pw N mo n s t H a z.2.1 w.2 z.2.2) : Ans (F x H) T val a (Wd X q x a c) := by
  obtain ⟨⟨k, s1, g1⟩, e1, ⟨w, t1⟩, e2, e3, e4⟩ := v
  obtain ⟨k1, k2⟩ := cs k s1 g1 e1
  rw [h.1.2.2.2, h.1.2.1] at k1
  refine ⟨k, cH p s1 g1, w, t1, k1, e2, e3.1, fun hk => ?_, n + 1, p, s1, N, mo, nb, Wo_op hX h e4 k2⟩
  rw [r_dL h.2.2.2.1.1]
  exact e3.2 hk
theorem W_open (hX : stb X) (hE : 20000 ≤ E.1) (h : Wo X q x a (c + 1) n H t p s N mo nb) (p1 p2 p3 : Int32) : Ans (f_X0_openOutlet E x p1 p2 p3 a H) (t_X6_openOutlet E p1 p2 p3 t) (fun v => v.toInt64) a (Wd X q x a c) := by
  have hP := Wo_Pr h hE
  have ho := h.2.2.2.1.2.1
  have ha := h.2.2.2.1.1
  obtain ⟨⟨r, s9, g9⟩, ez, hs, hg, ⟨w, t1⟩, ew, hw⟩ := o_open hP p1 p2 p3
  have hs : s9 = s := hs
  subst hs
  have hg : gx H g9 300 3000 := hg
  obtain ⟨k1, k2⟩ := cs_open E h.1.2.2.1 ez
  rw [h.1.2.2.2, h.1.2.1] at k1
  have hck : cko H x 0 = some () := by
    have k := c_cko (g := H) h.1.1.1 h.1.2.2.1.2.2.1.1
    rw [h.1.2.2.2, h.1.2.1] at k
    exact k
  have hPo : ∀ t2 : twS, t2.1 = t.1 → okT t t2 → Po N mo n s9 t H s9 t2 g9 := fun t2 h1 h2 => Po_ro hP.1 hP.2.1 h1 h2 hg
  unfold f_X0_openOutlet f_X0_openOutlet_b0 f_X0_openOutlet_b15 f_X0_openOutlet_b19
  rw [hck, b1_some, k1]
  rcases r with (v | ce) | qq
  · have hw : (w, t1) = (v, uSc t 2 0) := hw
    cases hw
    obtain ⟨g2, e1, e2, e3⟩ := Pw_v (hPo (uSc t 2 0) rfl (okT_thr (okT_rfl t) 0)) ho w.toInt64
    refine ⟨0, cH p s9 g2, w, uSc t 2 0, ?_, ew, rfl, fun _ => by rw [r_dL ha]; exact e2, n + 1, p, s9, N, mo, nb, Wo_op hX h e3 (iH_g k2 (gle_sL e1))⟩
    show ((sL (cH p s9 g9) a (0 : Int32) w.toInt64).bind fun h7 => some ((0 : Int32), h7)) = _
    rw [r_sL ha, e1]
    rfl
  · obtain ⟨i, xx, yy, hi, hx, hy, e1, e2, hno, e3⟩ := hw
    have e3 : (w, t1) = (Int32.ofNat N.2.2.1, uSt (uSc t 2 0) (puO t.1 N.2.2.1 i xx yy)) := e3
    cases e3
    subst e1 e2
    obtain ⟨H1, H2, y1, y2, y3, n1⟩ := Wo_out hX hE h hg hi hx hy hno
    refine ⟨0, H2, Int32.ofNat N.2.2.1, _, ?_, ew, rfl, fun _ => y3, n + 1, n1⟩
    show bnd2 (opT E x (Int32.ofNat i) (Int32.ofNat (30 * yy + xx)) (cH p s9 g9)) _ = _
    rw [y1, b2_some, el_l, y2, b1_some]
  · obtain ⟨k, e1, e2, e3⟩ := hw
    have e1 : t1 = uSc (uSc t 2 0) 2 k := e1
    have hT : okT t t1 := by rw [e1]; exact okT_thr (okT_thr (okT_rfl t) 0) k
    have hPw := Pw_e (hPo t1 (by rw [e1]; rfl) hT) ho
    have hk : tSc t1 2 = k := by rw [e1]; rfl
    rcases e3 with e3 | e3
    · refine ⟨1, cH p s9 g9, w, t1, ?_, ew, ?_, fun z => absurd z (by decide), n + 1, p, s9, N, mo, nb, Wo_op hX h hPw k2⟩
      · show (if qq.1 = 20 then some ((1 : Int32), cH p s9 g9) else if qq.1 = 21 then some ((2 : Int32), cH p s9 g9) else none) = _
        rw [if_pos e3]
      · rw [hk, e2, e3]; rfl
    · refine ⟨2, cH p s9 g9, w, t1, ?_, ew, ?_, fun z => absurd z (by decide), n + 1, p, s9, N, mo, nb, Wo_op hX h hPw k2⟩
      · show (if qq.1 = 20 then some ((1 : Int32), cH p s9 g9) else if qq.1 = 21 then some ((2 : Int32), cH p s9 g9) else none) = _
        rw [if_neg (by rw [e3]; decide), if_pos e3]
      · rw [hk, e2, e3]; rfl
theorem W_close (hX : stb X) (hE : 20000 ≤ E.1) (h : Wo X q x a (c + 1) n H t p s N mo nb) : Ans (f_X0_closeMonth E x a H) (t_X6_closeMonth E t) (fun v => v.toInt64) a (Wd X q x a c) := by
  have hP := Wo_Pr h hE
  have ho := h.2.2.2.1.2.1
  have ha := h.2.2.2.1.1
  have XTv : XT = 1000000 := rfl
  have hN : N.1 + 200 ≤ XT := by have := h.2.2.1.1; have := h.2.2.1.2.1; omega
  obtain ⟨⟨k, s1, g1⟩, e1, ⟨w, t1⟩, e2, e3, e4⟩ := v_closeMonth hP ho hN (fun b hb => by
    by_cases w : (s.1 (XT + b)).1 = 0
    · exact w
    · have := Kp_dyn h.1.1 (Nat.le_add_right _ _) w
      omega)
  obtain ⟨p2, ⟨k1, k2⟩, k3⟩ := cs_X0_closeMonth (p := p) E hN h.1.2.2.1 h.1.1.2.2.1 (fun r s9 g9 hr => by
    unfold c_X1_requireMonth c_X1_requireMonth_b0 at hr
    by_cases c1 : s.2.1 (N.1 + 10) 5 = (60 : Int32)
    · have hr := zif_t c1 hr
      obtain ⟨v, z, e9, hr⟩ := zbind2 hr
      obtain ⟨_, e10, hr⟩ := zbind hr
      cases hr
      exact gle_nO e9
    · have hr := zif_f c1 hr
      cases hr
      exact Nat.le_refl _) ha ho.1 e1
  rw [h.1.2.2.2, h.1.2.1] at k1
  have hpa : (p.1, p2).2 a = none := (k3 a ho.1).trans ha
  refine ⟨k, cH (p.1, p2) s1 g1, w, t1, k1, e2, e3.1, fun hk => by rw [r_dL hpa]; exact e3.2 hk, ?_⟩
  rcases e4 with e4 | e4
  · have hp1 : okP p s1 := okP_t h.1.1.1 e4.2.2.1.1
    have hK : cH p s1 g1 = cH (p.1, p2) s1 g1 := cH_two hp1 k2.1
    have hi : iH p s1 g1 N := ⟨hp1, fun b hb => h.1.1.2.1 b (Nat.le_trans e4.2.2.2.2.1 hb), k2.2.2⟩
    have hw := Wo_op hX h e4 hi
    rw [hK] at hw
    exact ⟨n + 1, p, s1, N, mo, nb, hw⟩
  · exact ⟨n + 1, _, s1, N, mo + 1, nb, Wo_cm hX h e4 k2 k3⟩
theorem W_owner (hX : stb X) (hE : 20000 ≤ E.1) (h : Wo X q x a (c + 1) n H t p s N mo nb) (p1 : Int32) (p2 : Int32) : Ans (f_X0_owner E x p1 p2 a H) (t_X6_owner E p1 p2 t) (fun v => v.toInt64) a (Wd X q x a c) := W_call (cop := c_X0_owner E N p1 p2 a s H) (F := fun x H => f_X0_owner E x p1 p2 a H) hX h (fun r s9 g9 e => cs_X0_owner E h.1.2.2.1 h.2.2.2.1.1 e) (v_owner (Wo_Pr h hE) h.2.2.2.1.2.1 p1 p2)
theorem W_area (hX : stb X) (hE : 20000 ≤ E.1) (h : Wo X q x a (c + 1) n H t p s N mo nb) (p1 : Int32) : Ans (f_X0_area E x p1 a H) (t_X6_area E p1 t) (fun v => v.toInt64) a (Wd X q x a c) := W_call (cop := c_X0_area E N p1 a s H) (F := fun x H => f_X0_area E x p1 a H) hX h (fun r s9 g9 e => cs_X0_area E h.1.2.2.1 h.2.2.2.1.1 e) (v_area (Wo_Pr h hE) h.2.2.2.1.2.1 p1)
theorem W_perimeter (hX : stb X) (hE : 20000 ≤ E.1) (h : Wo X q x a (c + 1) n H t p s N mo nb) (p1 : Int32) : Ans (f_X0_perimeter E x p1 a H) (t_X6_perimeter E p1 t) (fun v => v.toInt64) a (Wd X q x a c) := W_call (cop := c_X0_perimeter E N p1 a s H) (F := fun x H => f_X0_perimeter E x p1 a H) hX h (fun r s9 g9 e => cs_X0_perimeter E h.1.2.2.1 h.2.2.2.1.1 e) (v_perimeter (Wo_Pr h hE) h.2.2.2.1.2.1 p1)
theorem W_border (hX : stb X) (hE : 20000 ≤ E.1) (h : Wo X q x a (c + 1) n H t p s N mo nb) (p1 : Int32) (p2 : Int32) : Ans (f_X0_border E x p1 p2 a H) (t_X6_border E p1 p2 t) (fun v => v.toInt64) a (Wd X q x a c) := W_call (cop := c_X0_border E N p1 p2 a s H) (F := fun x H => f_X0_border E x p1 p2 a H) hX h (fun r s9 g9 e => cs_X0_border E h.1.2.2.1 h.2.2.2.1.1 e) (v_border (Wo_Pr h hE) h.2.2.2.1.2.1 p1 p2)
theorem W_isConnected (hX : stb X) (hE : 20000 ≤ E.1) (h : Wo X q x a (c + 1) n H t p s N mo nb) (p1 : Int32) : Ans (f_X0_isConnected E x p1 a H) (t_X6_isConnected E p1 t) (fun v => if v = 0 then 0 else 1) a (Wd X q x a c) := W_call (cop := c_X0_isConnected E N p1 a s H) (F := fun x H => f_X0_isConnected E x p1 a H) hX h (fun r s9 g9 e => cs_X0_isConnected E h.1.2.2.1 h.2.2.2.1.1 e) (v_isConnected (Wo_Pr h hE) h.2.2.2.1.2.1 p1)
theorem W_distance (hX : stb X) (hE : 20000 ≤ E.1) (h : Wo X q x a (c + 1) n H t p s N mo nb) (p1 : Int32) (p2 : Int32) (p3 : Int32) : Ans (f_X0_distance E x p1 p2 p3 a H) (t_X6_distance E p1 p2 p3 t) (fun v => v.toInt64) a (Wd X q x a c) := W_call (cop := c_X0_distance E N p1 p2 p3 a s H) (F := fun x H => f_X0_distance E x p1 p2 p3 a H) hX h (fun r s9 g9 e => cs_X0_distance E h.1.2.2.1 h.2.2.2.1.1 e) (v_distance (Wo_Pr h hE) h.2.2.2.1.2.1 p1 p2 p3)
theorem W_cede (hX : stb X) (hE : 20000 ≤ E.1) (h : Wo X q x a (c + 1) n H t p s N mo nb) (p1 : Int32) (p2 : Int32) (p3 : Int32) (p4 : Int32) (p5 : Int32) (p6 : Int32) : Ans (f_X0_cede E x p1 p2 p3 p4 p5 p6 a H) (t_X6_cede E p1 p2 p3 p4 p5 p6 t) (fun v => v.toInt64) a (Wd X q x a c) := W_call (cop := c_X0_cede E N p1 p2 p3 p4 p5 p6 a s H) (F := fun x H => f_X0_cede E x p1 p2 p3 p4 p5 p6 a H) hX h (fun r s9 g9 e => cs_X0_cede E h.1.2.2.1 h.2.2.2.1.1 e) (v_cede (Wo_Pr h hE) h.2.2.2.1.2.1 p1 p2 p3 p4 p5 p6)
theorem W_outletOwner (hX : stb X) (hE : 20000 ≤ E.1) (h : Wo X q x a (c + 1) n H t p s N mo nb) (p1 : Int32) : Ans (f_X0_outletOwner E x p1 a H) (t_X6_outletOwner E p1 t) (fun v => v.toInt64) a (Wd X q x a c) := W_call (cop := c_X0_outletOwner E N p1 a s H) (F := fun x H => f_X0_outletOwner E x p1 a H) hX h (fun r s9 g9 e => cs_X0_outletOwner E h.1.2.2.1 h.2.2.2.1.1 e) (v_outletOwner (Wo_Pr h hE) h.2.2.2.1.2.1 p1)
theorem W_outletCell (hX : stb X) (hE : 20000 ≤ E.1) (h : Wo X q x a (c + 1) n H t p s N mo nb) (p1 : Int32) : Ans (f_X0_outletCell E x p1 a H) (t_X6_outletCell E p1 t) (fun v => v.toInt64) a (Wd X q x a c) := W_call (cop := c_X0_outletCell E N p1 a s H) (F := fun x H => f_X0_outletCell E x p1 a H) hX h (fun r s9 g9 e => cs_X0_outletCell E h.1.2.2.1 h.2.2.2.1.1 e) (v_outletCell (Wo_Pr h hE) h.2.2.2.1.2.1 p1)
theorem W_bestSite (hX : stb X) (hE : 20000 ≤ E.1) (h : Wo X q x a (c + 1) n H t p s N mo nb) (p1 : Int32) : Ans (f_X0_bestSite E x p1 a H) (t_X6_bestSite E p1 t) (fun v => v.toInt64) a (Wd X q x a c) := W_call (cop := c_X0_bestSite E N p1 a s H) (F := fun x H => f_X0_bestSite E x p1 a H) hX h (fun r s9 g9 e => cs_X0_bestSite E h.1.2.2.1 h.2.2.2.1.1 e) (v_bestSite (Wo_Pr h hE) h.2.2.2.1.2.1 p1)
theorem W_coverage (hX : stb X) (hE : 20000 ≤ E.1) (h : Wo X q x a (c + 1) n H t p s N mo nb) (p1 : Int32) (p2 : Int32) : Ans (f_X0_coverage E x p1 p2 a H) (t_X6_coverage E p1 p2 t) (fun v => v.toInt64) a (Wd X q x a c) := W_call (cop := c_X0_coverage E N p1 p2 a s H) (F := fun x H => f_X0_coverage E x p1 p2 a H) hX h (fun r s9 g9 e => cs_X0_coverage E h.1.2.2.1 h.2.2.2.1.1 e) (v_coverage (Wo_Pr h hE) h.2.2.2.1.2.1 p1 p2)
theorem W_rivalCells (hX : stb X) (hE : 20000 ≤ E.1) (h : Wo X q x a (c + 1) n H t p s N mo nb) (p1 : Int32) (p2 : Int32) : Ans (f_X0_rivalCells E x p1 p2 a H) (t_X6_rivalCells E p1 p2 t) (fun v => v.toInt64) a (Wd X q x a c) := W_call (cop := c_X0_rivalCells E N p1 p2 a s H) (F := fun x H => f_X0_rivalCells E x p1 p2 a H) hX h (fun r s9 g9 e => cs_X0_rivalCells E h.1.2.2.1 h.2.2.2.1.1 e) (v_rivalCells (Wo_Pr h hE) h.2.2.2.1.2.1 p1 p2)
theorem W_halvingLine (hX : stb X) (hE : 20000 ≤ E.1) (h : Wo X q x a (c + 1) n H t p s N mo nb) (p1 : Int32) : Ans (f_X0_halvingLine E x p1 a H) (t_X6_halvingLine E p1 t) (fun v => v.toInt64) a (Wd X q x a c) := W_call (cop := c_X0_halvingLine E N p1 a s H) (F := fun x H => f_X0_halvingLine E x p1 a H) hX h (fun r s9 g9 e => cs_X0_halvingLine E h.1.2.2.1 h.2.2.2.1.1 e) (v_halvingLine (Wo_Pr h hE) h.2.2.2.1.2.1 p1)
theorem W_royalty (hX : stb X) (hE : 20000 ≤ E.1) (h : Wo X q x a (c + 1) n H t p s N mo nb) (p1 : Int32) (p2 : Int64) : Ans (f_X0_royalty E x p1 p2 a H) (t_X6_royalty E p1 p2 t) (fun v => v) a (Wd X q x a c) := W_call (cop := c_X0_royalty E N p1 p2 a s H) (F := fun x H => f_X0_royalty E x p1 p2 a H) hX h (fun r s9 g9 e => cs_X0_royalty E h.1.2.2.1 h.2.2.2.1.1 e) (v_royalty (Wo_Pr h hE) h.2.2.2.1.2.1 p1 p2)
theorem W_planOf (hX : stb X) (hE : 20000 ≤ E.1) (h : Wo X q x a (c + 1) n H t p s N mo nb) (p1 : Int32) : Ans (f_X0_planOf E x p1 a H) (t_X6_planOf E p1 t) (fun v => v.toInt64) a (Wd X q x a c) := W_call (cop := c_X0_planOf E N p1 a s H) (F := fun x H => f_X0_planOf E x p1 a H) hX h (fun r s9 g9 e => cs_X0_planOf E h.1.2.2.1 h.2.2.2.1.1 e) (v_planOf (Wo_Pr h hE) h.2.2.2.1.2.1 p1)
theorem W_setPlan (hX : stb X) (hE : 20000 ≤ E.1) (h : Wo X q x a (c + 1) n H t p s N mo nb) (p1 : Int32) (p2 : Int32) : Ans (f_X0_setPlan E x p1 p2 a H) (t_X6_setPlan E p1 p2 t) (fun v => v.toInt64) a (Wd X q x a c) := W_call (cop := c_X0_setPlan E N p1 p2 a s H) (F := fun x H => f_X0_setPlan E x p1 p2 a H) hX h (fun r s9 g9 e => cs_X0_setPlan E h.1.2.2.1 h.2.2.2.1.1 e) (v_setPlan (Wo_Pr h hE) h.2.2.2.1.2.1 p1 p2)
theorem W_cheapestPlan (hX : stb X) (hE : 20000 ≤ E.1) (h : Wo X q x a (c + 1) n H t p s N mo nb) (p1 : Int32) : Ans (f_X0_cheapestPlan E x p1 a H) (t_X6_cheapestPlan E p1 t) (fun v => v.toInt64) a (Wd X q x a c) := W_call (cop := c_X0_cheapestPlan E N p1 a s H) (F := fun x H => f_X0_cheapestPlan E x p1 a H) hX h (fun r s9 g9 e => cs_X0_cheapestPlan E h.1.2.2.1 h.2.2.2.1.1 e) (v_cheapestPlan (Wo_Pr h hE) h.2.2.2.1.2.1 p1)
theorem W_reportSales (hX : stb X) (hE : 20000 ≤ E.1) (h : Wo X q x a (c + 1) n H t p s N mo nb) (p1 : Int32) (p2 : Int64) : Ans (f_X0_reportSales E x p1 p2 a H) (t_X6_reportSales E p1 p2 t) (fun v => v) a (Wd X q x a c) := W_call (cop := c_X0_reportSales E N p1 p2 a s H) (F := fun x H => f_X0_reportSales E x p1 p2 a H) hX h (fun r s9 g9 e => cs_X0_reportSales E h.1.2.2.1 h.2.2.2.1.1 e) (v_reportSales (Wo_Pr h hE) h.2.2.2.1.2.1 p1 p2)
theorem W_deliver (hX : stb X) (hE : 20000 ≤ E.1) (h : Wo X q x a (c + 1) n H t p s N mo nb) (p1 : Int32) (p2 : Int32) (p3 : Int32) (p4 : Int64) : Ans (f_X0_deliver E x p1 p2 p3 p4 a H) (t_X6_deliver E p1 p2 p3 p4 t) (fun v => v) a (Wd X q x a c) := W_call (cop := c_X0_deliver E N p1 p2 p3 p4 a s H) (F := fun x H => f_X0_deliver E x p1 p2 p3 p4 a H) hX h (fun r s9 g9 e => cs_X0_deliver E h.1.2.2.1 h.2.2.2.1.1 e) (v_deliver (Wo_Pr h hE) h.2.2.2.1.2.1 p1 p2 p3 p4)
theorem W_sales (hX : stb X) (hE : 20000 ≤ E.1) (h : Wo X q x a (c + 1) n H t p s N mo nb) (p1 : Int32) : Ans (f_X0_sales E x p1 a H) (t_X6_sales E p1 t) (fun v => v) a (Wd X q x a c) := W_call (cop := c_X0_sales E N p1 a s H) (F := fun x H => f_X0_sales E x p1 a H) hX h (fun r s9 g9 e => cs_X0_sales E h.1.2.2.1 h.2.2.2.1.1 e) (v_sales (Wo_Pr h hE) h.2.2.2.1.2.1 p1)
theorem W_salesOf (hX : stb X) (hE : 20000 ≤ E.1) (h : Wo X q x a (c + 1) n H t p s N mo nb) (p1 : Int32) (p2 : Int32) : Ans (f_X0_salesOf E x p1 p2 a H) (t_X6_salesOf E p1 p2 t) (fun v => v) a (Wd X q x a c) := W_call (cop := c_X0_salesOf E N p1 p2 a s H) (F := fun x H => f_X0_salesOf E x p1 p2 a H) hX h (fun r s9 g9 e => cs_X0_salesOf E h.1.2.2.1 h.2.2.2.1.1 e) (v_salesOf (Wo_Pr h hE) h.2.2.2.1.2.1 p1 p2)
theorem W_creditDue (hX : stb X) (hE : 20000 ≤ E.1) (h : Wo X q x a (c + 1) n H t p s N mo nb) (p1 : Int32) (p2 : Int32) : Ans (f_X0_creditDue E x p1 p2 a H) (t_X6_creditDue E p1 p2 t) (fun v => v) a (Wd X q x a c) := W_call (cop := c_X0_creditDue E N p1 p2 a s H) (F := fun x H => f_X0_creditDue E x p1 p2 a H) hX h (fun r s9 g9 e => cs_X0_creditDue E h.1.2.2.1 h.2.2.2.1.1 e) (v_creditDue (Wo_Pr h hE) h.2.2.2.1.2.1 p1 p2)
theorem W_predictDue (hX : stb X) (hE : 20000 ≤ E.1) (h : Wo X q x a (c + 1) n H t p s N mo nb) (p1 : Int32) (p2 : Int32) : Ans (f_X0_predictDue E x p1 p2 a H) (t_X6_predictDue E p1 p2 t) (fun v => v) a (Wd X q x a c) := W_call (cop := c_X0_predictDue E N p1 p2 a s H) (F := fun x H => f_X0_predictDue E x p1 p2 a H) hX h (fun r s9 g9 e => cs_X0_predictDue E h.1.2.2.1 h.2.2.2.1.1 e) (v_predictDue (Wo_Pr h hE) h.2.2.2.1.2.1 p1 p2)
theorem W_balance (hX : stb X) (hE : 20000 ≤ E.1) (h : Wo X q x a (c + 1) n H t p s N mo nb) (p1 : Int32) : Ans (f_X0_balance E x p1 a H) (t_X6_balance E p1 t) (fun v => v) a (Wd X q x a c) := W_call (cop := c_X0_balance E N p1 a s H) (F := fun x H => f_X0_balance E x p1 a H) hX h (fun r s9 g9 e => cs_X0_balance E h.1.2.2.1 h.2.2.2.1.1 e) (v_balance (Wo_Pr h hE) h.2.2.2.1.2.1 p1)
theorem W_pay (hX : stb X) (hE : 20000 ≤ E.1) (h : Wo X q x a (c + 1) n H t p s N mo nb) (p1 : Int32) (p2 : Int64) : Ans (f_X0_pay E x p1 p2 a H) (t_X6_pay E p1 p2 t) (fun v => v) a (Wd X q x a c) := W_call (cop := c_X0_pay E N p1 p2 a s H) (F := fun x H => f_X0_pay E x p1 p2 a H) hX h (fun r s9 g9 e => cs_X0_pay E h.1.2.2.1 h.2.2.2.1.1 e) (v_pay (Wo_Pr h hE) h.2.2.2.1.2.1 p1 p2)
theorem W_monthsOverdue (hX : stb X) (hE : 20000 ≤ E.1) (h : Wo X q x a (c + 1) n H t p s N mo nb) (p1 : Int32) : Ans (f_X0_monthsOverdue E x p1 a H) (t_X6_monthsOverdue E p1 t) (fun v => v.toInt64) a (Wd X q x a c) := W_call (cop := c_X0_monthsOverdue E N p1 a s H) (F := fun x H => f_X0_monthsOverdue E x p1 a H) hX h (fun r s9 g9 e => cs_X0_monthsOverdue E h.1.2.2.1 h.2.2.2.1.1 e) (v_monthsOverdue (Wo_Pr h hE) h.2.2.2.1.2.1 p1)
theorem W_payOff (hX : stb X) (hE : 20000 ≤ E.1) (h : Wo X q x a (c + 1) n H t p s N mo nb) (p1 : Int32) (p2 : Int64) : Ans (f_X0_payOff E x p1 p2 a H) (t_X6_payOff E p1 p2 t) (fun v => v.toInt64) a (Wd X q x a c) := W_call (cop := c_X0_payOff E N p1 p2 a s H) (F := fun x H => f_X0_payOff E x p1 p2 a H) hX h (fun r s9 g9 e => cs_X0_payOff E h.1.2.2.1 h.2.2.2.1.1 e) (v_payOff (Wo_Pr h hE) h.2.2.2.1.2.1 p1 p2)
theorem W_terminate (hX : stb X) (hE : 20000 ≤ E.1) (h : Wo X q x a (c + 1) n H t p s N mo nb) (p1 : Int32) : Ans (f_X0_terminate E x p1 a H) (t_X6_terminate E p1 t) (fun v => if v = 0 then 0 else 1) a (Wd X q x a c) := W_call (cop := c_X0_terminate E N p1 a s H) (F := fun x H => f_X0_terminate E x p1 a H) hX h (fun r s9 g9 e => cs_X0_terminate E h.1.2.2.1 h.2.2.2.1.1 e) (v_terminate (Wo_Pr h hE) h.2.2.2.1.2.1 p1)
theorem W_status (hX : stb X) (hE : 20000 ≤ E.1) (h : Wo X q x a (c + 1) n H t p s N mo nb) (p1 : Int32) : Ans (f_X0_status E x p1 a H) (t_X6_status E p1 t) (fun v => v.toInt64) a (Wd X q x a c) := W_call (cop := c_X0_status E N p1 a s H) (F := fun x H => f_X0_status E x p1 a H) hX h (fun r s9 g9 e => cs_X0_status E h.1.2.2.1 h.2.2.2.1.1 e) (v_status (Wo_Pr h hE) h.2.2.2.1.2.1 p1)
theorem W_contributions (hX : stb X) (hE : 20000 ≤ E.1) (h : Wo X q x a (c + 1) n H t p s N mo nb) (p1 : Int32) : Ans (f_X0_contributions E x p1 a H) (t_X6_contributions E p1 t) (fun v => v) a (Wd X q x a c) := W_call (cop := c_X0_contributions E N p1 a s H) (F := fun x H => f_X0_contributions E x p1 a H) hX h (fun r s9 g9 e => cs_X0_contributions E h.1.2.2.1 h.2.2.2.1.1 e) (v_contributions (Wo_Pr h hE) h.2.2.2.1.2.1 p1)
theorem W_spent (hX : stb X) (hE : 20000 ≤ E.1) (h : Wo X q x a (c + 1) n H t p s N mo nb) (p1 : Int32) : Ans (f_X0_spent E x p1 a H) (t_X6_spent E p1 t) (fun v => v) a (Wd X q x a c) := W_call (cop := c_X0_spent E N p1 a s H) (F := fun x H => f_X0_spent E x p1 a H) hX h (fun r s9 g9 e => cs_X0_spent E h.1.2.2.1 h.2.2.2.1.1 e) (v_spent (Wo_Pr h hE) h.2.2.2.1.2.1 p1)
theorem W_campaign (hX : stb X) (hE : 20000 ≤ E.1) (h : Wo X q x a (c + 1) n H t p s N mo nb) (p1 : Int64) : Ans (f_X0_campaign E x p1 a H) (t_X6_campaign E p1 t) (fun v => if v = 0 then 0 else 1) a (Wd X q x a c) := W_call (cop := c_X0_campaign E N p1 a s H) (F := fun x H => f_X0_campaign E x p1 a H) hX h (fun r s9 g9 e => cs_X0_campaign E h.1.2.2.1 h.2.2.2.1.1 e) (v_campaign (Wo_Pr h hE) h.2.2.2.1.2.1 p1)
theorem W_grant (hX : stb X) (hE : 20000 ≤ E.1) (h : Wo X q x a (c + 1) n H t p s N mo nb) (p1 : Int32) (p2 : Int64) : Ans (f_X0_grant E x p1 p2 a H) (t_X6_grant E p1 p2 t) (fun v => if v = 0 then 0 else 1) a (Wd X q x a c) := W_call (cop := c_X0_grant E N p1 p2 a s H) (F := fun x H => f_X0_grant E x p1 p2 a H) hX h (fun r s9 g9 e => cs_X0_grant E h.1.2.2.1 h.2.2.2.1.1 e) (v_grant (Wo_Pr h hE) h.2.2.2.1.2.1 p1 p2)
theorem W_allowance (hX : stb X) (hE : 20000 ≤ E.1) (h : Wo X q x a (c + 1) n H t p s N mo nb) (p1 : Int32) : Ans (f_X0_allowance E x p1 a H) (t_X6_allowance E p1 t) (fun v => v) a (Wd X q x a c) := W_call (cop := c_X0_allowance E N p1 a s H) (F := fun x H => f_X0_allowance E x p1 a H) hX h (fun r s9 g9 e => cs_X0_allowance E h.1.2.2.1 h.2.2.2.1.1 e) (v_allowance (Wo_Pr h hE) h.2.2.2.1.2.1 p1)
theorem W_nationalShare (hX : stb X) (hE : 20000 ≤ E.1) (h : Wo X q x a (c + 1) n H t p s N mo nb) (p1 : Int32) : Ans (f_X0_nationalShare E x p1 a H) (t_X6_nationalShare E p1 t) (fun v => v) a (Wd X q x a c) := W_call (cop := c_X0_nationalShare E N p1 a s H) (F := fun x H => f_X0_nationalShare E x p1 a H) hX h (fun r s9 g9 e => cs_X0_nationalShare E h.1.2.2.1 h.2.2.2.1.1 e) (v_nationalShare (Wo_Pr h hE) h.2.2.2.1.2.1 p1)
theorem W_requestTransfer (hX : stb X) (hE : 20000 ≤ E.1) (h : Wo X q x a (c + 1) n H t p s N mo nb) (p1 : Int32) (p2 : Int32) (p3 : Int64) : Ans (f_X0_requestTransfer E x p1 p2 p3 a H) (t_X6_requestTransfer E p1 p2 p3 t) (fun v => if v = 0 then 0 else 1) a (Wd X q x a c) := W_call (cop := c_X0_requestTransfer E N p1 p2 p3 a s H) (F := fun x H => f_X0_requestTransfer E x p1 p2 p3 a H) hX h (fun r s9 g9 e => cs_X0_requestTransfer E h.1.2.2.1 h.2.2.2.1.1 e) (v_requestTransfer (Wo_Pr h hE) h.2.2.2.1.2.1 p1 p2 p3)
theorem W_vote (hX : stb X) (hE : 20000 ≤ E.1) (h : Wo X q x a (c + 1) n H t p s N mo nb) (p1 : Int32) (p2 : Int32) (p3 : Int32) : Ans (f_X0_vote E x p1 p2 p3 a H) (t_X6_vote E p1 p2 p3 t) (fun v => v.toInt64) a (Wd X q x a c) := W_call (cop := c_X0_vote E N p1 p2 p3 a s H) (F := fun x H => f_X0_vote E x p1 p2 p3 a H) hX h (fun r s9 g9 e => cs_X0_vote E h.1.2.2.1 h.2.2.2.1.1 e) (v_vote (Wo_Pr h hE) h.2.2.2.1.2.1 p1 p2 p3)
theorem W_exercise (hX : stb X) (hE : 20000 ≤ E.1) (h : Wo X q x a (c + 1) n H t p s N mo nb) (p1 : Int32) : Ans (f_X0_exercise E x p1 a H) (t_X6_exercise E p1 t) (fun v => if v = 0 then 0 else 1) a (Wd X q x a c) := W_call (cop := c_X0_exercise E N p1 a s H) (F := fun x H => f_X0_exercise E x p1 a H) hX h (fun r s9 g9 e => cs_X0_exercise E h.1.2.2.1 h.2.2.2.1.1 e) (v_exercise (Wo_Pr h hE) h.2.2.2.1.2.1 p1)
theorem W_withdraw (hX : stb X) (hE : 20000 ≤ E.1) (h : Wo X q x a (c + 1) n H t p s N mo nb) (p1 : Int32) : Ans (f_X0_withdraw E x p1 a H) (t_X6_withdraw E p1 t) (fun v => if v = 0 then 0 else 1) a (Wd X q x a c) := W_call (cop := c_X0_withdraw E N p1 a s H) (F := fun x H => f_X0_withdraw E x p1 a H) hX h (fun r s9 g9 e => cs_X0_withdraw E h.1.2.2.1 h.2.2.2.1.1 e) (v_withdraw (Wo_Pr h hE) h.2.2.2.1.2.1 p1)
theorem W_transferState (hX : stb X) (hE : 20000 ≤ E.1) (h : Wo X q x a (c + 1) n H t p s N mo nb) (p1 : Int32) : Ans (f_X0_transferState E x p1 a H) (t_X6_transferState E p1 t) (fun v => v.toInt64) a (Wd X q x a c) := W_call (cop := c_X0_transferState E N p1 a s H) (F := fun x H => f_X0_transferState E x p1 a H) hX h (fun r s9 g9 e => cs_X0_transferState E h.1.2.2.1 h.2.2.2.1.1 e) (v_transferState (Wo_Pr h hE) h.2.2.2.1.2.1 p1)
theorem W_transferWait (hX : stb X) (hE : 20000 ≤ E.1) (h : Wo X q x a (c + 1) n H t p s N mo nb) (p1 : Int32) : Ans (f_X0_transferWait E x p1 a H) (t_X6_transferWait E p1 t) (fun v => v.toInt64) a (Wd X q x a c) := W_call (cop := c_X0_transferWait E N p1 a s H) (F := fun x H => f_X0_transferWait E x p1 a H) hX h (fun r s9 g9 e => cs_X0_transferWait E h.1.2.2.1 h.2.2.2.1.1 e) (v_transferWait (Wo_Pr h hE) h.2.2.2.1.2.1 p1)
theorem W_generation (hX : stb X) (hE : 20000 ≤ E.1) (h : Wo X q x a (c + 1) n H t p s N mo nb) (p1 : Int32) : Ans (f_X0_generation E x p1 a H) (t_X6_generation E p1 t) (fun v => v.toInt64) a (Wd X q x a c) := W_call (cop := c_X0_generation E N p1 a s H) (F := fun x H => f_X0_generation E x p1 a H) hX h (fun r s9 g9 e => cs_X0_generation E h.1.2.2.1 h.2.2.2.1.1 e) (v_generation (Wo_Pr h hE) h.2.2.2.1.2.1 p1)
theorem W_worth (hX : stb X) (hE : 20000 ≤ E.1) (h : Wo X q x a (c + 1) n H t p s N mo nb) (p1 : Int32) : Ans (f_X0_worth E x p1 a H) (t_X6_worth E p1 t) (fun v => v.toInt64) a (Wd X q x a c) := W_call (cop := c_X0_worth E N p1 a s H) (F := fun x H => f_X0_worth E x p1 a H) hX h (fun r s9 g9 e => cs_X0_worth E h.1.2.2.1 h.2.2.2.1.1 e) (v_worth (Wo_Pr h hE) h.2.2.2.1.2.1 p1)
theorem W_invoice (hX : stb X) (hE : 20000 ≤ E.1) (h : Wo X q x a (c + 1) n H t p s N mo nb) (p1 p2 p3 : Int32) : Ans (f_X0_invoice E x p1 p2 p3 a H) (t_X6_invoice E p1 p2 p3 t) (fun v => v) a (Wd X q x a c) := W_call (cop := c_X0_invoice E N p1 p2 p3 a s H) (F := fun x H => f_X0_invoice E x p1 p2 p3 a H) hX h (fun r s9 g9 e => cs_X0_invoice E h.1.2.2.1 h.2.2.2.1.1 e) (v_invoice (Wo_Pr h hE) h.2.2.2.1.2.1 p1 p2 p3)
theorem W_month (hX : stb X) (hE : 20000 ≤ E.1) (h : Wo X q x a (c + 1) n H t p s N mo nb)  : ∃ r H1 t1, f_X1_month E x  H = some (r, H1) ∧ t_X6_month E  t = some (r, t1) ∧ Wd X q x a c H1 t1 := by
  obtain ⟨⟨k, s1, g1⟩, e1, ⟨w, t1⟩, e2, e3, e4⟩ := o_month (Wo_Pr h hE) 
  obtain ⟨k1, k2⟩ := cs_X1_month E h.1.2.2.1 e1
  rw [h.1.2.2.2, h.1.2.1] at k1
  have e3 : k = w := e3
  subst e3
  exact ⟨k, cH p s1 g1, t1, k1, e2, n + 1, p, s1, N, mo, nb, Wo_op hX h (Pw_e e4 h.2.2.2.1.2.1) k2⟩
theorem W_totalOwed (hX : stb X) (hE : 20000 ≤ E.1) (h : Wo X q x a (c + 1) n H t p s N mo nb)  : ∃ r H1 t1, f_X1_totalOwed E x  H = some (r, H1) ∧ t_X6_totalOwed E  t = some (r, t1) ∧ Wd X q x a c H1 t1 := by
  obtain ⟨⟨k, s1, g1⟩, e1, ⟨w, t1⟩, e2, e3, e4⟩ := o_totalOwed (Wo_Pr h hE) 
  obtain ⟨k1, k2⟩ := cs_X1_totalOwed E h.1.2.2.1 e1
  rw [h.1.2.2.2, h.1.2.1] at k1
  have e3 : k = w := e3
  subst e3
  exact ⟨k, cH p s1 g1, t1, k1, e2, n + 1, p, s1, N, mo, nb, Wo_op hX h (Pw_e e4 h.2.2.2.1.2.1) k2⟩
theorem W_fundBalance (hX : stb X) (hE : 20000 ≤ E.1) (h : Wo X q x a (c + 1) n H t p s N mo nb)  : ∃ r H1 t1, f_X1_fundBalance E x  H = some (r, H1) ∧ t_X6_fundBalance E  t = some (r, t1) ∧ Wd X q x a c H1 t1 := by
  obtain ⟨⟨k, s1, g1⟩, e1, ⟨w, t1⟩, e2, e3, e4⟩ := o_fundBalance (Wo_Pr h hE) 
  obtain ⟨k1, k2⟩ := cs_X1_fundBalance E h.1.2.2.1 e1
  rw [h.1.2.2.2, h.1.2.1] at k1
  have e3 : k = w := e3
  subst e3
  exact ⟨k, cH p s1 g1, t1, k1, e2, n + 1, p, s1, N, mo, nb, Wo_op hX h (Pw_e e4 h.2.2.2.1.2.1) k2⟩
theorem W_ranked (hX : stb X) (hE : 20000 ≤ E.1) (h : Wo X q x a (c + 1) n H t p s N mo nb) (p1 : Int32) : ∃ r H1 t1, f_X1_ranked E x p1 H = some (r, H1) ∧ t_X6_ranked E p1 t = some (r, t1) ∧ Wd X q x a c H1 t1 := by
  obtain ⟨⟨k, s1, g1⟩, e1, ⟨w, t1⟩, e2, e3, e4⟩ := o_ranked (Wo_Pr h hE) p1
  obtain ⟨k1, k2⟩ := cs_X1_ranked E h.1.2.2.1 e1
  rw [h.1.2.2.2, h.1.2.1] at k1
  have e3 : k = w := e3
  subst e3
  exact ⟨k, cH p s1 g1, t1, k1, e2, n + 1, p, s1, N, mo, nb, Wo_op hX h (Pw_e e4 h.2.2.2.1.2.1) k2⟩
end WC
