/-! plan: the loop over tiers -/
set_option maxRecDepth 100000
def PlI (nb i n zb : Nat) (sb : cT) (vb : Nat → Option zC) (Tb : Nat → Int64) (s : cT) (v : Nat → Option zC) (T : Nat → Int64) : Prop := (∀ e, e ≠ nb + 400 → e < zb → e ≠ nb + 200 + 30 + i → e ≠ nb + 200 + 40 + i → e ≠ nb + 200 + 50 + i → e ≠ nb + 200 + 60 + i → (∀ j, j < 8 → e ≠ nb + 200 + 70 + 8 * i + j) → s.1 e = sb.1 e ∧ s.2.1 e = sb.2.1 e ∧ s.2.2.1 e = sb.2.2.1 e ∧ s.2.2.2 e = sb.2.2.2 e) ∧ svw vb v ∧ (s.1 (nb + 200 + 30 + i) = (1, 8) ∧ s.2.2.2 (nb + 200 + 30 + i) 0 = some (nb + 200 + 40 + i) ∧ s.2.2.2 (nb + 200 + 30 + i) 1 = some (nb + 200 + 50 + i) ∧ s.1 (nb + 200 + 40 + i) = (1, 3)) ∧ lsc s (nb + 200 + 50 + i) (nb + 200 + 60 + i) n (fun j => nb + 200 + 70 + 8 * i + j) ∧ (∀ j, j < n → s.1 (nb + 200 + 70 + 8 * i + j) = (1, 9)) ∧ (∀ j, n ≤ j → j < 8 → (s.1 (nb + 200 + 70 + 8 * i + j)).1 = 0) ∧ plW s T (nb + 200) i n ∧ (∀ j, j < 4 → btw (T (14 + 11 * i + (3 + j))) 0 9999900) ∧ ∀ y, y < 14 + 11 * i ∨ 14 + 11 * i + 11 ≤ y → T y = Tb y
section LP
variable {E : zE} {p0 : cP} {g0 : zH} {s0 : cT} {t0 : twS} {nb k m ps z kd : Nat} {p : cP} {s : cT} {g : zH} {t : twS} {c7 c8 c9 np nf no cnt : Nat} {nt na : Nat → Nat} {nm : Nat → List Nat}
theorem L_fig2 (h : Ld p0 g0 s0 t0 nb k m ps z kd p s g t) (hr : rm g0 20000 220000) (hq : bq nb k m z) (hnb : nb + 10000 ≤ XT) (w : kd = 2) (lo hi : Int32) : ∃ n : Nat, n < 1000000 ∧ t.2.2.2.2 = Int64.ofNat n ∧ (lo.toInt ≤ n ∧ n ≤ hi.toInt ∧ f_X7_figure E (p.1 (nb + 400)) lo hi (cH p s g) = some (.inl (Int32.ofNat n), cH p s g) ∨ ¬ (lo.toInt ≤ n ∧ n ≤ hi.toInt) ∧ ∃ a H t1, f_X7_figure E (p.1 (nb + 400)) lo hi (cH p s g) = some (.inr (7, a), H) ∧ t_X6_fail E 2 t = some (0, t1) ∧ Fa p0 g0 s0 t0 nb H a t1) := by
  obtain ⟨q1, q2, q3⟩ := hq
  obtain ⟨c1, c2, c3, c4, c5, c6, -⟩ := Ld_kd h
  have hp := h.1.1.1
  have g5 : gI (cH p s g) (p.1 (nb + 400)) 6 5 = some (Int32.ofNat kd) := (c_gI hp c1 rfl).trans (congrArg some c2)
  have ck := c_cko (g := g) hp c1
  obtain ⟨n, hn, n6, nv⟩ := c6 w
  have g6 : gI (cH p s g) (p.1 (nb + 400)) 6 6 = some (Int32.ofNat n) := (c_gI hp c1 rfl).trans (congrArg some n6)
  have e2 : Int32.ofNat kd = (2 : Int32) := by rw [w]; rfl
  have rg : (lo.toInt64 ≤ Int64.ofNat n ∧ Int64.ofNat n ≤ hi.toInt64) ↔ lo.toInt ≤ n ∧ n ≤ hi.toInt := by
    rw [Int64.le_iff_toInt_le, Int64.le_iff_toInt_le, i64_of32, i64_of32, Int64.toInt_ofNat_of_lt (by omega)]
  refine ⟨n, hn, nv, ?_⟩
  unfold f_X7_figure f_X7_figure_b0 f_X7_figure_b14
  rw [g5, b1_some, if_pos e2, ck, b1_some, req_t, b2_some, el_l, g6, b1_some, b_inRange, b2_some, ck, b1_some, i32_64 (by omega)]
  by_cases r : lo.toInt ≤ n ∧ n ≤ hi.toInt
  · refine Or.inl ⟨r.1, r.2, ?_⟩
    rw [if_pos (rg.mpr r), req_t, b2_some, el_l, g6, b1_some]
  · obtain ⟨a, H, t1, f1, f2, f3, -⟩ := L_fail (E := E) h hr (by omega) (by omega) hnb h.2.2.1 c5 (c := 2) (by decide)
    refine Or.inr ⟨r, a, H, t1, ?_, f2, f3⟩
    rw [if_neg (fun q => r (rg.mp q)), f1, b2_some, el_r]
theorem PlI_Kq {i n zb : Nat} {sb : cT} {vb : Nat → Option zC} {Tb : Nat → Int64} (h : PlI nb i n zb sb vb Tb s (rv0 p g) (dr t)) (hi : i < 4) (hn : n ≤ 8) (hz : nb + 500 ≤ z) (hzb : zb ≤ z) {p1 : cP} {s1 : cT} {g1 : zH} {t1 : twS} (hk : Kq nb z p s g t p1 s1 g1 t1) : PlI nb i n zb sb vb Tb s1 (rv0 p1 g1) (dr t1) := by
  obtain ⟨a1, a2, ⟨b1, b2, b3, b4⟩, a4, a5, a6, a7, a8, a9⟩ := h
  obtain ⟨k1, k2, k3, k4, k5, k6⟩ := hk
  have hT : ∀ y, dr t1 y = dr t y := fun y => by unfold dr; rw [k4]
  have S : ∀ d, d ≠ nb + 400 → d < z → s1.1 d = s.1 d ∧ s1.2.1 d = s.2.1 d ∧ s1.2.2.1 d = s.2.2.1 d ∧ s1.2.2.2 d = s.2.2.2 d := fun d d1 d2 => (k1 d d1 d2).2
  have s30 := S (nb + 200 + 30 + i) (by omega) (by omega)
  have s40 := S (nb + 200 + 40 + i) (by omega) (by omega)
  have s50 := S (nb + 200 + 50 + i) (by omega) (by omega)
  have s60 := S (nb + 200 + 60 + i) (by omega) (by omega)
  refine ⟨fun e e1 e2 e3 e4 e5 e6 e7 => ?_, svw_tr a2 k3, ⟨s30.1.trans b1, (congrFun s30.2.2.2 0).trans b2, (congrFun s30.2.2.2 1).trans b3, s40.1.trans b4⟩, lsc_cg a4 ⟨s50.1, s50.2.1, s50.2.2.2⟩ ⟨s60.1, s60.2.2.2⟩, fun j hj => ?_, fun j j1 j2 => ?_, plW_cg a7 (fun d hd => by have k := S d (by omega) (by omega); exact ⟨k.2.1, k.2.2.1⟩) (fun x _ => hT _), fun j hj => by rw [hT]; exact a8 j hj, fun y hy => (hT y).trans (a9 y hy)⟩
  · have x := a1 e e1 e2 e3 e4 e5 e6 e7
    have y := S e e1 (by omega)
    exact ⟨y.1.trans x.1, y.2.1.trans x.2.1, y.2.2.1.trans x.2.2.1, y.2.2.2.trans x.2.2.2⟩
  · rw [(S _ (by omega) (by omega)).1]; exact a5 j hj
  · rw [(S _ (by omega) (by omega)).1]; exact a6 j j1 j2
/-- behind the tiers -/
def PlO (E : zE) (p0 : cP) (g0 : zH) (s0 : cT) (t0 : twS) (nb cnt k m ps z rda : Nat) (comp : Option ((Unit ⊕ (Nat × Nat)) × zH)) (tw : Option (Int32 × twS)) : Prop := (∃ p1 s1 g1 t1 k1 m1 ps1 z1 kd1 c7 c8 c9 np nf no nt na nm, comp = some (.inl (), cH p1 s1 g1) ∧ (∀ x t2, x = 0 ∨ x = 1 → t_X6_readEnd E t1 = some (x, t2) → tw = some (x, t2)) ∧ Ld p0 g0 s0 t0 nb k1 m1 ps1 z1 kd1 p1 s1 g1 t1 ∧ Mk nb z1 c7 c8 c9 np nf no cnt nt na nm s1 (rv0 p1 g1) (dr t1) ∧ ps ≤ ps1 ∧ ps1 ≤ 1501 ∧ k1 + 6 * ps ≤ k + 6 * ps1 + 1 ∧ m1 + 140 * ps ≤ m + 140 * ps1 + 200 ∧ z1 + 3 * ps ≤ z + 3 * ps1 ∧ p1.1 (nb + 400) = rda) ∨ ∃ a H t1, comp = some (.inr (7, a), H) ∧ tw = some (0, t1) ∧ Fa p0 g0 s0 t0 nb H a t1
theorem pl_end (hE : 20000 ≤ E.1) (hr : rm g0 20000 220000) (hnb : nb + 10000 ≤ XT) {n zb : Nat} {sb : cT} {vb : Nat → Option zC} {Tb : Nat → Int64} (hMb : Mk nb zb c7 c8 c9 np nf no cnt nt na nm sb vb Tb) (hzb : nb + 500 ≤ zb) (hnp : np < 4) (h : Ld p0 g0 s0 t0 nb k m ps z kd p s g t) (hP : PlI nb np n zb sb vb Tb s (rv0 p g) (dr t)) (hz : zb ≤ z) (hq : bq nb (k + 20) (m + 400) (z + 10)) (hn : n ≤ 5) (w : kd ≠ 2) {last : Nat} (m1 m2 : Nat) {row lst tier : Int32} : PlO E p0 g0 s0 t0 nb cnt k m ps z (p.1 (nb + 400)) (f_X7_plan_l74 E (m1 + 1) (p.1 (nb + 400)) (p.1 (nb + 200 + 30 + np)) (Int32.ofNat last) (cH p s g)) (t_X6_readPlan_l78 E (m2 + 1) row lst tier t) := by
  obtain ⟨q1, q2, q3⟩ := hq
  have n400 := h.2.2.2.2.2.2.2
  obtain ⟨c1, c2, c3, c4, c5, -⟩ := Ld_kd h
  have hp := h.1.1.1
  have g5 : gI (cH p s g) (p.1 (nb + 400)) 6 5 = some (Int32.ofNat kd) := (c_gI hp c1 rfl).trans (congrArg some c2)
  have e2 : ¬ Int32.ofNat kd = (2 : Int32) := fun q => w ((kd_eq c4 (by decide)).mp q)
  obtain ⟨a1, a2, ⟨b1, b2, b3, b4⟩, a4, a5, a6, a7, a8, a9⟩ := hP
  have F : ∀ e, e ≠ nb + 400 → e < zb → (e < nb + 230 ∨ nb + 303 ≤ e) → s.1 e = sb.1 e ∧ s.2.1 e = sb.2.1 e ∧ s.2.2.1 e = sb.2.2.1 e ∧ s.2.2.2 e = sb.2.2.2 e := fun e e1 e2 e3 => a1 e e1 e2 (by omega) (by omega) (by omega) (by omega) (fun j hj => by omega)
  have s202 := F (nb + 202) (by omega) (by omega) (by omega)
  have s203 := F (nb + 203) (by omega) (by omega) (by omega)
  have s204 := F (nb + 204) (by omega) (by omega) (by omega)
  have Rb := hMb.2.1.1
  have r1 : gR (cH p s g) (p.1 (nb + 400)) 6 1 = some (p.1 (nb + 202)) := c_gR hp c1 rfl h.2.2.2.2.2.1
  have r2 : gR (cH p s g) (p.1 (nb + 202)) 2 0 = some (p.1 (nb + 203)) := c_gR hp (s202.1.trans Rb.1) rfl ((congrFun s202.2.2.2 0).trans Rb.2.1)
  have l0 : lsc s (nb + 203) (nb + 204) np (fun i => nb + 200 + 30 + i) := lsc_cg Rb.2.2.2.2.2.2.2.2.2.2.1 ⟨s203.1, s203.2.1, s203.2.2.2⟩ ⟨s204.1, s204.2.2.2⟩
  have shp : ∀ i, i < np → s.1 (nb + 200 + 30 + i) = (1, 8) := fun i hi => by
    rw [(a1 (nb + 200 + 30 + i) (by omega) (by omega) (by omega) (by omega) (by omega) (by omega) (fun j hj => by omega)).1]
    exact (Rb.2.2.2.2.2.2.2.2.2.2.2 i hi).1
  obtain ⟨p1, s1, g1, e1, A⟩ := J_add E h.1.1 (c := nb + 203) (r := nb + 204) (n := np) (e := nb + 200 + 30 + np) l0 (by omega) (by omega) (by omega) (ob_sh h.1.1 b1) (Or.inl (by rw [b1]; exact Nat.succ_ne_zero _)) (fun i hi => ob_sh h.1.1 (shp i hi)) (Tr_rm h.1 hr (by omega) (by omega))
  have T1 := Tr_ad (Tr_0 h.1.1) A
  obtain ⟨A1, A2, A3, A4, A5, A6⟩ := A
  have A2' : lsc s1 (nb + 203) (nb + 204) (np + 1) (fun k => nb + 200 + 30 + k) := lsc_el A2 (fun k hk => by
    by_cases w : k = np
    · rw [if_pos w, w]
    · rw [if_neg w])
  have f1 : ∀ e, e ≠ nb + 203 → e ≠ nb + 204 → p1.1 e = p.1 e ∧ s1.1 e = s.1 e ∧ s1.2.1 e = s.2.1 e ∧ s1.2.2.1 e = s.2.2.1 e ∧ s1.2.2.2 e = s.2.2.2 e := fun e h1 h2 => ⟨(A3 e h2).1, (A3 e h2).2.1, A4 e h1, congrFun A5 e, (A3 e h2).2.2⟩
  have eP : tdL t 1 (15163 : Int32) = some (Int64.ofNat np) := by
    refine (y_d (t := t) (k := 15163) (by decide)).trans (congrArg some ?_)
    have := (a9 1 (Or.inl (by omega))).trans hMb.2.1.2.1.1.1
    exact this
  obtain ⟨tD, htD⟩ : ∃ tD, tD = uSt t (va_up t.1 (15162 + 1) (Int64.ofNat np + 1)) := ⟨_, rfl⟩
  have ySD : tsL t 1 (15163 : Int32) (Int64.ofNat np + 1) = some tD := by rw [htD]; exact y_s (t := t) (k := 15163) (by decide)
  have TD : dr tD = va_up (dr t) 1 (Int64.ofNat np + 1) := by rw [htD]; exact dr_up t 1 _
  have L1 := Ld_up h T1 (z1 := z) (t1 := tD) (fun e he => f1 e (by omega) (by omega)) (Nat.le_refl _) (by omega) (fun e e1 e2 => (A3 e (by omega)).2.1) (by rw [htD]; exact up_st t (by omega) _)
  have g30 := f1 (nb + 200 + 30 + np) (by omega) (by omega)
  have g40 := f1 (nb + 200 + 40 + np) (by omega) (by omega)
  have g50 := f1 (nb + 200 + 50 + np) (by omega) (by omega)
  have g60 := f1 (nb + 200 + 60 + np) (by omega) (by omega)
  have l5 := lsc_cg a4 ⟨g50.2.1, g50.2.2.1, g50.2.2.2.2⟩ ⟨g60.2.1, g60.2.2.2.2⟩
  have M1 := Mk_plan (s1 := s1) (v1 := rv0 p1 g1) (T1 := dr tD) (n := n) hMb hzb hnp A2' ⟨g30.2.1.trans b1, (congrFun g30.2.2.2.2 0).trans b2, (congrFun g30.2.2.2.2 1).trans b3, g40.2.1.trans b4, hn, l5.1, fun j hj => ((f1 _ (by omega) (by omega)).2.1).trans (a5 j hj)⟩ (plW_cg a7 (fun d hd => by have k := f1 d (by omega) (by omega); exact ⟨k.2.2.1, k.2.2.2.1⟩) (fun x hx => by rw [TD, cu_ne _ _ (by omega)])) (fun j hj => by rw [TD, cu_ne _ _ (by omega)]; exact a8 j hj) (fun e e0 e1 e2 e3 e4 e5 e6 e7 => by
    have x := a1 e (by omega) (by omega) e3 e4 e5 e6 e7
    have y := f1 e e1 e2
    exact ⟨y.2.1.trans x.1, y.2.2.1.trans x.2.1, y.2.2.2.1.trans x.2.2.1, y.2.2.2.2.trans x.2.2.2⟩) (svw_tr a2 (svw_mono (rv0_Tr T1))) (by rw [TD, cu_same, i64_s]) (fun y y1 y2 => by rw [TD, cu_ne _ _ y1]; exact a9 y y2)
  have M2 := Mk_Kq M1 hzb (Kq_rfl nb zb p1 s1 g1 tD) (show zb ≤ z from hz)
  refine Or.inl ⟨p1, s1, g1, tD, _, _, ps, _, kd, _, _, _, _, _, _, _, _, _, ?_, fun x t10 hx3 e9 => ?_, L1, M2, Nat.le_refl _, Ld_ps h, by omega, by omega, by omega, (f1 _ (by omega) (by omega)).1⟩
  · rw [f_X7_plan_l74, g5, b1_some, if_neg e2, r1, b1_some, r2, b1_some, c_cko hp l0.1.1, b1_some, e1, b2_some]
  · rw [t_X6_readPlan_l78, if_neg (by rw [c3]; exact e2), eP, b1_some, ySD, b1_some]
    exact y_fin hx3 e9
end LP
