/-! input appended; counts -/
set_option maxRecDepth 100000
def bt (p6 p5 : Int32) : Int32 := ((p5 >>> (p6 &&& 31)).toInt8.toInt32).toInt8.toInt32
def app1 (s : cT) (L : Nat) (v : Int32) : cT := uI (uI s 23 L v) 1 7 (Int32.ofNat (L + 1))
def apt (t : twS) (L : Nat) (v : Int32) : twS := uSc (uAr t 7 (va_up (t.2.2.1 7) L v)) 9 (Int32.ofNat (L + 1))
def AP (s : cT) (t : twS) (s1 : cT) (t1 : twS) (L : Nat) : Prop := s1.1 = s.1 ∧ s1.2.2.2 = s.2.2.2 ∧ s1.2.2.1 = s.2.2.1 ∧ (∀ d k, d ≠ 23 → ¬ (d = 1 ∧ k = 7) → s1.2.1 d k = s.2.1 d k) ∧ t1.1 = t.1 ∧ (∀ i, i ≠ 7 → t1.2.2.1 i = t.2.2.1 i) ∧ (∀ k, k ≠ 9 → tSc t1 k = tSc t k) ∧ s1.2.1 1 7 = Int32.ofNat L ∧ tSc t1 9 = Int32.ofNat L ∧ ∀ j, j < 1500 → s1.2.1 23 j = t1.2.2.1 7 j
theorem AP_step {s s1 : cT} {t t1 : twS} {L : Nat} (h : AP s t s1 t1 L) (v : Int32) : AP s t (app1 s1 L v) (apt t1 L v) (L + 1) := by
  obtain ⟨a1, a2, a3, a4, a5, a6, a7, a8, a9, a10⟩ := h
  refine ⟨a1, a2, a3, fun d k h1 h2 => ?_, a5, fun i hi => ?_, fun k hk => ?_, uI_s _ _ _ _, rfl, fun j hj => ?_⟩
  · unfold app1
    rw [uI_ne _ _ (by omega), uI_ne _ _ (Or.inl h1)]
    exact a4 d k h1 h2
  · show va_up t1.2.2.1 7 _ i = _
    rw [cu_ne _ _ hi]; exact a6 i hi
  · show va_up t1.2.2.2.1 9 _ k = _
    rw [cu_ne _ _ hk]; exact a7 k hk
  · show (uI (uI s1 23 L v) 1 7 (Int32.ofNat (L + 1))).2.1 23 j = va_up t1.2.2.1 7 (va_up (t1.2.2.1 7) L v) 7 j
    rw [uI_ne _ _ (Or.inl (by decide)), cu_same]
    by_cases w : j = L
    · rw [w, uI_s, cu_same]
    · rw [uI_ne _ _ (Or.inr w), cu_ne _ _ w]; exact a10 j hj
section AI
variable {E : zE} {N : iN} {s s1 : cT} {t t1 : twS} {g : zH} {L : Nat}
theorem l41s {k25 : Nat → Int32 → Int32 → cT → zH → Option (Int32 × (cT × zH))} {m p2 : Nat} {p3 p4 p5 p6 : Int32} (hL : s1.2.1 1 7 = Int32.ofNat L) (h : L < 1500) (hp : ¬ p6 < 0) : c_X1_append_l41 E N k25 (m + 1) p2 p3 p4 p5 p6 s1 g = c_X1_append_l41 E N k25 m p2 p3 p4 p5 (p6 + (-8)) (app1 s1 L (bt p6 p5)) g := by
  have e : c_X1_append_l41 E N k25 (m + 1) p2 p3 p4 p5 p6 s1 g = if p6 < 0 then k25 p2 p3 (p4 + 1) s1 g else (csI s1 23 1500 (s1.2.1 1 7) (bt p6 p5)).bind fun s68 => c_X1_append_l41 E N k25 m p2 p3 p4 p5 (p6 + (-8)) (uI s68 1 7 ((s68.2.1 1 7) + (1 : Int32))) g := rfl
  rw [e, if_neg hp, hL, csI_of h (by decide), b1_some, uI_ne _ _ (Or.inl (by decide)), hL, i32_s]
  rfl
theorem l3s {m : Nat} {p1 p2 : Int32} (hL : tSc t1 9 = Int32.ofNat L) (h : L < 1500) (hp : ¬ p2 < 0) : t_X6_appendBytes_l3 E (m + 1) p1 p2 t1 = t_X6_appendBytes_l3 E m p1 (p2 + (-8)) (apt t1 L (bt p2 p1)) := by
  have e : t_X6_appendBytes_l3 E (m + 1) p1 p2 t1 = if p2 < 0 then some ((), t1) else (tsI t1 7 2 (tSc t1 9) (bt p2 p1)).bind fun s6_ => t_X6_appendBytes_l3 E m p1 (p2 + (-8)) (uSc s6_ 9 ((tSc s6_ 9) + (1 : Int32))) := rfl
  have e2 : tsI t1 7 2 (Int32.ofNat L) (bt p2 p1) = some (uAr t1 7 (va_up (t1.2.2.1 7) L (bt p2 p1))) := by
    show (if 2 = 2 ∧ ¬ (Int32.ofNat L < 0 ∨ 1500 ≤ (Int32.ofNat L).toNatClampNeg) then some (uAr t1 7 (va_up (t1.2.2.1 7) (Int32.ofNat L).toNatClampNeg (bt p2 p1))) else none) = _
    rw [nat_clamp (by omega), if_pos ⟨rfl, fun q => q.elim (i32_nneg (by omega)) (by omega)⟩]
  rw [e, if_neg hp, hL, e2, b1_some, show tSc (uAr t1 7 (va_up (t1.2.2.1 7) L (bt p2 p1))) 9 = Int32.ofNat L from hL, i32_s]
  rfl
theorem app_int (h : AP s t s1 t1 L) (hL : L + 4 ≤ 1500) (v : Int32) : ∃ s2 t2, AP s t s2 t2 (L + 4) ∧ (∀ (k25 : Nat → Int32 → Int32 → cT → zH → Option (Int32 × (cT × zH))) m p2 p3 p4 g, 5 ≤ m → c_X1_append_l41 E N k25 m p2 p3 p4 v (24 : Int32) s1 g = k25 p2 p3 (p4 + 1) s2 g) ∧ t_X6_appendBytes_l3 E (E.1 - 5 + 5) v (24 : Int32) t1 = some ((), t2) := by
  have h1 := AP_step h (bt 24 v)
  have h2 := AP_step h1 (bt 16 v)
  have h3 := AP_step h2 (bt 8 v)
  have h4 := AP_step h3 (bt 0 v)
  refine ⟨_, _, h4, fun k25 m p2 p3 p4 g hm => ?_, ?_⟩
  · obtain ⟨m, rfl⟩ : ∃ r, m = r + 5 := ⟨m - 5, by omega⟩
    rw [l41s (m := m + 4) h.2.2.2.2.2.2.2.1 (by omega) (by decide), show (24 : Int32) + (-8) = 16 by decide, l41s (m := m + 3) h1.2.2.2.2.2.2.2.1 (by omega) (by decide), show (16 : Int32) + (-8) = 8 by decide, l41s (m := m + 2) h2.2.2.2.2.2.2.2.1 (by omega) (by decide), show (8 : Int32) + (-8) = 0 by decide, l41s (m := m + 1) h3.2.2.2.2.2.2.2.1 (by omega) (by decide)]
    exact if_pos (by decide)
  · rw [l3s (m := E.1 - 5 + 4) h.2.2.2.2.2.2.2.2.1 (by omega) (by decide), show (24 : Int32) + (-8) = 16 by decide, l3s (m := E.1 - 5 + 3) h1.2.2.2.2.2.2.2.2.1 (by omega) (by decide), show (16 : Int32) + (-8) = 8 by decide, l3s (m := E.1 - 5 + 2) h2.2.2.2.2.2.2.2.2.1 (by omega) (by decide), show (8 : Int32) + (-8) = 0 by decide, l3s (m := E.1 - 5 + 1) h3.2.2.2.2.2.2.2.2.1 (by omega) (by decide)]
    exact if_pos (by decide)
/-- an array of five ints, raw -/
def gi (g : zH) (f : Nat → Int32) : zH := zadd g (true, .inl (0, 5, .inl f)) 5
theorem gi_at (g : zH) (f : Nat → Int32) : (gi g f).1 g.2.1 = some (true, .inl (0, 5, .inl f)) := cu_same _ _ _
theorem gi_s {f : Nat → Int32} {j : Nat} (hj : j < 5) (v : Int32) : sI (gi g f) g.2.1 0 (Int32.ofNat j) v = some (gi g (va_up f j v)) := by
  unfold sI
  rw [gi_at]
  show (if 0 = 0 ∧ ¬ (Int32.ofNat j < 0 ∨ 5 ≤ (Int32.ofNat j).toNatClampNeg) then some (zup (gi g f) g.2.1 (true, .inl (0, 5, .inl (va_up f (Int32.ofNat j).toNatClampNeg v)))) else none) = _
  rw [nat_clamp (by omega), if_pos ⟨rfl, fun q => q.elim (i32_nneg (by omega)) (by omega)⟩]
  refine congrArg some (Prod.ext (funext fun b => ?_) rfl)
  show va_up (va_up g.1 g.2.1 _) g.2.1 _ b = va_up g.1 g.2.1 _ b
  by_cases e : b = g.2.1
  · rw [e, cu_same, cu_same]
  · rw [cu_ne _ _ e, cu_ne _ _ e, cu_ne _ _ e]
theorem gi_d {f : Nat → Int32} {j : Nat} (hj : j < 5) : dI (gi g f) g.2.1 0 (Int32.ofNat j) = some (f j) := by
  unfold dI
  rw [gi_at]
  show (if 0 = 0 ∧ ¬ (Int32.ofNat j < 0 ∨ 5 ≤ (Int32.ofNat j).toNatClampNeg) then some (f (Int32.ofNat j).toNatClampNeg) else none) = _
  rw [nat_clamp (by omega), if_pos ⟨rfl, fun q => q.elim (i32_nneg (by omega)) (by omega)⟩]
theorem gi_l {f : Nat → Int32} : lenA (gi g f) g.2.1 = some (5 : Int32) := by
  unfold lenA
  rw [gi_at]
  rfl
theorem gi_n (hr : rm g 1 5) : nA g 0 (5 : Int32) (.inl fun _ => 0) = some (g.2.1, gi g fun _ => 0) := by
  unfold nA
  rw [show (5 : Int32).toNatClampNeg = 5 by decide]
  exact if_pos ⟨by decide, by decide, hr.1, hr.2⟩
end AI
section WO
variable {Y : cT → (Nat → Option zC) → twS → Prop} {E : zE} {q x a c n : Nat} {H : zH} {t : twS} {p : cP} {s : cT} {N : iN} {mo nb : Nat}
theorem W_appendInput (hY : stY Y) (hE : 20000 ≤ E.1) (h : Wo (XX Y) q x a (c + 1) n H t p s N mo nb) (p1 p2 p3 p4 p5 : Int32) : ∃ r H1 t1, f_X1_appendInput E x p1 p2 p3 p4 p5 H = some (r, H1) ∧ t_X6_appendInput E p1 p2 p3 p4 p5 t = some (r, t1) ∧ Wd (XX Y) q x a c H1 t1 := by
  obtain ⟨b1, b2, b3, ⟨L, b4, b4'⟩, b5⟩ := h.2.2.2.2.2.2.1
  have hy := h.2.2.2.2.2.2.2
  have hr : rm H 1 5 := rm_le h.2.2.1.2.2.2.2 (by omega) (by omega)
  have bI : s.2.1 1 7 = Int32.ofNat L := b1.trans b4
  generalize hF : (va_up (va_up (va_up (va_up (va_up (fun _ => 0) 0 p1) 1 p2) 2 p3) 3 p4) 4 p5 : Nat → Int32) = F
  have F0 : F 0 = p1 := by rw [← hF]; rfl
  have F1 : F 1 = p2 := by rw [← hF]; rfl
  have F2 : F 2 = p3 := by rw [← hF]; rfl
  have F3 : F 3 = p4 := by rw [← hF]; rfl
  have F4 : F 4 = p5 := by rw [← hF]; rfl
  have s0 : ∀ (f : Nat → Int32) (v : Int32), sI (gi H f) H.2.1 0 (0 : Int32) v = some (gi H (va_up f 0 v)) := fun f v => gi_s (j := 0) (by decide) v
  have s1 : ∀ (f : Nat → Int32) (v : Int32), sI (gi H f) H.2.1 0 (1 : Int32) v = some (gi H (va_up f 1 v)) := fun f v => gi_s (j := 1) (by decide) v
  have s2 : ∀ (f : Nat → Int32) (v : Int32), sI (gi H f) H.2.1 0 (2 : Int32) v = some (gi H (va_up f 2 v)) := fun f v => gi_s (j := 2) (by decide) v
  have s3 : ∀ (f : Nat → Int32) (v : Int32), sI (gi H f) H.2.1 0 (3 : Int32) v = some (gi H (va_up f 3 v)) := fun f v => gi_s (j := 3) (by decide) v
  have s4 : ∀ (f : Nat → Int32) (v : Int32), sI (gi H f) H.2.1 0 (4 : Int32) v = some (gi H (va_up f 4 v)) := fun f v => gi_s (j := 4) (by decide) v
  have d0 : dI (gi H F) H.2.1 0 (0 : Int32) = some p1 := (gi_d (j := 0) (by decide)).trans (congrArg some F0)
  have d1 : dI (gi H F) H.2.1 0 (1 : Int32) = some p2 := (gi_d (j := 1) (by decide)).trans (congrArg some F1)
  have d2 : dI (gi H F) H.2.1 0 (2 : Int32) = some p3 := (gi_d (j := 2) (by decide)).trans (congrArg some F2)
  have d3 : dI (gi H F) H.2.1 0 (3 : Int32) = some p4 := (gi_d (j := 3) (by decide)).trans (congrArg some F3)
  have d4 : dI (gi H F) H.2.1 0 (4 : Int32) = some p5 := (gi_d (j := 4) (by decide)).trans (congrArg some F4)
  have hx : gx H (gi H F) 1 5 := gx_add H _ 5
  have hgp : gxp H (gi H F) a := gxp_gx (gxw hx (by decide) (by decide)) h.2.2.2.1.2.1
  have pre : c_X1_appendInput E N p1 p2 p3 p4 p5 s H = bnd2 (c_X1_append E N H.2.1 s (gi H F)) fun x17 z88 => some (x17, (z88.1, z88.2)) := by
    unfold c_X1_appendInput c_X1_appendInput_b0
    rw [gi_n hr, b2_some, s0, b1_some, s1, b1_some, s2, b1_some, s3, b1_some, s4, b1_some, hF]
  have cnd : ∀ z : Int32, z = Int32.ofNat L → (z + (20 : Int32) ≤ (1500 : Int32) ↔ L + 20 ≤ 1500) := fun z hz => by
    rw [hz, show (20 : Int32) = Int32.ofNat 20 from rfl, ← Int32.ofNat_add, show (1500 : Int32) = Int32.ofNat 1500 from rfl, i32_le (by omega) (by decide)]
  by_cases hc : L + 20 ≤ 1500
  · have A0 : AP s (uSc t 2 0) s (uSc t 2 0) L := ⟨rfl, rfl, rfl, fun _ _ _ _ => rfl, rfl, fun _ _ => rfl, fun _ _ => rfl, bI, b4, b5⟩
    obtain ⟨sa, ta, A1, c1, u1⟩ := app_int (E := E) (N := N) A0 (by omega) p1
    obtain ⟨sb, tb, A2, c2, u2⟩ := app_int (E := E) (N := N) A1 (by omega) p2
    obtain ⟨sc, tc, A3, c3, u3⟩ := app_int (E := E) (N := N) A2 (by omega) p3
    obtain ⟨sd, td, A4, c4, u4⟩ := app_int (E := E) (N := N) A3 (by omega) p4
    obtain ⟨se, te, A5, c5, u5⟩ := app_int (E := E) (N := N) A4 (by omega) p5
    rw [show E.1 - 5 + 5 = E.1 by omega] at u1 u2 u3 u4 u5
    have hcc : c_X1_appendInput E N p1 p2 p3 p4 p5 s H = some (Int32.ofNat (L + 20), (se, gi H F)) := by
      rw [pre]
      unfold c_X1_append c_X1_append_b0
      rw [gi_l, b1_some, show (4 : Int32) * 5 = 20 by decide, if_pos ((cnd _ bI).mpr hc), b1_some]
      obtain ⟨m, hm⟩ : ∃ m, E.1 = m + 6 := ⟨E.1 - 6, by omega⟩
      have st : ∀ (k : Nat) (j : Int32) (s' s'' : cT) (v : Int32), ¬ (5 : Int32) ≤ j → dI (gi H F) H.2.1 0 j = some v → (∀ (k25 : Nat → Int32 → Int32 → cT → zH → Option (Int32 × (cT × zH))) m p2 p3 p4 g, 5 ≤ m → c_X1_append_l41 E N k25 m p2 p3 p4 v (24 : Int32) s' g = k25 p2 p3 (p4 + 1) s'' g) → c_X1_append_l25 E N (k + 1) H.2.1 (5 : Int32) j s' (gi H F) = c_X1_append_l25 E N k H.2.1 (5 : Int32) (j + 1) s'' (gi H F) := fun k j s' s'' v h1 h2 h3 => by
        have e : c_X1_append_l25 E N (k + 1) H.2.1 (5 : Int32) j s' (gi H F) = if (5 : Int32) ≤ j then some (s'.2.1 1 7, (s', gi H F)) else (dI (gi H F) H.2.1 0 j).bind fun x4 => c_X1_append_l41 E N (c_X1_append_l25 E N k) E.1 H.2.1 (5 : Int32) j x4 (24 : Int32) s' (gi H F) := rfl
        rw [e, if_neg h1, h2, b1_some, h3 _ _ _ _ _ _ (by omega)]
      rw [hm, st (m + 5) 0 s sa p1 (by decide) d0 c1, show (0 : Int32) + 1 = 1 by decide, st (m + 4) 1 sa sb p2 (by decide) d1 c2, show (1 : Int32) + 1 = 2 by decide, st (m + 3) 2 sb sc p3 (by decide) d2 c3, show (2 : Int32) + 1 = 3 by decide, st (m + 2) 3 sc sd p4 (by decide) d3 c4, show (3 : Int32) + 1 = 4 by decide, st (m + 1) 4 sd se p5 (by decide) d4 c5, show (4 : Int32) + 1 = 5 by decide]
      have e : c_X1_append_l25 E N (m + 1) H.2.1 (5 : Int32) 5 se (gi H F) = some (se.2.1 1 7, (se, gi H F)) := if_pos (by decide)
      rw [e, b2_some, A5.2.2.2.2.2.2.2.1]
    have k := cs_X1_appendInput (p := p) E h.1.2.2.1 hcc
    rw [h.1.2.2.2, h.1.2.1] at k
    refine ⟨Int32.ofNat (L + 20), cH p se (gi H F), te, k.1, ?_, n + 1, p, se, N, mo, nb, Wo_sm h A5.1 A5.2.1 A5.2.2.1 (fun d d1 d2 => funext fun i => A5.2.2.2.1 d i d2 (by omega)) A5.2.2.2.2.1 (A5.2.2.2.2.2.1 2 (by decide)) hgp k.2 (fun hv => ⟨⟨?_, ?_, ?_, ⟨L + 20, A5.2.2.2.2.2.2.2.2.1, hc⟩, A5.2.2.2.2.2.2.2.2.2⟩, hY s _ _ _ t _ (fun d d1 d2 d3 d4 d5 => ⟨by rw [A5.1], funext fun i => A5.2.2.2.1 d i d5 (by omega), by rw [A5.2.2.1], by rw [A5.2.1]⟩) hv (fun k hk => ?_) (fun i hi => A5.2.2.2.2.2.1 i (by omega)) (fun i hi => congrFun A5.2.2.2.2.1 _) hy⟩)⟩
    · unfold t_X6_appendInput t_X6_appendInput_b0 t_X6_appendBytes t_X6_appendBytes_b0
      rw [if_pos ((cnd (tSc (uSc t 2 (0 : Int32)) 9) b4).mpr hc), u1, b2_some, u2, b2_some, u3, b2_some, u4, b2_some, u5, b2_some, A5.2.2.2.2.2.2.2.2.1]
    · rw [A5.2.2.2.2.2.2.2.1, A5.2.2.2.2.2.2.2.2.1]
    · rw [A5.2.2.2.1 1 8 (by decide) (by decide), A5.2.2.2.2.2.2.1 11 (by decide)]; exact b2
    · rw [A5.2.2.2.1 1 9 (by decide) (by decide), A5.2.2.2.2.2.2.1 12 (by decide)]; exact b3
    · rw [A5.2.2.2.2.2.2.1 k (by omega), tSc_u, if_neg (by omega)]
  · have hcc : c_X1_appendInput E N p1 p2 p3 p4 p5 s H = some (-1, (s, gi H F)) := by
      rw [pre]
      unfold c_X1_append c_X1_append_b0
      rw [gi_l, b1_some, show (4 : Int32) * 5 = 20 by decide, if_neg (fun w => hc ((cnd _ bI).mp w)), b2_some]
    have k := cs_X1_appendInput (p := p) E h.1.2.2.1 hcc
    rw [h.1.2.2.2, h.1.2.1] at k
    refine ⟨-1, cH p s (gi H F), uSc t 2 0, k.1, ?_, n + 1, p, s, N, mo, nb, Wo_sm h rfl rfl rfl (fun _ _ _ => rfl) rfl rfl hgp k.2 (fun hv => (stb_XX hY) s s _ _ t (uSc t 2 0) (fun _ _ _ _ => ⟨rfl, rfl, rfl, fun _ => rfl⟩) hv (fun k hk => cu_ne _ _ hk) (fun _ _ => rfl) (fun _ _ => rfl) h.2.2.2.2.2.2)⟩
    unfold t_X6_appendInput t_X6_appendInput_b0
    rw [if_neg (fun w => hc ((cnd (tSc (uSc t 2 (0 : Int32)) 9) b4).mp w))]
theorem W_count (hY : stY Y) (hJ : ∀ s v t, Y s v t → s.1 26 = (1, 16) ∧ s.2.1 26 1 = tSc t 19 - tSc t 20) (h : Wo (XX Y) q x a (c + 1) n H t p s N mo nb) (p1 : Int32) : ∃ r H1 t1, f_X1_count E x p1 H = some (r, H1) ∧ t_X6_count E p1 t = some (r, t1) ∧ Wd (XX Y) q x a c H1 t1 := by
  have hw := Wo_thr (stb_XX hY) h 0
  have j := hJ s _ t h.2.2.2.2.2.2.2
  obtain ⟨⟨w1, w2, w3, w4⟩, ⟨w5, w6, w7, w8, w9⟩, -⟩ := h
  have iX := w3.2.2.1
  have iB := w3.2.2.2.1
  have iR := w3.2.2.2.2.1
  have np4 := w6.1.2.2.2
  have key : ∀ r, f_X1_count E (p.1 1) p1 (cH p s H) = some (r, cH p s H) → t_X6_count E p1 t = some (r, uSc t 2 0) → ∃ r H1 t1, f_X1_count E x p1 H = some (r, H1) ∧ t_X6_count E p1 t = some (r, t1) ∧ Wd (XX Y) q x a c H1 t1 := fun r h1 h2 => by
    rw [w2, w4] at h1
    exact ⟨r, H, uSc t 2 0, h1, h2, n + 1, p, s, N, mo, nb, hw⟩
  by_cases c0 : p1 = 0
  · refine key (Int32.ofNat N.2.2.2.1) ?_ ?_
    · unfold f_X1_count f_X1_count_b0 f_X1_count_b88
      rw [if_pos c0, c_gR w1.1 iX.1 rfl iX.2.1, b1_some, c_gR w1.1 iR.1 rfl iR.2.1, b1_some, c_cko w1.1 iR.2.2.2.2.2.2.2.2.2.2.1.1, b1_some, b_size w1.1 iR.2.2.2.2.2.2.2.2.2.2.1 E, b2_some]
    · unfold t_X6_count t_X6_count_b0
      rw [if_pos c0, y_d1, b1_some, uSc_1, r_np w7, i64_32]
  · by_cases c1 : p1 = 1
    · refine key (Int32.ofNat N.2.1) ?_ ?_
      · unfold f_X1_count f_X1_count_b0 f_X1_count_b88
        rw [if_neg c0, if_pos c1, c_gR w1.1 iX.1 rfl iX.2.2.1, b1_some, c_gR w1.1 iB.1 rfl iB.2.1, b1_some, c_cko w1.1 iB.2.2.2.2.2.2.2.2.2.1.1, b1_some, b_size w1.1 iB.2.2.2.2.2.2.2.2.2.1 E, b2_some]
      · unfold t_X6_count t_X6_count_b0
        rw [if_neg c0, if_pos c1, y_d2, b1_some, uSc_1, r_nf w5, i64_32]
    · by_cases c2 : p1 = 2
      · refine key (Int32.ofNat N.2.2.1) ?_ ?_
        · unfold f_X1_count f_X1_count_b0 f_X1_count_b88
          rw [if_neg c0, if_neg c1, if_pos c2, c_gR w1.1 iX.1 rfl iX.2.2.1, b1_some, c_gR w1.1 iB.1 rfl iB.2.2.1, b1_some, c_cko w1.1 iB.2.2.2.2.2.2.2.2.2.2.1.1, b1_some, b_size w1.1 iB.2.2.2.2.2.2.2.2.2.2.1 E, b2_some]
        · unfold t_X6_count t_X6_count_b0
          rw [if_neg c0, if_neg c1, if_pos c2, y_d3, b1_some, uSc_1, r_no w5, i64_32]
      · by_cases c3 : p1 = 3
        · refine key (s.2.1 26 1) ?_ ?_
          · unfold f_X1_count f_X1_count_b0 f_X1_count_b88 f_J19_size f_J19_size_b0
            rw [if_neg c0, if_neg c1, if_neg c2, if_pos c3, c_gR w1.1 iX.1 rfl iX.2.2.2.2.2.1, b1_some, c_cko w1.1 j.1, b1_some, c_gI w1.1 j.1 rfl, b1_some, b2_some]
          · unfold t_X6_count t_X6_count_b0
            rw [if_neg c0, if_neg c1, if_neg c2, if_pos c3, j.2]
            rfl
        · refine key (-1) ?_ ?_
          · unfold f_X1_count f_X1_count_b0 f_X1_count_b88
            rw [if_neg c0, if_neg c1, if_neg c2, if_neg c3]
          · unfold t_X6_count t_X6_count_b0
            rw [if_neg c0, if_neg c1, if_neg c2, if_neg c3]
end WO
