/-! settings: every one; what a statement's body leaves (BoO) *(printed)* -/
set_option maxRecDepth 100000
/-- behind the body of a statement, on both sides *(the twin has its end ahead)* -/
def BoO (E : zE) (p0 : cP) (g0 : zH) (s0 : cT) (t0 : twS) (nb cnt k m ps z rda : Nat) (comp : Option ((Unit ⊕ (Nat × Nat)) × zH)) (tw : Option (Int32 × twS)) : Prop := (∃ p1 s1 g1 t1 k1 m1 ps1 z1 kd1 c7 c8 c9 np nf no nt na nm, comp = some (.inl (), cH p1 s1 g1) ∧ (∀ x t2, x = 0 ∨ x = 1 → t_X6_readEnd E t1 = some (x, t2) → tw = some (x, t2)) ∧ Ld p0 g0 s0 t0 nb k1 m1 ps1 z1 kd1 p1 s1 g1 t1 ∧ Mk nb z1 c7 c8 c9 np nf no cnt nt na nm s1 (rv0 p1 g1) (dr t1) ∧ ps < ps1 ∧ ps1 ≤ 1501 ∧ k1 + 6 * ps ≤ k + 6 * ps1 + 2 ∧ m1 + 140 * ps ≤ m + 140 * ps1 + 112 ∧ z1 + 3 * ps ≤ z + 3 * ps1 ∧ p1.1 (nb + 400) = rda) ∨ ∃ a H t1, comp = some (.inr (7, a), H) ∧ tw = some (0, t1) ∧ Fa p0 g0 s0 t0 nb H a t1
def twc (E : zE) (t : twS) : Option (Int32 × twS) := bnd2 (t_X6_advance E t) fun x33 s31_ => bnd2 (t_X6_readInto E (15166 : Int32) (0 : Int32) (5000 : Int32) (1 : Int64) s31_) fun x37 s35_ => if x37 = 0 then (t_X6_readStatement_b127 E s35_) else (bnd2 (t_X6_readInto E (15167 : Int32) (0 : Int32) (9999 : Int32) (100 : Int64) s35_) fun x42 s40_ => if x42 = 0 then (t_X6_readStatement_b127 E s40_) else (bnd2 (t_X6_readEnd E s40_) fun x47 s45_ => if x47 = 0 then (t_X6_readStatement_b127 E s45_) else (t_X6_readStatement_b128 E (1 : Int32) s45_)))
/-- the twin's settings -/
def tws (E : zE) (i : Nat) (t : twS) : Option (Int32 × twS) := match i with
  | 19 => twc E t
  | 20 => t_X6_readSetting E (6 : Int32) (500 : Int32) (1 : Int64) t
  | 21 => t_X6_readSetting E (7 : Int32) (2000 : Int32) (1 : Int64) t
  | 22 => t_X6_readSetting E (8 : Int32) (9999 : Int32) (100 : Int64) t
  | 23 => t_X6_readSetting E (9 : Int32) (12 : Int32) (1 : Int64) t
  | _ => t_X6_readSetting E (10 : Int32) (999 : Int32) (1 : Int64) t
section LS
variable {E : zE} {p0 : cP} {g0 : zH} {s0 : cT} {t0 : twS} {nb k m ps z kd : Nat} {p : cP} {s : cT} {g : zH} {t : twS} {c7 c8 c9 np nf no cnt : Nat} {nt na : Nat → Nat} {nm : Nat → List Nat}
theorem y_setE {what hi : Int32} {unit : Int64} {t1 t2 : twS} (e1 : t_X6_advance E t = some ((), t1)) (e2 : t_X6_readInto E ((15162 : Int32) + what) (0 : Int32) hi unit t1 = some (1, t2)) : ∀ x t3, x = 0 ∨ x = 1 → t_X6_readEnd E t2 = some (x, t3) → t_X6_readSetting E what hi unit t = some (x, t3) := fun x t3 hx e3 => by
  unfold t_X6_readSetting t_X6_readSetting_b0 t_X6_readSetting_b30 t_X6_readSetting_b31
  rw [e1, b2_some, e2, b2_some, if_neg (by decide), e3, b2_some]
  rcases hx with rfl | rfl
  · rw [if_pos rfl, zgd0, b1_some]
  · rw [if_neg (by decide), zgd1, b1_some]
theorem y_setZ {what hi : Int32} {unit : Int64} {t1 t2 : twS} (e1 : t_X6_advance E t = some ((), t1)) (e2 : t_X6_readInto E ((15162 : Int32) + what) (0 : Int32) hi unit t1 = some (0, t2)) : t_X6_readSetting E what hi unit t = some (0, t2) := by
  unfold t_X6_readSetting t_X6_readSetting_b0 t_X6_readSetting_b30 t_X6_readSetting_b31
  rw [e1, b2_some, e2, b2_some, if_pos rfl, zgd0, b1_some]
theorem L_setting (hE : 20000 ≤ E.1) (h : Ld p0 g0 s0 t0 nb k m ps z kd p s g t) (hM : Mk nb z c7 c8 c9 np nf no cnt nt na nm s (rv0 p g) (dr t)) (hr : rm g0 20000 220000) (hq : bq nb (k + 40) (m + 400) (z + 40)) (hnb : nb + 10000 ≤ XT) (hL : Lt E (rv0 p0 g0)) (hsv : svw (rv0 p0 g0) (rv0 p g)) (hkd : kd ≠ 0) {a i : Nat} {d : List Nat} (la : g0.2.1 ≤ a) (hd : wrd d) (hS : StrH (rv0 p g) a (chd d)) (h1 : 19 ≤ i) (h2 : i < 25) (h3 : d = kw i) : BoO E p0 g0 s0 t0 nb cnt k m ps z (p.1 (nb + 400)) (f_X7_setting E (p.1 (nb + 400)) a (cH p s g)) (tws E i t) := by
  obtain ⟨q1, q2, q3⟩ := hq
  have zb := h.2.2.2.2.1
  have hc := c_cko (g := g) h.1.1.1 (Ld_kd h).1
  obtain ⟨p1, s1, g1, t1, ps1, kd1, a1, a2, h1', a4, a5, K1, -⟩ := L_s0 hE h hr ⟨by omega, by omega, by omega⟩ hnb hkd
  have hS1 := K1.2.2.1.2 _ _ hS
  have hL1 := Lt_svw (svw_tr hsv K1.2.2.1) hL
  obtain ⟨g2, hg, xs⟩ := x_set (s := s1) (F := fun v h => f_X7_setting_b131 E (p.1 (nb + 400)) v h) hE hL1 hd hS1 h1 h2 h3
  obtain ⟨h2', K2⟩ := Ld_hG h1' hg la
  have K := Kq_tr K1 K2 (show z ≤ z + 2 by omega)
  have M2 := Mk_Kq hM zb.1 K (show z ≤ z + 2 by omega)
  have ck19 : cko (cH p1 s1 g1) a 19 = some () := (str_len (E := E) (StrH_Str hS1)).1
  have rd := K.2.1
  have comp : f_X7_setting E (p.1 (nb + 400)) a (cH p s g) = f_X7_setting_b131 E (p1.1 (nb + 400)) (if i = 24 then -1 else Int32.ofNat (i - 19)) (cH p1 s1 g2) := by
    rw [rd, ← xs]
    unfold f_X7_setting f_X7_setting_b0
    rw [hc, b1_some, a1, b2_some, ck19, b1_some]
  rw [comp, ← rd]
  have c : i = 19 ∨ i = 20 ∨ i = 21 ∨ i = 22 ∨ i = 23 ∨ i = 24 := by clear comp; omega
  have B : bq nb (k + 4 + 10) (m + 28 + 100) (z + 2 + 10) := ⟨by omega, by omega, by omega⟩
  rcases c with rfl | rfl | rfl | rfl | rfl | rfl
  · have ck2 := c_cko (g := g2) h2'.1.1.1 (Ld_kd h2').1
    have e0 : f_X7_setting_b131 E (p1.1 (nb + 400)) (if 19 = 24 then -1 else Int32.ofNat (19 - 19)) (cH p1 s1 g2) = (cko (cH p1 s1 g2) (p1.1 (nb + 400)) 6).bind fun _ => bnd2 (f_X7_credit E (p1.1 (nb + 400)) (cH p1 s1 g2)) (fun x5 h3 => Sum.elim (fun x6 => f_X7_setting_b280 E h3) (fun q7 => some (.inr q7, h3)) x5) := rfl
    rw [e0, ck2, b1_some]
    show BoO E p0 g0 s0 t0 nb cnt k m ps z (p1.1 (nb + 400)) (bnd2 (f_X7_credit E (p1.1 (nb + 400)) (cH p1 s1 g2)) (fun x5 h3 => Sum.elim (fun x6 => f_X7_setting_b280 E h3) (fun q7 => some (.inr q7, h3)) x5)) (twc E t)
    unfold f_X7_credit f_X7_credit_b0
    rcases L_rate (E := E) (j := 2) (y := 4) (hi := 5000) (x := (15166 : Int32)) hE h2' M2 hr B hnb (Or.inl ⟨rfl, rfl, rfl⟩) rfl (F := fun h15 => (gR h15 (p1.1 (nb + 400)) 6 1).bind fun x17 => (cko h15 (p1.1 (nb + 400)) 6).bind fun _ => bnd2 (f_X7_number E (p1.1 (nb + 400)) (0 : Int32) (9999 : Int32) h15) fun x22 h20 => Sum.elim (fun x23 => ((pF h20 x17 2 5 (.long ((100 : Int64) * (x23.toInt64)))).bind fun h25 => some (.inl (), h25))) (fun q24 => (some (.inr q24, h20))) x22) with ⟨p3, s3, g3, t3, ps3, kd3, e7, e8, e9, b1, b2, h3', M3, b4, b5, b6⟩ | ⟨a9, H, t9, b1, b2, b3⟩
    · rw [b1]
      rw [← b6]
      rcases L_long (E := E) (j := 5) (y := 5) (hi := 9999) (x := (15167 : Int32)) hE h3' M3 hr ⟨by omega, by omega, by omega⟩ hnb (Or.inl ⟨rfl, rfl, rfl⟩) rfl (F := fun h25 => some (Sum.inl (), h25)) with ⟨p4, s4, g4, t4, ps4, kd4, c1, c2, h4', M4, c4, c5, c6⟩ | ⟨a9, H, t9, c1, c2, c3⟩
      · refine Or.inl ⟨p4, s4, g4, t4, _, _, ps4, _, kd4, _, _, _, _, _, _, _, _, _, by rw [c1, b2_some]; rfl, fun x t5 hx e3 => ?_, h4', M4, by omega, by omega, by omega, by omega, by omega, c6⟩
        unfold twc t_X6_readStatement_b127 t_X6_readStatement_b128
        rw [a2, b2_some, b2, b2_some, if_neg (by decide), c2, b2_some, if_neg (by decide), e3, b2_some]
        rcases hx with rfl | rfl
        · rw [if_pos rfl, zgd0, b1_some]
        · rw [if_neg (by decide), zgd1, b1_some]
      · refine Or.inr ⟨a9, H, t9, by rw [c1, b2_some]; rfl, ?_, c3⟩
        unfold twc t_X6_readStatement_b127 t_X6_readStatement_b128
        rw [a2, b2_some, b2, b2_some, if_neg (by decide), c2, b2_some, if_pos rfl, zgd0, b1_some]
    · refine Or.inr ⟨a9, H, t9, by rw [b1, b2_some]; rfl, ?_, b3⟩
      unfold twc t_X6_readStatement_b127 t_X6_readStatement_b128
      rw [a2, b2_some, b2, b2_some, if_pos rfl, zgd0, b1_some]
  · rcases L_rate (E := E) (j := 3) (y := 6) (hi := 500) (x := (15162 : Int32) + (6 : Int32)) hE h2' M2 hr B hnb (Or.inr (Or.inl ⟨rfl, rfl, rfl⟩)) (by decide) (F := fun h23 => f_X7_setting_b280 E h23) with ⟨p3, s3, g3, t3, ps3, kd3, e7, e8, e9, b1, b2, h3', M3, b4, b5, b6⟩ | ⟨a9, H, t9, b1, b2, b3⟩
    · exact Or.inl ⟨p3, s3, g3, t3, _, _, ps3, _, kd3, _, _, _, _, _, _, _, _, _, b1, y_setE a2 b2, h3', M3, by omega, by omega, by omega, by omega, by omega, b6⟩
    · exact Or.inr ⟨a9, H, t9, b1, y_setZ a2 b2, b3⟩
  · rcases L_rate (E := E) (j := 4) (y := 7) (hi := 2000) (x := (15162 : Int32) + (7 : Int32)) hE h2' M2 hr B hnb (Or.inr (Or.inr ⟨rfl, rfl, rfl⟩)) (by decide) (F := fun h23 => f_X7_setting_b280 E h23) with ⟨p3, s3, g3, t3, ps3, kd3, e7, e8, e9, b1, b2, h3', M3, b4, b5, b6⟩ | ⟨a9, H, t9, b1, b2, b3⟩
    · exact Or.inl ⟨p3, s3, g3, t3, _, _, ps3, _, kd3, _, _, _, _, _, _, _, _, _, b1, y_setE a2 b2, h3', M3, by omega, by omega, by omega, by omega, by omega, b6⟩
    · exact Or.inr ⟨a9, H, t9, b1, y_setZ a2 b2, b3⟩
  · rcases L_long (E := E) (j := 6) (y := 8) (hi := 9999) (x := (15162 : Int32) + (8 : Int32)) hE h2' M2 hr B hnb (Or.inr ⟨rfl, rfl, rfl⟩) (by decide) (F := fun h23 => f_X7_setting_b280 E h23) with ⟨p3, s3, g3, t3, ps3, kd3, b1, b2, h3', M3, b4, b5, b6⟩ | ⟨a9, H, t9, b1, b2, b3⟩
    · exact Or.inl ⟨p3, s3, g3, t3, _, _, ps3, _, kd3, _, _, _, _, _, _, _, _, _, b1, y_setE a2 b2, h3', M3, by omega, by omega, by omega, by omega, by omega, b6⟩
    · exact Or.inr ⟨a9, H, t9, b1, y_setZ a2 b2, b3⟩
  · rcases L_int (E := E) (j := 7) (y := 9) (hi := 12) (x := (15162 : Int32) + (9 : Int32)) hE h2' M2 hr B hnb (Or.inl ⟨rfl, rfl, rfl⟩) (by decide) (F := fun h23 => f_X7_setting_b280 E h23) with ⟨p3, s3, g3, t3, ps3, kd3, b1, b2, h3', M3, b4, b5, b6⟩ | ⟨a9, H, t9, b1, b2, b3⟩
    · exact Or.inl ⟨p3, s3, g3, t3, _, _, ps3, _, kd3, _, _, _, _, _, _, _, _, _, b1, y_setE a2 b2, h3', M3, by omega, by omega, by omega, by omega, by omega, b6⟩
    · exact Or.inr ⟨a9, H, t9, b1, y_setZ a2 b2, b3⟩
  · rcases L_int (E := E) (j := 8) (y := 10) (hi := 999) (x := (15162 : Int32) + (10 : Int32)) hE h2' M2 hr B hnb (Or.inr ⟨rfl, rfl, rfl⟩) (by decide) (F := fun h23 => f_X7_setting_b280 E h23) with ⟨p3, s3, g3, t3, ps3, kd3, b1, b2, h3', M3, b4, b5, b6⟩ | ⟨a9, H, t9, b1, b2, b3⟩
    · exact Or.inl ⟨p3, s3, g3, t3, _, _, ps3, _, kd3, _, _, _, _, _, _, _, _, _, b1, y_setE a2 b2, h3', M3, by omega, by omega, by omega, by omega, by omega, b6⟩
    · exact Or.inr ⟨a9, H, t9, b1, y_setZ a2 b2, b3⟩
end LS
