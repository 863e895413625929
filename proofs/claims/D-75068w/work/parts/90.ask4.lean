/-! ranks, shares, paying off -/
set_option maxRecDepth 100000
theorem btw_RC {s : cT} {o nf no mo np n : Nat} {t : Nat → Int64} (hB : RB s o nf no mo t) (hI : IV t nf no np mo n) {f : Nat} (hf : f < nf) : ∀ j, j ≤ mo → btw (RC s o f j) 0 (160000000 * j : Nat) := by
  intro j
  induction j with
  | zero => intro _; exact (show btw (0 : Int64) 0 0 from ⟨by decide, by decide⟩)
  | succ j ih =>
    intro hj
    have i1 := ih (by omega)
    have h60 := hI.1.1
    have hr := (hI.2.2.2.2.1 f hf j (by omega)).1
    rw [r_rec hB hf (by omega)] at hr
    show btw (RC s o f j + s.2.2.1 (o + 160 + f) j) 0 _
    exact btw_w (btw_add i1 hr (by omega) (by omega)) (by omega) (by omega)
/-- how many are ahead -/
noncomputable def AH (s : cT) (o mo f : Nat) (n : Nat) : Int32 := sm (fun g => bi (RC s o f mo < RC s o g mo ∨ RC s o g mo = RC s o f mo ∧ g < f)) n
/-- the one that has p ahead -/
def RK (s : cT) (o nf mo : Nat) (p r : Int32) : Prop := (∃ f, f < nf ∧ AH s o mo f nf = p ∧ (∀ d, d < f → ¬ AH s o mo d nf = p) ∧ r = Int32.ofNat f) ∨ ((∀ d, d < nf → ¬ AH s o mo d nf = p) ∧ r = -1)
theorem RK_one {s : cT} {o nf mo : Nat} {p r r1 : Int32} (h : RK s o nf mo p r) (k : RK s o nf mo p r1) : r = r1 := by
  rcases h with ⟨f, h1, h2, h3, rfl⟩ | ⟨h1, rfl⟩
  · rcases k with ⟨f1, k1, k2, k3, rfl⟩ | ⟨k1, rfl⟩
    · by_cases a : f < f1
      · exact absurd h2 (k3 f a)
      · by_cases b : f1 < f
        · exact absurd k2 (h3 f1 b)
        · rw [show f = f1 by omega]
    · exact absurd h2 (k1 f h1)
  · rcases k with ⟨f1, k1, k2, k3, rfl⟩ | ⟨k1, rfl⟩
    · exact absurd k2 (h1 f1 k1)
    · rfl
section LC
variable {E : zE} {N : iN} {s : cT} {g : zH}
theorem x_RK (hE : 1000 ≤ E.1) (hN : N.2.1 ≤ 8) {mo : Nat} (hm : mo ≤ 60) (hmo : s.2.1 (N.1 + 10) 5 = Int32.ofNat mo) (p : Int32) : Ww (c_X1_ranked E N p s g) fun z => RK s N.1 N.2.1 mo p z.1 ∧ z.2 = (s, g) := by
  unfold c_X1_ranked c_X1_ranked_b0
  refine w_lp (σ := Unit) (L := fun m i a => c_X1_ranked_l2 E N m p i s g) (n := N.2.1) (by omega) (Inv := fun j a => ∀ d, d < j → ¬ AH s N.1 mo d N.2.1 = p) (fun m j a hj ha k => ?_) (fun m a ha => ?_) N.2.1 0 E.1 () (by omega) (by omega) (fun d hd => by omega)
  · show Ww (c_X1_ranked_l2 E N (m + 1) p (Int32.ofNat j) s g) _
    unfold c_X1_ranked_l2
    rw [if_neg (le_ofn (by omega) hj), cGet_of hj (by omega), b1_some, hmo, x_RC hE j mo hm, b2_some]
    refine w_lp (L := fun m1 i a => c_X1_ranked_l51 E N (c_X1_ranked_l2 E N m) m1 p (Int32.ofNat j) a (RC s N.1 j mo) i s g) (n := N.2.1) (by omega) (Inv := fun q a => a = AH s N.1 mo j q) (fun m1 q a hq ha1 k1 => ?_) (fun m1 a ha1 => ?_) N.2.1 0 E.1 0 (by omega) (by omega) rfl
    · show Ww (c_X1_ranked_l51 E N (c_X1_ranked_l2 E N m) (m1 + 1) p (Int32.ofNat j) a (RC s N.1 j mo) (Int32.ofNat q) s g) _
      unfold c_X1_ranked_l51 c_X1_ranked_b120 c_X1_ranked_b124 c_X1_ranked_b125
      rw [if_neg (le_ofn (by omega) hq), cGet_of hq (by omega), b1_some, hmo, x_RC hE q mo hm, b2_some, i32_s]
      have y1 : (RC s N.1 j mo < RC s N.1 q mo ∨ RC s N.1 q mo = RC s N.1 j mo ∧ q < j) → Ww (c_X1_ranked_l51 E N (c_X1_ranked_l2 E N m) m1 p (Int32.ofNat j) (a + 1) (RC s N.1 j mo) (Int32.ofNat (q + 1)) s g) _ := fun hh => k1 _ (by rw [ha1]; show _ = AH s N.1 mo j q + bi _; rw [bi_t hh])
      have y0 : ¬ (RC s N.1 j mo < RC s N.1 q mo ∨ RC s N.1 q mo = RC s N.1 j mo ∧ q < j) → Ww (c_X1_ranked_l51 E N (c_X1_ranked_l2 E N m) m1 p (Int32.ofNat j) (a + 0) (RC s N.1 j mo) (Int32.ofNat (q + 1)) s g) _ := fun hh => k1 _ (by rw [ha1]; show _ = AH s N.1 mo j q + bi _; rw [bi_f hh])
      by_cases c1 : RC s N.1 j mo < RC s N.1 q mo
      · rw [if_pos c1]
        exact y1 (Or.inl c1)
      · rw [if_neg c1]
        by_cases c2 : RC s N.1 q mo = RC s N.1 j mo
        · rw [if_pos c2]
          by_cases c3 : j ≤ q
          · rw [if_pos ((i32_le (by omega) (by omega)).mpr c3)]
            exact y0 (fun h => h.elim c1 (fun h => by omega))
          · rw [if_neg (fun h => c3 ((i32_le (by omega) (by omega)).mp h))]
            exact y1 (Or.inr ⟨c2, by omega⟩)
        · rw [if_neg c2]
          exact y0 (fun h => h.elim c1 (fun h => c2 h.1))
    · show Ww (c_X1_ranked_l51 E N (c_X1_ranked_l2 E N m) (m1 + 1) p (Int32.ofNat j) a (RC s N.1 j mo) (Int32.ofNat N.2.1) s g) _
      unfold c_X1_ranked_l51
      rw [if_pos (Int32.le_refl _), ha1]
      by_cases c : AH s N.1 mo j N.2.1 = p
      · rw [if_pos c, w_some]
        exact ⟨Or.inl ⟨j, hj, c, ha, rfl⟩, rfl⟩
      · rw [if_neg c, i32_s]
        exact k () (fun d hd => by
          by_cases e : d = j
          · subst e; exact c
          · exact ha d (by omega))
  · show Ww (c_X1_ranked_l2 E N (m + 1) p (Int32.ofNat N.2.1) s g) _
    unfold c_X1_ranked_l2
    rw [if_pos (Int32.le_refl _), w_some]
    exact ⟨Or.inr ⟨ha, rfl⟩, rfl⟩
end LC
theorem sub_lt0 {a b : Int64} (ha : btw a 0 9600000000) (hb : btw b 0 9600000000) : ((0 : Int64) < a - b ↔ b < a) ∧ (a - b = 0 ↔ a = b) := by
  have e : (a - b).toInt = a.toInt - b.toInt := by
    have := ha.1; have := ha.2; have := hb.1; have := hb.2
    rw [Int64.toInt_sub, Int.bmod_eq_of_le (by omega) (by omega)]
  rw [Int64.lt_iff_toInt_lt, Int64.lt_iff_toInt_lt, ← Int64.toInt_inj, ← Int64.toInt_inj, e]
  show ((0 : Int) < _ ↔ _) ∧ (_ = (0 : Int) ↔ _)
  omega
section LTT
variable {E : zE} {t : twS} {s : cT} {o nf no mo np n : Nat}
theorem y_RK (h : RB s o nf no mo t.1) (hI : IV t.1 nf no np mo n) (hE : 1000 ≤ E.1) (p : Int32) : Ww (t_X6_ranked E p t) fun z => RK s o nf mo p z.1 ∧ z.2 = uSc t 2 0 := by
  obtain ⟨h60, h8, h16, h4⟩ := hI.1
  have rc : ∀ f, f < nf → t_X6_recordedInAll E (Int32.ofNat f) (uSc t 2 0) = some (RC s o f mo, uSc t 2 0) := fun f hf => y_RC (t := uSc t 2 0) h hE h8 h60 hf
  have br : ∀ f, f < nf → btw (RC s o f mo) 0 9600000000 := fun f hf => btw_w (btw_RC h hI hf mo (Nat.le_refl _)) (by omega) (by omega)
  unfold t_X6_ranked t_X6_ranked_b0
  refine w_lp (σ := Unit) (L := fun m i a => t_X6_ranked_l7 E m p i (uSc t 2 0)) (n := nf) (by omega) (Inv := fun j a => ∀ d, d < j → ¬ AH s o mo d nf = p) (fun m j a hj ha k => ?_) (fun m a ha => ?_) nf 0 E.1 () (by omega) (by omega) (fun d hd => by omega)
  · show Ww (t_X6_ranked_l7 E (m + 1) p (Int32.ofNat j) (uSc t 2 0)) _
    unfold t_X6_ranked_l7
    rw [y_d2, b1_some, uSc_1, r_nf h, if_neg (i64_nle (by omega) hj)]
    refine w_lp (L := fun m1 i a => t_X6_ranked_l24 E (t_X6_ranked_l7 E m) m1 p (Int32.ofNat j) a i (uSc t 2 0)) (n := nf) (by omega) (Inv := fun q a => a = AH s o mo j q) (fun m1 q a hq ha1 k1 => ?_) (fun m1 a ha1 => ?_) nf 0 E.1 0 (by omega) (by omega) rfl
    · show Ww (t_X6_ranked_l24 E (t_X6_ranked_l7 E m) (m1 + 1) p (Int32.ofNat j) a (Int32.ofNat q) (uSc t 2 0)) _
      unfold t_X6_ranked_l24 t_X6_ranked_b72 t_X6_ranked_b76 t_X6_ranked_b77
      rw [y_d2, b1_some, uSc_1, r_nf h, if_neg (i64_nle (by omega) hq), rc q hq, b2_some, rc j hj, b2_some, i32_s]
      obtain ⟨cm1, cm2⟩ := sub_lt0 (br q hq) (br j hj)
      have y1 : (RC s o j mo < RC s o q mo ∨ RC s o q mo = RC s o j mo ∧ q < j) → Ww (t_X6_ranked_l24 E (t_X6_ranked_l7 E m) m1 p (Int32.ofNat j) (a + 1) (Int32.ofNat (q + 1)) (uSc t 2 0)) _ := fun hh => k1 _ (by rw [ha1]; show _ = AH s o mo j q + bi _; rw [bi_t hh])
      have y0 : ¬ (RC s o j mo < RC s o q mo ∨ RC s o q mo = RC s o j mo ∧ q < j) → Ww (t_X6_ranked_l24 E (t_X6_ranked_l7 E m) m1 p (Int32.ofNat j) (a + 0) (Int32.ofNat (q + 1)) (uSc t 2 0)) _ := fun hh => k1 _ (by rw [ha1]; show _ = AH s o mo j q + bi _; rw [bi_f hh])
      by_cases c1 : RC s o j mo < RC s o q mo
      · rw [if_pos (cm1.mpr c1)]
        exact y1 (Or.inl c1)
      · rw [if_neg (fun h => c1 (cm1.mp h))]
        by_cases c2 : RC s o q mo = RC s o j mo
        · rw [if_pos (cm2.mpr c2)]
          by_cases c3 : j ≤ q
          · rw [if_pos ((i32_le (by omega) (by omega)).mpr c3)]
            exact y0 (fun h => h.elim c1 (fun h => by omega))
          · rw [if_neg (fun h => c3 ((i32_le (by omega) (by omega)).mp h))]
            exact y1 (Or.inr ⟨c2, by omega⟩)
        · rw [if_neg (fun h => c2 (cm2.mp h))]
          exact y0 (fun h => h.elim c1 (fun h => c2 h.1))
    · show Ww (t_X6_ranked_l24 E (t_X6_ranked_l7 E m) (m1 + 1) p (Int32.ofNat j) a (Int32.ofNat nf) (uSc t 2 0)) _
      unfold t_X6_ranked_l24
      rw [y_d2, b1_some, uSc_1, r_nf h, if_pos (i64_nre (by omega)), ha1]
      by_cases c : AH s o mo j nf = p
      · rw [if_pos c, w_some]
        exact ⟨Or.inl ⟨j, hj, c, ha, rfl⟩, rfl⟩
      · rw [if_neg c, i32_s]
        exact k () (fun d hd => by
          by_cases e : d = j
          · subst e; exact c
          · exact ha d (by omega))
  · show Ww (t_X6_ranked_l7 E (m + 1) p (Int32.ofNat nf) (uSc t 2 0)) _
    unfold t_X6_ranked_l7
    rw [y_d2, b1_some, uSc_1, r_nf h, if_pos (i64_nre (by omega)), w_some]
    exact ⟨Or.inr ⟨ha, rfl⟩, rfl⟩
end LTT
section OQ
variable {E : zE} {N : iN} {mo n : Nat} {s : cT} {t t1 : twS} {g g1 : zH}
theorem o_ranked (h : Pr E N mo n s t g) (p1 : Int32) : Ww (c_X1_ranked E N p1 s g) fun z => Ww (t_X6_ranked E p1 t) fun w => (z.1 = w.1) ∧ Po N mo n s t g z.2.1 w.2 z.2.2 := by
  obtain ⟨hB, hI, hR, hJ, hE, hr, hS, hO, hS3, hS8, hnn, h200⟩ := h
  obtain ⟨h60, h8, h16, h4⟩ := hI.1
  have hE1 : 1000 ≤ E.1 := by omega
  have hN1 : N.2.1 < 1000 := by omega
  have hN2 : N.2.2.1 < 1000 := by omega
  have hN3 : N.2.1 < 2 ^ 31 := by omega
  have hN4 : N.2.2.2.1 < 2 ^ 31 := by omega
  have rB : ∀ k m, k ≤ 300 → m ≤ 3000 → rm g k m := fun k m a b => rm_le hr a b
  refine w_mono (x_RK hE1 h8 h60 (r_moc hB) p1) fun z hz => ?_
  obtain ⟨r, sg⟩ := z
  obtain ⟨hz1, hz2⟩ := hz
  cases hz2
  refine w_mono (y_RK hB hI hE1 p1) fun w hw => ?_
  obtain ⟨r1, t9⟩ := w
  obtain ⟨hw1, hw2⟩ := hw
  cases hw2
  exact ⟨RK_one hz1 hw1, (Po_ro hB hI rfl (okT_thr (okT_rfl t) _) (by first | exact gxw (gx_rfl _) (by decide) (by decide) | exact gxw (gx_ge1 (gx_rfl _)) (by decide) (by decide) | exact gxw (gx_gt1 (gx_rfl _)) (by decide) (by decide) | exact gxw (gx_ge1 (gx_gt1 (gx_rfl _))) (by decide) (by decide) | exact gxw (gx_gt1 (gx_gt1 (gx_rfl _))) (by decide) (by decide) | exact gxw (gx_ge1 (gx_gt1 (gx_gt1 (gx_rfl _)))) (by decide) (by decide) | exact gxw (gx_gt1 (gx_gt1 (gx_gt1 (gx_rfl _)))) (by decide) (by decide) | exact gxw (gx_ge1 (gx_gt1 (gx_gt1 (gx_gt1 (gx_rfl _))))) (by decide) (by decide) | exact gxw (gx_gt1 (gx_gt1 (gx_gt1 (gx_gt1 (gx_rfl _))))) (by decide) (by decide) | exact gxw (gx_ge1 (gx_gt1 (gx_gt1 (gx_gt1 (gx_gt1 (gx_rfl _)))))) (by decide) (by decide) | exact gxw (gx_gt1 (gx_gt1 (gx_gt1 (gx_gt1 (gx_gt1 (gx_rfl _)))))) (by decide) (by decide) | exact gxw (gx_ge1 (gx_gt1 (gx_gt1 (gx_gt1 (gx_gt1 (gx_gt1 (gx_rfl _))))))) (by decide) (by decide)))⟩
/-- so many months until nothing is owed -/
theorem pay_both (hB : RB s N.1 N.2.1 N.2.2.1 mo t.1) (hR : RR s N.2.2.2.1 N.2.2.2.2 t.1) (p : Int64) : ∀ (k : Nat) (m : Nat) (l : Int64) (j : Nat), j + k = 120 → k < m → ∃ r, c_X1_payOff_l26 E N m p l (Int32.ofNat j) s g = some (.inl r, (s, g)) ∧ t_X6_payOff_l63 E m p l (Int32.ofNat j) t = some (r, t) := by
  intro k
  induction k with
  | zero =>
    intro m l j hj hm
    obtain ⟨m, rfl⟩ : ∃ m1, m = m1 + 1 := ⟨m - 1, by omega⟩
    have e : j = 120 := by omega
    subst e
    unfold c_X1_payOff_l26 t_X6_payOff_l63 c_X1_payOff_b65 t_X6_payOff_b102 c_X1_payOff_b78 t_X6_payOff_b115
    by_cases c : l ≤ 0
    · rw [if_pos c, if_pos c, if_pos c, if_pos c]
      exact ⟨_, rfl, rfl⟩
    · rw [if_neg c, if_neg c, if_neg c, if_neg c, if_pos (show (120 : Int32) ≤ Int32.ofNat 120 from Int32.le_refl _), if_pos (show (120 : Int32) ≤ Int32.ofNat 120 from Int32.le_refl _)]
      exact ⟨_, rfl, rfl⟩
  | succ k ih =>
    intro m l j hj hm
    obtain ⟨m, rfl⟩ : ∃ m1, m = m1 + 1 := ⟨m - 1, by omega⟩
    unfold c_X1_payOff_l26 t_X6_payOff_l63 c_X1_payOff_b65 t_X6_payOff_b102 c_X1_payOff_b78 t_X6_payOff_b115
    by_cases c : l ≤ 0
    · rw [if_pos c, if_pos c, if_pos c, if_pos c]
      exact ⟨_, rfl, rfl⟩
    · have q : ¬ (120 : Int32) ≤ Int32.ofNat j := le_ofn (n := 120) (by decide) (by omega)
      rw [if_neg c, if_neg c, if_neg q, if_neg q, x_rated, b2_some, y_d6, b1_some, r_int hR, y_rated, b2_some, i32_s, if_neg c]
      exact ih m _ (j + 1) (by omega) (by omega)
theorem o_payOff (h : Pr E N mo n s t g) (p1 : Int32) (p2 : Int64) : Ww (c_X1_payOff E N p1 p2 s g) fun z => Ww (t_X6_payOff E p1 p2 t) fun w => Rs ec2 z.1 w.1 (tSc w.2 2) ∧ Po N mo n s t g z.2.1 w.2 z.2.2 := by
  obtain ⟨hB, hI, hR, hJ, hE, hr, hS, hO, hS3, hS8, hnn, h200⟩ := h
  obtain ⟨h60, h8, h16, h4⟩ := hI.1
  have hE1 : 1000 ≤ E.1 := by omega
  have hN1 : N.2.1 < 1000 := by omega
  have hN2 : N.2.2.1 < 1000 := by omega
  have hN3 : N.2.1 < 2 ^ 31 := by omega
  have hN4 : N.2.2.2.1 < 2 ^ 31 := by omega
  have rB : ∀ k m, k ≤ 300 → m ≤ 3000 → rm g k m := fun k m a b => rm_le hr a b
  simp (maxDischargeDepth := 12) only [c_X1_payOff_b78, c_X1_payOff_b65, c_X1_payOff_b0, c_X1_payOff, w_bnd2, w_bind, w_some, w_ite, el_l, el_r, b1_some, b2_some, bi_if, bi_30, bi_0, zgd_bi, zgd0, zgd1, Classical.not_not, x_nA1, x_nA2, x_nA4, x_sI10, x_sI20, x_sI21, x_sI40, x_sI41, x_sI42, x_sI43, gb1, gb2, gb4, x_isP, x_isAm, x_isAc, x_isOp, x_isOT, rm_gt, rm_ge, rB, Nat.reduceAdd, Nat.reduceLeDiff, Nat.reduceLT, not_true_eq_false, not_false_eq_true, forall_const, false_implies, true_implies, and_true, true_and, and_self, i10, n10, true_or, or_true, false_or, or_false, false_and, and_false, w_rI hE1, w_rA hE1, w_fr hE1 hN1, w_ou hE1 hN2, x_isFr hN3, x_isPl hN4]
  refine ⟨fun i e hi => ⟨fun ha => ?_, fun ha => ?_⟩, fun hn => ?_⟩
  · subst e
    obtain ⟨r, hc, ht⟩ := pay_both (E := E) (N := N) (g := gt (gt g 1 (va_up (fun x => 0) 0 1)) 1 (va_up (fun x => 0) 0 (bi (1 ≤ p2 ∧ p2 ≤ 1000000000)))) (t := uSc t 2 0) hB hR p2 120 E.1 (s.2.2.1 (N.1 + 130 + i) 8) 0 rfl (by omega)
    rw [show c_X1_payOff_l26 E N E.1 p2 (s.2.2.1 (N.1 + 130 + i) 8) 0 s _ = _ from hc, w_some]
    simp (maxDischargeDepth := 12) only [t_X6_payOff_b50, t_X6_payOff_b115, t_X6_payOff_b102, t_X6_payOff_b43, t_X6_payOff_b19, t_X6_payOff_b0, t_X6_payOff, not_true_eq_false, not_false_eq_true, forall_const, false_implies, true_implies, and_true, true_and, and_self, i10, n10, true_or, or_true, false_or, or_false, false_and, and_false, w_bnd2, w_bind, w_some, w_ite, w_thr, w_thr0, w_thr1, y_thr0, y_thr1, b1_some, b2_some, bi_0, zgd_bi, zgd0, zgd1, Classical.not_not, uSc_1, uSt_1, uAm_1, uAr_1, tS_s, tS_st, y_isCell, y_inRange, bi_if, bi_30, y_isOver, y_isFr (t := uSc t 2 0) hB hN3, inF_n (show i < 2 ^ 31 by omega), hi, ha, y_of4 (show i < 8 by omega), r_plan hB hi, r_worth hB hi, r_stat hB hi, r_bal hB hi, r_gen hB hi, r_over hB hi, r_con hB hi, r_gra hB hi, r_tst hB hi, r_two hB hi, r_tpr hB hi, r_tmo hB hi, r_tvo hB hi, r_tye hB hi, r_tno hB hi]
    rw [show t_X6_payOff_l63 E E.1 p2 (s.2.2.1 (N.1 + 130 + i) 8) 0 (uSc t 2 0) = _ from ht, w_some]
    exact ⟨Rs_l rfl, (Po_ro hB hI rfl (okT_thr (okT_rfl t) _) (by first | exact gxw (gx_rfl _) (by decide) (by decide) | exact gxw (gx_ge1 (gx_rfl _)) (by decide) (by decide) | exact gxw (gx_gt1 (gx_rfl _)) (by decide) (by decide) | exact gxw (gx_ge1 (gx_gt1 (gx_rfl _))) (by decide) (by decide) | exact gxw (gx_gt1 (gx_gt1 (gx_rfl _))) (by decide) (by decide) | exact gxw (gx_ge1 (gx_gt1 (gx_gt1 (gx_rfl _)))) (by decide) (by decide) | exact gxw (gx_gt1 (gx_gt1 (gx_gt1 (gx_rfl _)))) (by decide) (by decide) | exact gxw (gx_ge1 (gx_gt1 (gx_gt1 (gx_gt1 (gx_rfl _))))) (by decide) (by decide) | exact gxw (gx_gt1 (gx_gt1 (gx_gt1 (gx_gt1 (gx_rfl _))))) (by decide) (by decide) | exact gxw (gx_ge1 (gx_gt1 (gx_gt1 (gx_gt1 (gx_gt1 (gx_rfl _)))))) (by decide) (by decide) | exact gxw (gx_gt1 (gx_gt1 (gx_gt1 (gx_gt1 (gx_gt1 (gx_rfl _)))))) (by decide) (by decide) | exact gxw (gx_ge1 (gx_gt1 (gx_gt1 (gx_gt1 (gx_gt1 (gx_gt1 (gx_rfl _))))))) (by decide) (by decide)))⟩
  · subst e
    simp (maxDischargeDepth := 12) only [t_X6_payOff_b50, t_X6_payOff_b115, t_X6_payOff_b102, t_X6_payOff_b43, t_X6_payOff_b19, t_X6_payOff_b0, t_X6_payOff, not_true_eq_false, not_false_eq_true, forall_const, false_implies, true_implies, and_true, true_and, and_self, i10, n10, true_or, or_true, false_or, or_false, false_and, and_false, w_bnd2, w_bind, w_some, w_ite, w_thr, w_thr0, w_thr1, y_thr0, y_thr1, b1_some, b2_some, bi_0, zgd_bi, zgd0, zgd1, Classical.not_not, uSc_1, uSt_1, uAm_1, uAr_1, tS_s, tS_st, y_isCell, y_inRange, bi_if, bi_30, y_isOver, y_isFr (t := uSc t 2 0) hB hN3, inF_n (show i < 2 ^ 31 by omega), hi, ha]
    exact ⟨Rs21, (Po_ro hB hI rfl (okT_thr (okT_thr (okT_rfl t) _) _) (by first | exact gxw (gx_rfl _) (by decide) (by decide) | exact gxw (gx_ge1 (gx_rfl _)) (by decide) (by decide) | exact gxw (gx_gt1 (gx_rfl _)) (by decide) (by decide) | exact gxw (gx_ge1 (gx_gt1 (gx_rfl _))) (by decide) (by decide) | exact gxw (gx_gt1 (gx_gt1 (gx_rfl _))) (by decide) (by decide) | exact gxw (gx_ge1 (gx_gt1 (gx_gt1 (gx_rfl _)))) (by decide) (by decide) | exact gxw (gx_gt1 (gx_gt1 (gx_gt1 (gx_rfl _)))) (by decide) (by decide) | exact gxw (gx_ge1 (gx_gt1 (gx_gt1 (gx_gt1 (gx_rfl _))))) (by decide) (by decide) | exact gxw (gx_gt1 (gx_gt1 (gx_gt1 (gx_gt1 (gx_rfl _))))) (by decide) (by decide) | exact gxw (gx_ge1 (gx_gt1 (gx_gt1 (gx_gt1 (gx_gt1 (gx_rfl _)))))) (by decide) (by decide) | exact gxw (gx_gt1 (gx_gt1 (gx_gt1 (gx_gt1 (gx_gt1 (gx_rfl _)))))) (by decide) (by decide) | exact gxw (gx_ge1 (gx_gt1 (gx_gt1 (gx_gt1 (gx_gt1 (gx_gt1 (gx_rfl _))))))) (by decide) (by decide)))⟩
  · simp (maxDischargeDepth := 12) only [t_X6_payOff_b50, t_X6_payOff_b115, t_X6_payOff_b102, t_X6_payOff_b43, t_X6_payOff_b19, t_X6_payOff_b0, t_X6_payOff, not_true_eq_false, not_false_eq_true, forall_const, false_implies, true_implies, and_true, true_and, and_self, i10, n10, true_or, or_true, false_or, or_false, false_and, and_false, w_bnd2, w_bind, w_some, w_ite, w_thr, w_thr0, w_thr1, y_thr0, y_thr1, b1_some, b2_some, bi_0, zgd_bi, zgd0, zgd1, Classical.not_not, uSc_1, uSt_1, uAm_1, uAr_1, tS_s, tS_st, y_isCell, y_inRange, bi_if, bi_30, y_isOver, y_isFr (t := uSc t 2 0) hB hN3, hn]
    exact ⟨Rs20, (Po_ro hB hI rfl (okT_thr (okT_thr (okT_rfl t) _) _) (by first | exact gxw (gx_rfl _) (by decide) (by decide) | exact gxw (gx_ge1 (gx_rfl _)) (by decide) (by decide) | exact gxw (gx_gt1 (gx_rfl _)) (by decide) (by decide) | exact gxw (gx_ge1 (gx_gt1 (gx_rfl _))) (by decide) (by decide) | exact gxw (gx_gt1 (gx_gt1 (gx_rfl _))) (by decide) (by decide) | exact gxw (gx_ge1 (gx_gt1 (gx_gt1 (gx_rfl _)))) (by decide) (by decide) | exact gxw (gx_gt1 (gx_gt1 (gx_gt1 (gx_rfl _)))) (by decide) (by decide) | exact gxw (gx_ge1 (gx_gt1 (gx_gt1 (gx_gt1 (gx_rfl _))))) (by decide) (by decide) | exact gxw (gx_gt1 (gx_gt1 (gx_gt1 (gx_gt1 (gx_rfl _))))) (by decide) (by decide) | exact gxw (gx_ge1 (gx_gt1 (gx_gt1 (gx_gt1 (gx_gt1 (gx_rfl _)))))) (by decide) (by decide) | exact gxw (gx_gt1 (gx_gt1 (gx_gt1 (gx_gt1 (gx_gt1 (gx_rfl _)))))) (by decide) (by decide) | exact gxw (gx_ge1 (gx_gt1 (gx_gt1 (gx_gt1 (gx_gt1 (gx_gt1 (gx_rfl _))))))) (by decide) (by decide)))⟩
end OQ
