/-! shares of the fund; the halving line -/
set_option maxRecDepth 100000
def PRd (s : cT) (o f : Nat) : Int64 := s.2.2.1 (o + 20) 1 * s.2.2.1 (o + 130 + f) 9
def QU (s : cT) (o f : Nat) (all : Int64) : Int64 := PRd s o f / all
def RE (s : cT) (o f : Nat) (all : Int64) : Int64 := PRd s o f - PRd s o f / all * all
noncomputable def AHs (s : cT) (o i : Nat) (all : Int64) (n : Nat) : Nat := cnt (fun f => RE s o i all < RE s o f all ∨ RE s o f all = RE s o i all ∧ f < i) n
theorem re_btw {a b : Int64} {m : Nat} (hb : btw b (-m) m) (h0 : ¬ b = 0) (hm : m ≤ 1000000000000000000) : btw (a - a / b * b) (-m) m := by
  have hb0 : b.toInt ≠ 0 := fun e => h0 (Int64.toInt_inj.mp (by rw [e]; decide))
  have h1 : (a.toInt.tmod b.toInt).natAbs < b.toInt.natAbs := by
    rw [Int.natAbs_tmod]
    exact Nat.mod_lt _ (by omega)
  have e : (a - a / b * b).toInt = a.toInt.tmod b.toInt := by
    rw [Int64.toInt_sub, Int64.toInt_mul, Int64.toInt_div, Int.bmod_mul_bmod, Int.sub_bmod_bmod, Int.mul_comm, ← Int.tmod_def]
    have := hb.1
    have := hb.2
    rw [Int.bmod_eq_of_le (by omega) (by omega)]
  unfold btw
  rw [e]
  have := hb.1
  have := hb.2
  omega
section LC
variable {E : zE} {N : iN} {s : cT} {g : zH}
theorem x_shQ {i : Nat} (hi : i < N.2.1) (hN : N.2.1 ≤ 8) {all : Int64} (ha : ¬ all = 0) : c_X4_shareOf E N (Int32.ofNat i) all 0 s g = some (QU s N.1 i all, (s, g)) := by
  unfold c_X4_shareOf c_X4_shareOf_b0 c_X4_shareOf_b41
  rw [sp1, b1_some, cGet_of hi (by omega), b1_some, if_pos rfl]
  unfold zn0L
  rw [if_neg ha, b1_some]
  rfl
theorem x_shR {i : Nat} (hi : i < N.2.1) (hN : N.2.1 ≤ 8) {all : Int64} (ha : ¬ all = 0) : c_X4_shareOf E N (Int32.ofNat i) all 1 s g = some (RE s N.1 i all, (s, g)) := by
  unfold c_X4_shareOf c_X4_shareOf_b0 c_X4_shareOf_b41
  rw [sp1, b1_some, cGet_of hi (by omega), b1_some, if_neg (by decide)]
  unfold zn0L
  rw [if_neg ha, b1_some]
  rfl
theorem x_SH (hE : 1000 ≤ E.1) (hN : N.2.1 ≤ 8) {i : Nat} (hi : i < N.2.1) : c_X4_share E N (Int32.ofNat i) s g = some (if CO s N.1 N.2.1 = 0 then 0 else QU s N.1 i (CO s N.1 N.2.1) + (if Int64.ofNat (AHs s N.1 i (CO s N.1 N.2.1) N.2.1) < s.2.2.1 (N.1 + 20) 1 - sml (fun f => QU s N.1 f (CO s N.1 N.2.1)) N.2.1 then 1 else 0), (s, g)) := by
  rw [← w_eq]
  unfold c_X4_share c_X4_share_b0
  rw [x_CO hE hN, b2_some]
  by_cases c : CO s N.1 N.2.1 = 0
  · rw [if_pos c, if_pos c, w_some]
  · rw [if_neg c, if_neg c, sp1, b1_some, x_shR hi hN c, b2_some]
    generalize CO s N.1 N.2.1 = all at c
    refine w_lp (σ := Int64 × Int32) (L := fun m k a => c_X4_share_l36 E N m (Int32.ofNat i) all a.1 a.2 (RE s N.1 i all) k s g) (n := N.2.1) (by omega) (Inv := fun j a => a.1 = s.2.2.1 (N.1 + 20) 1 - sml (fun f => QU s N.1 f all) j ∧ a.2 = Int32.ofNat (AHs s N.1 i all j)) (fun m j a hj ha k => ?_) (fun m a ha => ?_) N.2.1 0 E.1 (s.2.2.1 (N.1 + 20) 1, 0) (by omega) (by omega) ⟨(Int64.sub_zero _).symm, rfl⟩
    · show Ww (c_X4_share_l36 E N (m + 1) (Int32.ofNat i) all a.1 a.2 (RE s N.1 i all) (Int32.ofNat j) s g) _
      obtain ⟨ha1, ha2⟩ := ha
      have e1 : a.1 - QU s N.1 j all = s.2.2.1 (N.1 + 20) 1 - sml (fun f => QU s N.1 f all) (j + 1) := by
        rw [ha1]
        show _ = _ - (sml (fun f => QU s N.1 f all) j + QU s N.1 j all)
        rw [Int64.sub_eq_add_neg, Int64.sub_eq_add_neg, Int64.sub_eq_add_neg, Int64.neg_add, Int64.add_assoc, ← Int64.sub_eq_add_neg]
      have y1 : (RE s N.1 i all < RE s N.1 j all ∨ RE s N.1 j all = RE s N.1 i all ∧ j < i) → Ww (c_X4_share_l36 E N m (Int32.ofNat i) all (a.1 - QU s N.1 j all) (a.2 + 1) (RE s N.1 i all) (Int32.ofNat (j + 1)) s g) _ := fun hh => k (a.1 - QU s N.1 j all, a.2 + 1) ⟨e1, by rw [ha2]; show _ = Int32.ofNat (cnt _ (j + 1)); rw [cnt_y hh]; exact i32_s _⟩
      have y0 : ¬ (RE s N.1 i all < RE s N.1 j all ∨ RE s N.1 j all = RE s N.1 i all ∧ j < i) → Ww (c_X4_share_l36 E N m (Int32.ofNat i) all (a.1 - QU s N.1 j all) (a.2 + 0) (RE s N.1 i all) (Int32.ofNat (j + 1)) s g) _ := fun hh => k (a.1 - QU s N.1 j all, a.2 + 0) ⟨e1, by rw [ha2]; show _ = Int32.ofNat (cnt _ (j + 1)); rw [cnt_n hh]; exact Int32.add_zero _⟩
      unfold c_X4_share_l36 c_X4_share_b97 c_X4_share_b101 c_X4_share_b102
      rw [if_neg (le_ofn (by omega) hj), x_shQ hj hN c, b2_some, x_shR hj hN c, b2_some, i32_s]
      by_cases c1 : RE s N.1 i all < RE s N.1 j all
      · rw [if_pos c1]
        exact y1 (Or.inl c1)
      · rw [if_neg c1]
        by_cases c2 : RE s N.1 j all = RE s N.1 i all
        · rw [if_pos c2]
          by_cases c3 : i ≤ j
          · rw [if_pos ((i32_le (by omega) (by omega)).mpr c3)]
            exact y0 (fun h => h.elim c1 (fun h => by omega))
          · rw [if_neg (fun h => c3 ((i32_le (by omega) (by omega)).mp h))]
            exact y1 (Or.inr ⟨c2, by omega⟩)
        · rw [if_neg c2]
          exact y0 (fun h => h.elim c1 (fun h => c2 h.1))
    · show Ww (c_X4_share_l36 E N (m + 1) (Int32.ofNat i) all a.1 a.2 (RE s N.1 i all) (Int32.ofNat N.2.1) s g) _
      have hc : AHs s N.1 i all N.2.1 ≤ N.2.1 := cnt_le _ _
      unfold c_X4_share_l36 c_X4_share_b132
      rw [if_pos (Int32.le_refl _), x_shQ hi hN c, b2_some, ha.1, ha.2, i32_64 (by omega)]
      by_cases q : s.2.2.1 (N.1 + 20) 1 - sml (fun f => QU s N.1 f all) N.2.1 ≤ Int64.ofNat (AHs s N.1 i all N.2.1)
      · rw [if_pos q, if_neg (Int64.not_lt.mpr q), w_some]
      · rw [if_neg q, if_pos (Int64.not_le.mp q), w_some]
end LC
theorem btw_CO {s : cT} {o nf no mo np n : Nat} {t : Nat → Int64} (hB : RB s o nf no mo t) (hI : IV t nf no np mo n) : ∀ j, j ≤ nf → btw (CO s o j) (-(60000000000000000 * j : Nat)) (60000000000000000 * j : Nat) := by
  intro j
  induction j with
  | zero => intro _; exact (show btw (0 : Int64) 0 0 from ⟨by decide, by decide⟩)
  | succ j ih =>
    intro hj
    have i1 := ih (by omega)
    have h60 := hI.1.1
    have h8 := hI.1.2.1
    have hr := (hI.2.1 j (by omega)).2.2.2.2.2.1
    rw [r_con hB (by omega)] at hr
    show btw (CO s o j + s.2.2.1 (o + 130 + j) 9) _ _
    exact btw_w (btw_add i1 hr (by omega) (by omega)) (by omega) (by omega)
theorem sub_lt1 {a b : Int64} (ha : btw a (-480000000000000000) 480000000000000000) (hb : btw b (-480000000000000000) 480000000000000000) : ((0 : Int64) < a - b ↔ b < a) ∧ (a - b = 0 ↔ a = b) := by
  have e : (a - b).toInt = a.toInt - b.toInt := by
    have := ha.1; have := ha.2; have := hb.1; have := hb.2
    rw [Int64.toInt_sub, Int.bmod_eq_of_le (by omega) (by omega)]
  rw [Int64.lt_iff_toInt_lt, Int64.lt_iff_toInt_lt, ← Int64.toInt_inj, ← Int64.toInt_inj, e]
  show ((0 : Int) < _ ↔ _) ∧ (_ = (0 : Int) ↔ _)
  omega
section LTT
variable {E : zE} {t : twS} {s : cT} {o nf no mo np n : Nat}
theorem y_SH (h : RB s o nf no mo t.1) (hI : IV t.1 nf no np mo n) (hE : 1000 ≤ E.1) {i : Nat} (hi : i < nf) (hc : ¬ CO s o nf = 0) : t_X6_nationalShare_l57 E E.1 (Int32.ofNat i) (CO s o nf) (s.2.2.1 (o + 20) 1) (0 : Int64) (0 : Int32) t = some (QU s o i (CO s o nf) + (if Int64.ofNat (AHs s o i (CO s o nf) nf) < s.2.2.1 (o + 20) 1 - sml (fun f => QU s o f (CO s o nf)) nf then 1 else 0), t) := by
  rw [← w_eq]
  have hN := hI.1.2.1
  have hb := btw_CO h hI nf (Nat.le_refl _)
  have hr : ∀ f, btw (RE s o f (CO s o nf)) (-480000000000000000) 480000000000000000 := fun f => btw_w (re_btw (m := 480000000000000000) (btw_w hb (by omega) (by omega)) hc (by decide)) (by decide) (by decide)
  have pr : ∀ f, f < nf → t_X6_product E (Int32.ofNat f) t = some (PRd s o f, t) := fun f hf => by rw [y_product (by omega), r_sp1 h, r_con h hf]; rfl
  generalize CO s o nf = all at hc hr
  have z0 : zn0L all = some () := if_neg hc
  refine w_lp (σ := Int64 × Int64) (L := fun m k a => t_X6_nationalShare_l57 E m (Int32.ofNat i) all a.1 a.2 k t) (n := nf) (by omega) (Inv := fun j a => a.1 = s.2.2.1 (o + 20) 1 - sml (fun f => QU s o f all) j ∧ a.2 = Int64.ofNat (AHs s o i all j)) (fun m j a hj ha k => ?_) (fun m a ha => ?_) nf 0 E.1 (s.2.2.1 (o + 20) 1, 0) (by omega) (by omega) ⟨(Int64.sub_zero _).symm, rfl⟩
  · show Ww (t_X6_nationalShare_l57 E (m + 1) (Int32.ofNat i) all a.1 a.2 (Int32.ofNat j) t) _
    obtain ⟨ha1, ha2⟩ := ha
    have e1 : a.1 - QU s o j all = s.2.2.1 (o + 20) 1 - sml (fun f => QU s o f all) (j + 1) := by
      rw [ha1]
      show _ = _ - (sml (fun f => QU s o f all) j + QU s o j all)
      rw [Int64.sub_eq_add_neg, Int64.sub_eq_add_neg, Int64.sub_eq_add_neg, Int64.neg_add, Int64.add_assoc, ← Int64.sub_eq_add_neg]
    have y1 : (RE s o i all < RE s o j all ∨ RE s o j all = RE s o i all ∧ j < i) → Ww (t_X6_nationalShare_l57 E m (Int32.ofNat i) all (a.1 - QU s o j all) (a.2 + 1) (Int32.ofNat (j + 1)) t) _ := fun hh => k (a.1 - QU s o j all, a.2 + 1) ⟨e1, by rw [ha2]; show _ = Int64.ofNat (cnt _ (j + 1)); rw [cnt_y hh]; exact i64_s _⟩
    have y0 : ¬ (RE s o i all < RE s o j all ∨ RE s o j all = RE s o i all ∧ j < i) → Ww (t_X6_nationalShare_l57 E m (Int32.ofNat i) all (a.1 - QU s o j all) (a.2 + 0) (Int32.ofNat (j + 1)) t) _ := fun hh => k (a.1 - QU s o j all, a.2 + 0) ⟨e1, by rw [ha2]; show _ = Int64.ofNat (cnt _ (j + 1)); rw [cnt_n hh]; exact Int64.add_zero _⟩
    obtain ⟨cm1, cm2⟩ := sub_lt1 (hr j) (hr i)
    unfold t_X6_nationalShare_l57 t_X6_nationalShare_b123 t_X6_nationalShare_b127 t_X6_nationalShare_b128
    rw [y_d2, b1_some, r_nf h, if_neg (i64_nle (by omega) hj), pr j hj, b2_some, z0, b1_some, pr j hj, b2_some, b1_some, pr i hi, b2_some, b1_some, i32_s, show PRd s o j - PRd s o j / all * all = RE s o j all from rfl, show PRd s o i - PRd s o i / all * all = RE s o i all from rfl, show PRd s o j / all = QU s o j all from rfl]
    by_cases c1 : RE s o i all < RE s o j all
    · rw [if_pos (cm1.mpr c1)]
      exact y1 (Or.inl c1)
    · rw [if_neg (fun h => c1 (cm1.mp h))]
      by_cases c2 : RE s o j all = RE s o i all
      · rw [if_pos (cm2.mpr c2)]
        by_cases c3 : i ≤ j
        · rw [if_pos ((i32_le (by omega) (by omega)).mpr c3)]
          exact y0 (fun h => h.elim c1 (fun h => by omega))
        · rw [if_neg (fun h => c3 ((i32_le (by omega) (by omega)).mp h))]
          exact y1 (Or.inr ⟨c2, by omega⟩)
      · rw [if_neg (fun h => c2 (cm2.mp h))]
        exact y0 (fun h => h.elim c1 (fun h => c2 h.1))
  · show Ww (t_X6_nationalShare_l57 E (m + 1) (Int32.ofNat i) all a.1 a.2 (Int32.ofNat nf) t) _
    unfold t_X6_nationalShare_l57 t_X6_nationalShare_b157
    rw [y_d2, b1_some, r_nf h, if_pos (i64_nre (by omega)), pr i hi, b2_some, z0, b1_some, ha.1, ha.2]
    by_cases q : s.2.2.1 (o + 20) 1 - sml (fun f => QU s o f all) nf ≤ Int64.ofNat (AHs s o i all nf)
    · rw [if_pos q, if_neg (Int64.not_lt.mpr q), w_some]
      rfl
    · rw [if_neg q, if_pos (Int64.not_le.mp q), w_some]
      rfl
end LTT
section OQ
variable {E : zE} {N : iN} {mo n : Nat} {s : cT} {t t1 : twS} {g g1 : zH}
theorem o_nationalShare (h : Pr E N mo n s t g) (p1 : Int32) : Ww (c_X1_nationalShare E N p1 s g) fun z => Ww (t_X6_nationalShare E p1 t) fun w => Rs ec1 z.1 w.1 (tSc w.2 2) ∧ Po N mo n s t g z.2.1 w.2 z.2.2 := by
  obtain ⟨hB, hI, hR, hJ, hE, hr, hS, hO, hS3, hS8, hnn, h200⟩ := h
  obtain ⟨h60, h8, h16, h4⟩ := hI.1
  have hE1 : 1000 ≤ E.1 := by omega
  have hN1 : N.2.1 < 1000 := by omega
  have hN2 : N.2.2.1 < 1000 := by omega
  have hN3 : N.2.1 < 2 ^ 31 := by omega
  have hN4 : N.2.2.2.1 < 2 ^ 31 := by omega
  have rB : ∀ k m, k ≤ 300 → m ≤ 3000 → rm g k m := fun k m a b => rm_le hr a b
  simp (maxDischargeDepth := 12) only [c_X1_nationalShare_b0, c_X1_nationalShare, w_bnd2, w_bind, w_some, w_ite, el_l, el_r, b1_some, b2_some, bi_if, bi_30, bi_0, zgd_bi, zgd0, zgd1, Classical.not_not, x_nA1, x_nA2, x_nA4, x_sI10, x_sI20, x_sI21, x_sI40, x_sI41, x_sI42, x_sI43, gb1, gb2, gb4, x_isP, x_isAm, x_isAc, x_isOp, x_isOT, rm_gt, rm_ge, rB, Nat.reduceAdd, Nat.reduceLeDiff, Nat.reduceLT, not_true_eq_false, not_false_eq_true, forall_const, false_implies, true_implies, and_true, true_and, and_self, i10, n10, true_or, or_true, false_or, or_false, false_and, and_false, w_rI hE1, w_rA hE1, w_fr hE1 hN1, w_ou hE1 hN2, x_isFr hN3, x_isPl hN4]
  refine ⟨fun ha => ?_, fun ha => ?_⟩
  · obtain ⟨e, hi⟩ := inF_nat ha
    generalize p1.toNatClampNeg = i at e hi
    subst e
    rw [x_SH hE1 h8 hi, w_some]
    by_cases c : CO s N.1 N.2.1 = 0
    · rw [if_pos c]
      simp (maxDischargeDepth := 12) only [t_X6_nationalShare_b35, t_X6_nationalShare_b157, t_X6_nationalShare_b128, t_X6_nationalShare_b123, t_X6_nationalShare_b127, t_X6_nationalShare_b19, t_X6_nationalShare_b0, t_X6_nationalShare, not_true_eq_false, not_false_eq_true, forall_const, false_implies, true_implies, and_true, true_and, and_self, i10, n10, true_or, or_true, false_or, or_false, false_and, and_false, w_bnd2, w_bind, w_some, w_ite, w_thr, w_thr0, w_thr1, y_thr0, y_thr1, b1_some, b2_some, bi_0, zgd_bi, zgd0, zgd1, Classical.not_not, uSc_1, uSt_1, uAm_1, uAr_1, tS_s, tS_st, y_isCell, y_inRange, bi_if, bi_30, y_isOver, y_isFr (t := uSc t 2 0) hB hN3, ha, y_CO (t := uSc t 2 0) hB hE1 h8, c]
      exact ⟨Rs_l rfl, (Po_ro hB hI rfl (okT_thr (okT_rfl t) _) (by first | exact gxw (gx_rfl _) (by decide) (by decide) | exact gxw (gx_ge1 (gx_rfl _)) (by decide) (by decide) | exact gxw (gx_gt1 (gx_rfl _)) (by decide) (by decide) | exact gxw (gx_ge1 (gx_gt1 (gx_rfl _))) (by decide) (by decide) | exact gxw (gx_gt1 (gx_gt1 (gx_rfl _))) (by decide) (by decide) | exact gxw (gx_ge1 (gx_gt1 (gx_gt1 (gx_rfl _)))) (by decide) (by decide) | exact gxw (gx_gt1 (gx_gt1 (gx_gt1 (gx_rfl _)))) (by decide) (by decide) | exact gxw (gx_ge1 (gx_gt1 (gx_gt1 (gx_gt1 (gx_rfl _))))) (by decide) (by decide) | exact gxw (gx_gt1 (gx_gt1 (gx_gt1 (gx_gt1 (gx_rfl _))))) (by decide) (by decide) | exact gxw (gx_ge1 (gx_gt1 (gx_gt1 (gx_gt1 (gx_gt1 (gx_rfl _)))))) (by decide) (by decide) | exact gxw (gx_gt1 (gx_gt1 (gx_gt1 (gx_gt1 (gx_gt1 (gx_rfl _)))))) (by decide) (by decide) | exact gxw (gx_ge1 (gx_gt1 (gx_gt1 (gx_gt1 (gx_gt1 (gx_gt1 (gx_rfl _))))))) (by decide) (by decide)))⟩
    · rw [if_neg c]
      simp (maxDischargeDepth := 12) only [t_X6_nationalShare_b35, t_X6_nationalShare_b157, t_X6_nationalShare_b128, t_X6_nationalShare_b123, t_X6_nationalShare_b127, t_X6_nationalShare_b19, t_X6_nationalShare_b0, t_X6_nationalShare, not_true_eq_false, not_false_eq_true, forall_const, false_implies, true_implies, and_true, true_and, and_self, i10, n10, true_or, or_true, false_or, or_false, false_and, and_false, w_bnd2, w_bind, w_some, w_ite, w_thr, w_thr0, w_thr1, y_thr0, y_thr1, b1_some, b2_some, bi_0, zgd_bi, zgd0, zgd1, Classical.not_not, uSc_1, uSt_1, uAm_1, uAr_1, tS_s, tS_st, y_isCell, y_inRange, bi_if, bi_30, y_isOver, y_isFr (t := uSc t 2 0) hB hN3, ha, y_CO (t := uSc t 2 0) hB hE1 h8, c, y_d12, r_sp1 hB, y_SH (t := uSc t 2 0) hB hI hE1 hi c]
      exact ⟨Rs_l rfl, (Po_ro hB hI rfl (okT_thr (okT_rfl t) _) (by first | exact gxw (gx_rfl _) (by decide) (by decide) | exact gxw (gx_ge1 (gx_rfl _)) (by decide) (by decide) | exact gxw (gx_gt1 (gx_rfl _)) (by decide) (by decide) | exact gxw (gx_ge1 (gx_gt1 (gx_rfl _))) (by decide) (by decide) | exact gxw (gx_gt1 (gx_gt1 (gx_rfl _))) (by decide) (by decide) | exact gxw (gx_ge1 (gx_gt1 (gx_gt1 (gx_rfl _)))) (by decide) (by decide) | exact gxw (gx_gt1 (gx_gt1 (gx_gt1 (gx_rfl _)))) (by decide) (by decide) | exact gxw (gx_ge1 (gx_gt1 (gx_gt1 (gx_gt1 (gx_rfl _))))) (by decide) (by decide) | exact gxw (gx_gt1 (gx_gt1 (gx_gt1 (gx_gt1 (gx_rfl _))))) (by decide) (by decide) | exact gxw (gx_ge1 (gx_gt1 (gx_gt1 (gx_gt1 (gx_gt1 (gx_rfl _)))))) (by decide) (by decide) | exact gxw (gx_gt1 (gx_gt1 (gx_gt1 (gx_gt1 (gx_gt1 (gx_rfl _)))))) (by decide) (by decide) | exact gxw (gx_ge1 (gx_gt1 (gx_gt1 (gx_gt1 (gx_gt1 (gx_gt1 (gx_rfl _))))))) (by decide) (by decide)))⟩
  · simp (maxDischargeDepth := 12) only [t_X6_nationalShare_b35, t_X6_nationalShare_b157, t_X6_nationalShare_b128, t_X6_nationalShare_b123, t_X6_nationalShare_b127, t_X6_nationalShare_b19, t_X6_nationalShare_b0, t_X6_nationalShare, not_true_eq_false, not_false_eq_true, forall_const, false_implies, true_implies, and_true, true_and, and_self, i10, n10, true_or, or_true, false_or, or_false, false_and, and_false, w_bnd2, w_bind, w_some, w_ite, w_thr, w_thr0, w_thr1, y_thr0, y_thr1, b1_some, b2_some, bi_0, zgd_bi, zgd0, zgd1, Classical.not_not, uSc_1, uSt_1, uAm_1, uAr_1, tS_s, tS_st, y_isCell, y_inRange, bi_if, bi_30, y_isOver, y_isFr (t := uSc t 2 0) hB hN3, ha]
    exact ⟨Rs20, (Po_ro hB hI rfl (okT_thr (okT_thr (okT_rfl t) _) _) (by first | exact gxw (gx_rfl _) (by decide) (by decide) | exact gxw (gx_ge1 (gx_rfl _)) (by decide) (by decide) | exact gxw (gx_gt1 (gx_rfl _)) (by decide) (by decide) | exact gxw (gx_ge1 (gx_gt1 (gx_rfl _))) (by decide) (by decide) | exact gxw (gx_gt1 (gx_gt1 (gx_rfl _))) (by decide) (by decide) | exact gxw (gx_ge1 (gx_gt1 (gx_gt1 (gx_rfl _)))) (by decide) (by decide) | exact gxw (gx_gt1 (gx_gt1 (gx_gt1 (gx_rfl _)))) (by decide) (by decide) | exact gxw (gx_ge1 (gx_gt1 (gx_gt1 (gx_gt1 (gx_rfl _))))) (by decide) (by decide) | exact gxw (gx_gt1 (gx_gt1 (gx_gt1 (gx_gt1 (gx_rfl _))))) (by decide) (by decide) | exact gxw (gx_ge1 (gx_gt1 (gx_gt1 (gx_gt1 (gx_gt1 (gx_rfl _)))))) (by decide) (by decide) | exact gxw (gx_gt1 (gx_gt1 (gx_gt1 (gx_gt1 (gx_gt1 (gx_rfl _)))))) (by decide) (by decide) | exact gxw (gx_ge1 (gx_gt1 (gx_gt1 (gx_gt1 (gx_gt1 (gx_gt1 (gx_rfl _))))))) (by decide) (by decide)))⟩
end OQ
