/-! books copied: the franchisees -/
set_option maxRecDepth 100000
theorem iBk_cg {s s1 : cT} {o nf no nf1 no1 : Nat} (h : iBk s o nf no) (hK : ∀ d, d = o + 10 ∨ o + 15 ≤ d ∧ d ≤ o + 20 ∨ o + 190 ≤ d ∧ d < o + 198 → s1.1 d = s.1 d ∧ s1.2.2.2 d = s.2.2.2 d) (h8 : nf1 ≤ 8) (h16 : no1 ≤ 16) (l1 : lst s1 (o + 11) (o + 12) nf1 (fun i => o + 130 + i)) (l2 : lst s1 (o + 13) (o + 14) no1 (fun k => o + 170 + k)) (hf : ∀ i, i < nf1 → iFr s1 o i) (ho : ∀ k, k < no1 → s1.1 (o + 170 + k) = (1, 13)) : iBk s1 o nf1 no1 := by
  obtain ⟨a1, a2, a3, a4, a5, a6, a7, a8, a9, a10, a11, ⟨b1, b2, b3, b4, b5, b6, b7⟩, a13, a14, a15, a16, a17⟩ := h
  have S : ∀ d, d = o + 10 ∨ o + 15 ≤ d ∧ d ≤ o + 20 ∨ o + 190 ≤ d ∧ d < o + 198 → s1.1 d = s.1 d := fun d hd => (hK d hd).1
  have R : ∀ d k, d = o + 10 ∨ o + 15 ≤ d ∧ d ≤ o + 20 ∨ o + 190 ≤ d ∧ d < o + 198 → s1.2.2.2 d k = s.2.2.2 d k := fun d k hd => congrFun (hK d hd).2 k
  exact ⟨(S _ (by omega)).trans a1, (R _ _ (by omega)).trans a2, (R _ _ (by omega)).trans a3, (R _ _ (by omega)).trans a4, (R _ _ (by omega)).trans a5, (R _ _ (by omega)).trans a6, (R _ _ (by omega)).trans a7, h8, h16, l1, l2, ⟨(S _ (by omega)).trans b1, (R _ _ (by omega)).trans b2, (R _ _ (by omega)).trans b3, (R _ _ (by omega)).trans b4, (S _ (by omega)).trans b5, (S _ (by omega)).trans b6, (S _ (by omega)).trans b7⟩, hf, ho, (S _ (by omega)).trans a15, fun f hf => ⟨(R _ _ (by omega)).trans (a16 f hf).1, (S _ (by omega)).trans (a16 f hf).2⟩, (S _ (by omega)).trans a17⟩
theorem iFr_cg {s s1 : cT} {o i : Nat} (h : iFr s o i) (hK : ∀ d, d = o + 130 + i ∨ d = o + 140 + i ∨ d = o + 150 + i ∨ d = o + 160 + i → s1.1 d = s.1 d ∧ s1.2.2.2 d = s.2.2.2 d) : iFr s1 o i := by
  obtain ⟨b1, b2, b3, b4, b5, b6, b7⟩ := h
  have S : ∀ d, d = o + 130 + i ∨ d = o + 140 + i ∨ d = o + 150 + i ∨ d = o + 160 + i → s1.1 d = s.1 d := fun d hd => (hK d hd).1
  have R : ∀ d k, d = o + 130 + i ∨ d = o + 140 + i ∨ d = o + 150 + i ∨ d = o + 160 + i → s1.2.2.2 d k = s.2.2.2 d k := fun d k hd => congrFun (hK d hd).2 k
  exact ⟨(S _ (by omega)).trans b1, (R _ _ (by omega)).trans b2, (R _ _ (by omega)).trans b3, (R _ _ (by omega)).trans b4, (S _ (by omega)).trans b5, (S _ (by omega)).trans b6, (S _ (by omega)).trans b7⟩
theorem frC_cg {s s1 s2 : cT} {o u i mo : Nat} (h : frC s s1 o u i mo) (hK : ∀ d, d = o + 130 + i ∨ d = o + 140 + i ∨ d = o + 150 + i ∨ d = o + 160 + i → s2.2.1 d = s1.2.1 d ∧ s2.2.2.1 d = s1.2.2.1 d ∧ s2.2.2.2 d = s1.2.2.2 d) : frC s s2 o u i mo := by
  obtain ⟨b1, b2, b3, b4, b5, b6⟩ := h
  refine ⟨fun k h1 h2 => ?_, fun k h1 h2 => ?_, fun k h1 => ?_, ?_, fun m hm => ?_, fun m hm => ?_⟩
  · rw [(hK _ (by omega)).1]; exact b1 k h1 h2
  · rw [(hK _ (by omega)).2.1]; exact b2 k h1 h2
  · rw [(hK _ (by omega)).1]; exact b3 k h1
  · rw [(hK _ (by omega)).2.1]; exact b4
  · rw [(hK _ (by omega)).2.2]; exact b5 m hm
  · rw [(hK _ (by omega)).2.1]; exact b6 m hm
theorem lsc_cg {s s1 : cT} {c r n : Nat} {el : Nat → Nat} (h : lsc s c r n el) (hc : s1.1 c = s.1 c ∧ s1.2.1 c = s.2.1 c ∧ s1.2.2.2 c = s.2.2.2 c) (hr : s1.1 r = s.1 r ∧ s1.2.2.2 r = s.2.2.2 r) : lsc s1 c r n el := by
  obtain ⟨h1, m, m1, m2, m3⟩ := h
  exact ⟨lst_cg h1 hc.1 hc.2.1 hc.2.2 hr.1 hr.2, m, hr.1.trans m1, m2, m3⟩
theorem lsc_el {s : cT} {c r n : Nat} {el el1 : Nat → Nat} (h : lsc s c r n el) (he : ∀ i, i < n → el1 i = el i) : lsc s c r n el1 := by
  obtain ⟨⟨x1, x2, x3, x4, cap, x5, x6, x7⟩, m, m1, m2, m3⟩ := h
  exact ⟨⟨x1, x2, x3, x4, cap, x5, x6, fun i hi => by rw [he i hi]; exact x7 i hi⟩, m, m1, m2, m3⟩
section CP
variable {p : cP} {s : cT} {g : zH} {o u nf no mo : Nat}
/-- j franchisees are copied -/
def cpI (p : cP) (s : cT) (g : zH) (o u mo P1 K M j : Nat) (a : cP × (cT × zH)) : Prop := Tr p g a.1 a.2.1 a.2.2 (K + 5 * j) (M + 340 * j) ∧ a.1.1 (o + 10) = P1 ∧ iBk a.2.1 o j 0 ∧ lsc a.2.1 (o + 11) (o + 12) j (fun i => o + 130 + i) ∧ lsc a.2.1 (o + 13) (o + 14) 0 (fun k => o + 170 + k) ∧ (∀ i, i < j → frC s a.2.1 o u i mo) ∧ (∀ i d, j ≤ i → i < 8 → d = o + 130 + i ∨ d = o + 140 + i ∨ d = o + 150 + i ∨ d = o + 160 + i → (a.2.1.1 d).1 = 0) ∧ (∀ k, k < 16 → (a.2.1.1 (o + 170 + k)).1 = 0) ∧ frB o p s a.1 a.2.1
theorem cp_l14 (E : zE) (hE : 1000 ≤ E.1) (ho : o + 200 ≤ XT) (hu : u + 200 ≤ XT) (hou : u + 200 ≤ o ∨ o + 200 ≤ u) (hB : iBk s u nf no) (hm : mo ≤ 60) (hmo : s.2.1 (u + 10) 5 = Int32.ofNat mo) (hrw : ∀ i m, i < nf → m < mo → ∃ e, s.2.2.2 (u + 150 + i) m = some e ∧ s.1 e = (3, 7)) (hro : ∀ i m e, i < nf → m < mo → s.2.2.2 (u + 150 + i) m = some e → e < o + 10 ∨ o + 200 ≤ e) {P1 K M : Nat} (hr : rm g (K + 50) (M + 3000)) {a0 : cP × (cT × zH)} (h0 : cpI p s g o u mo P1 K M 0 a0) {Q : Nat × zH → Prop} (hQ : ∀ a, cpI p s g o u mo P1 K M nf a → Ww (f_X4_copy_l65 E E.1 (p.1 (u + 10)) P1 (0 : Int32) (cH a.1 a.2.1 a.2.2)) Q) : Ww (f_X4_copy_l14 E E.1 (p.1 (u + 10)) P1 (0 : Int32) (cH a0.1 a0.2.1 a0.2.2)) Q := by
  have hf8 := hB.2.2.2.2.2.2.2.1
  have hl := hB.2.2.2.2.2.2.2.2.2.1
  refine w_lp (σ := cP × (cT × zH)) (L := fun m k a => f_X4_copy_l14 E m (p.1 (u + 10)) P1 k (cH a.1 a.2.1 a.2.2)) (n := nf) (by omega) (Inv := fun j a => cpI p s g o u mo P1 K M j a) (fun m j a hj ha k => ?_) (fun m a ha => ?_) nf 0 E.1 a0 (by omega) (by omega) h0
  · obtain ⟨p1, s1, g1⟩ := a
    show Ww (f_X4_copy_l14 E (m + 1) (p.1 (u + 10)) P1 (Int32.ofNat j) (cH p1 s1 g1)) _
    obtain ⟨T, q1, iB, li1, li2, fc, z4, zo, fb⟩ := ha
    have fb : frB o p s p1 s1 := fb
    have T : Tr p g p1 s1 g1 (K + 5 * j) (M + 340 * j) := T
    have iB : iBk s1 o j 0 := iB
    have q1 : p1.1 (o + 10) = P1 := q1
    have b10 := fb (u + 10) (by omega)
    have b11 := fb (u + 11) (by omega)
    have b12 := fb (u + 12) (by omega)
    have b130 := fb (u + 130 + j) (by omega)
    have b140 := fb (u + 140 + j) (by omega)
    have b150 := fb (u + 150 + j) (by omega)
    have b160 := fb (u + 160 + j) (by omega)
    have lu : lst s1 (u + 11) (u + 12) nf (fun i => u + 130 + i) := lst_cg hl b11.2.1 b11.2.2.1 b11.2.2.2.2 b12.2.1 b12.2.2.2.2
    have hF : iFr s1 u j := iFr_cg (hB.2.2.2.2.2.2.2.2.2.2.2.2.1 j hj) (fun d hd => by have x := fb d (by omega); exact ⟨x.2.1, x.2.2.2.2⟩)
    obtain ⟨pc, sc, gc, e1, T1, F1, C1, fr1⟩ := K_X11_copy (mo := mo) E T.1 (o := o) (u := u) (i := j) ho hu hou (by omega) hm hF (fun d hd => z4 j d (Nat.le_refl _) (by omega) hd) (fun mm hmm => by
      obtain ⟨e, he, hs⟩ := hrw j mm hj hmm
      have x := fb e (hro j mm e hj hmm he)
      exact ⟨e, by rw [b150.2.2.2.2]; exact he, x.2.1.trans hs⟩) (Tr_rm T hr (by omega) (by omega))
    have TT := Tr_tr T T1
    have y11 := fr1 (o + 11) (by omega) (by omega) (by omega) (by omega)
    have y12 := fr1 (o + 12) (by omega) (by omega) (by omega) (by omega)
    have lc : lsc sc (o + 11) (o + 12) j (fun i => o + 130 + i) := lsc_cg li1 ⟨y11.2.1, y11.2.2.1, y11.2.2.2.2⟩ ⟨y12.2.1, y12.2.2.2.2⟩
    have sh : ∀ i, i < j → sc.1 (o + 130 + i) = (1, 10) := fun i hi => by
      rw [(fr1 _ (by omega) (by omega) (by omega) (by omega)).2.1]
      exact (iB.2.2.2.2.2.2.2.2.2.2.2.2.1 i hi).1
    obtain ⟨pd, sd, gd, e2, A⟩ := J_add E TT.1 (c := o + 11) (r := o + 12) (n := j) (e := o + 130 + j) lc (by omega) (by omega) (by omega) (ob_sh TT.1 F1.1) (Or.inl (by rw [F1.1]; exact Nat.succ_ne_zero _)) (fun i hi => ob_sh TT.1 (sh i hi)) (Tr_rm TT hr (by omega) (by omega))
    have T2 := Tr_ad TT A
    obtain ⟨A1, A2, A3, A4, A5, A6⟩ := A
    have A2 : lsc sd (o + 11) (o + 12) (j + 1) (fun i => o + 130 + i) := lsc_el A2 (fun i hi => by
      by_cases w : i = j
      · rw [if_pos w, w]
      · rw [if_neg w])
    have fd : ∀ d, d ≠ o + 130 + j → d ≠ o + 140 + j → d ≠ o + 150 + j → d ≠ o + 160 + j → d ≠ o + 11 → d ≠ o + 12 → pd.1 d = p1.1 d ∧ sd.1 d = s1.1 d ∧ sd.2.1 d = s1.2.1 d ∧ sd.2.2.1 d = s1.2.2.1 d ∧ sd.2.2.2 d = s1.2.2.2 d := fun d d1 d2 d3 d4 d5 d6 => by
      have x := fr1 d d1 d2 d3 d4
      have y := A3 d d6
      exact ⟨y.1.trans x.1, y.2.1.trans x.2.1, (A4 d d5).trans x.2.2.1, (congrFun A5 d).trans x.2.2.2.1, y.2.2.trans x.2.2.2.2⟩
    have fe : ∀ d, d = o + 130 + j ∨ d = o + 140 + j ∨ d = o + 150 + j ∨ d = o + 160 + j → sd.1 d = sc.1 d ∧ sd.2.1 d = sc.2.1 d ∧ sd.2.2.1 d = sc.2.2.1 d ∧ sd.2.2.2 d = sc.2.2.2 d := fun d hd => by
      have y := A3 d (by omega)
      exact ⟨y.2.1, A4 d (by omega), congrFun A5 d, y.2.2⟩
    have l2 : lsc sd (o + 13) (o + 14) 0 (fun k => o + 170 + k) := by
      have x := fd (o + 13) (by omega) (by omega) (by omega) (by omega) (by omega) (by omega)
      have y := fd (o + 14) (by omega) (by omega) (by omega) (by omega) (by omega) (by omega)
      exact lsc_cg li2 ⟨x.2.1, x.2.2.1, x.2.2.2.2⟩ ⟨y.2.1, y.2.2.2.2⟩
    have r1 : gR (cH p1 s1 g1) (p.1 (u + 10)) 4 0 = some (p1.1 (u + 11)) := by rw [← b10.1]; exact c_gR T.1.1 (b10.2.1.trans hB.1) rfl (by rw [b10.2.2.2.2]; exact hB.2.1)
    have r2 : gR (cH p1 s1 g1) P1 4 0 = some (p1.1 (o + 11)) := by rw [← q1]; exact c_gR T.1.1 iB.1 rfl iB.2.1
    have r3 : gI (cH p1 s1 g1) (p.1 (u + 10)) 4 5 = some (Int32.ofNat mo) := by rw [← b10.1, c_gI T.1.1 (b10.2.1.trans hB.1) rfl, b10.2.2.1, hmo]
    unfold f_X4_copy_l14
    rw [r1, b1_some, c_cko T.1.1 lu.1, b1_some, b_size T.1.1 lu E, b2_some, if_neg (le_ofn (by omega) hj), r2, b1_some, r1, b1_some, c_cko T.1.1 lu.1, b1_some, b_get T.1.1 lu E hj, b2_some, c_cko T.1.1 hF.1, b1_some, r3, b1_some, b1_some, e1, b2_some, ← y11.1, c_cko TT.1.1 lc.1.1, b1_some, e2, b2_some, i32_s]
    refine k (pd, (sd, gd)) ⟨?_, ?_, ?_, A2, l2, fun i hi => ?_, fun i d h1 h2 hd => ?_, fun q hq => ?_, fun d hd => ?_⟩
    · exact Tr_w T2 (by omega) (by omega)
    · exact (fd (o + 10) (by omega) (by omega) (by omega) (by omega) (by omega) (by omega)).1.trans q1
    · refine iBk_cg iB (fun d hd => ?_) (by omega) (by decide) A2.1 l2.1 (fun i hi => ?_) (fun q hq => absurd hq (Nat.not_lt_zero q))
      · have x := fd d (by omega) (by omega) (by omega) (by omega) (by omega) (by omega)
        exact ⟨x.2.1, x.2.2.2.2⟩
      · by_cases w : i = j
        · subst w
          exact iFr_cg F1 (fun d hd => ⟨(fe d hd).1, (fe d hd).2.2.2⟩)
        · refine iFr_cg (iB.2.2.2.2.2.2.2.2.2.2.2.2.1 i (by omega)) (fun d hd => ?_)
          have x := fd d (by omega) (by omega) (by omega) (by omega) (by omega) (by omega)
          exact ⟨x.2.1, x.2.2.2.2⟩
    · by_cases w : i = j
      · subst w
        have C2 : frC s sc o u i mo := by
          obtain ⟨w1, w2, w3, w4, w5, w6⟩ := C1
          exact ⟨fun k h1 h2 => (w1 k h1 h2).trans (by rw [b130.2.2.1]), fun k h1 h2 => (w2 k h1 h2).trans (by rw [b130.2.2.2.1]), fun k h1 => (w3 k h1).trans (by rw [b140.2.2.1]), w4.trans (by rw [b140.2.2.2.1]), fun m hm => (w5 m hm).trans (by rw [b150.2.2.2.2]), fun m hm => (w6 m hm).trans (by rw [b160.2.2.2.1])⟩
        exact frC_cg C2 (fun d hd => (fe d hd).2)
      · refine frC_cg (fc i (by omega)) (fun d hd => ?_)
        have x := fd d (by omega) (by omega) (by omega) (by omega) (by omega) (by omega)
        exact x.2.2
    · show (sd.1 d).1 = 0
      rw [(fd d (by omega) (by omega) (by omega) (by omega) (by omega) (by omega)).2.1]
      exact z4 i d (by omega) h2 hd
    · show (sd.1 (o + 170 + q)).1 = 0
      rw [(fd _ (by omega) (by omega) (by omega) (by omega) (by omega) (by omega)).2.1]
      exact zo q hq
    · have x := fd d (by omega) (by omega) (by omega) (by omega) (by omega) (by omega)
      have y := fb d hd
      exact ⟨x.1.trans y.1, x.2.1.trans y.2.1, x.2.2.1.trans y.2.2.1, x.2.2.2.1.trans y.2.2.2.1, x.2.2.2.2.trans y.2.2.2.2⟩
  · obtain ⟨p1, s1, g1⟩ := a
    show Ww (f_X4_copy_l14 E (m + 1) (p.1 (u + 10)) P1 (Int32.ofNat nf) (cH p1 s1 g1)) _
    have hk := hQ (p1, (s1, g1)) ha
    obtain ⟨T, q1, iB, li1, li2, fc, z4, zo, fb⟩ := ha
    have fb : frB o p s p1 s1 := fb
    have T : Tr p g p1 s1 g1 (K + 5 * nf) (M + 340 * nf) := T
    have b10 := fb (u + 10) (by omega)
    have b11 := fb (u + 11) (by omega)
    have b12 := fb (u + 12) (by omega)
    have lu : lst s1 (u + 11) (u + 12) nf (fun i => u + 130 + i) := lst_cg hl b11.2.1 b11.2.2.1 b11.2.2.2.2 b12.2.1 b12.2.2.2.2
    have r1 : gR (cH p1 s1 g1) (p.1 (u + 10)) 4 0 = some (p1.1 (u + 11)) := by rw [← b10.1]; exact c_gR T.1.1 (b10.2.1.trans hB.1) rfl (by rw [b10.2.2.2.2]; exact hB.2.1)
    unfold f_X4_copy_l14
    rw [r1, b1_some, c_cko T.1.1 lu.1, b1_some, b_size T.1.1 lu E, b2_some, if_pos (Int32.le_refl _)]
    exact hk
end CP
