/-! books copied: the outlets, the rest -/
set_option maxRecDepth 100000
section CP
variable {p : cP} {s : cT} {g : zH} {o u nf no mo : Nat}
def ouC (s s1 : cT) (o u k : Nat) : Prop := s1.2.1 (o + 170 + k) 0 = s.2.1 (u + 170 + k) 0 ∧ s1.2.1 (o + 170 + k) 1 = s.2.1 (u + 170 + k) 1 ∧ s1.2.2.1 (o + 170 + k) 2 = s.2.2.1 (u + 170 + k) 2
/-- j outlets are copied -/
def cpJ (p : cP) (s : cT) (g : zH) (o u nf mo P1 K M j : Nat) (a : cP × (cT × zH)) : Prop := Tr p g a.1 a.2.1 a.2.2 (K + 2 * j) (M + 203 * j) ∧ a.1.1 (o + 10) = P1 ∧ iBk a.2.1 o nf j ∧ lsc a.2.1 (o + 11) (o + 12) nf (fun i => o + 130 + i) ∧ lsc a.2.1 (o + 13) (o + 14) j (fun k => o + 170 + k) ∧ (∀ i, i < nf → frC s a.2.1 o u i mo) ∧ (∀ k, k < j → ouC s a.2.1 o u k) ∧ (∀ k, j ≤ k → k < 16 → (a.2.1.1 (o + 170 + k)).1 = 0) ∧ frB o p s a.1 a.2.1
theorem cp_l65 (E : zE) (hE : 1000 ≤ E.1) (ho : o + 200 ≤ XT) (hu : u + 200 ≤ XT) (hou : u + 200 ≤ o ∨ o + 200 ≤ u) (hB : iBk s u nf no) {P1 K M : Nat} (hr : rm g (K + 50) (M + 4000)) {a0 : cP × (cT × zH)} (h0 : cpJ p s g o u nf mo P1 K M 0 a0) {Q : Nat × zH → Prop} (hQ : ∀ a, cpJ p s g o u nf mo P1 K M no a → Ww (bnd2 (f_X5_like E (a.1.1 (o + 15)) (a.1.1 (u + 15)) (cH a.1 a.2.1 a.2.2)) fun _ h13 => f_X4_copy_l162 E E.1 (p.1 (u + 10)) P1 (0 : Int32) h13) Q) : Ww (f_X4_copy_l65 E E.1 (p.1 (u + 10)) P1 (0 : Int32) (cH a0.1 a0.2.1 a0.2.2)) Q := by
  have h16 := hB.2.2.2.2.2.2.2.2.1
  have hl := hB.2.2.2.2.2.2.2.2.2.2.1
  refine w_lp (σ := cP × (cT × zH)) (L := fun m k a => f_X4_copy_l65 E m (p.1 (u + 10)) P1 k (cH a.1 a.2.1 a.2.2)) (n := no) (by omega) (Inv := fun j a => cpJ p s g o u nf mo P1 K M j a) (fun m j a hj ha k => ?_) (fun m a ha => ?_) no 0 E.1 a0 (by omega) (by omega) h0
  · obtain ⟨p1, s1, g1⟩ := a
    show Ww (f_X4_copy_l65 E (m + 1) (p.1 (u + 10)) P1 (Int32.ofNat j) (cH p1 s1 g1)) _
    obtain ⟨T, q1, iB, li1, li2, fc, oc, zo, fb⟩ := ha
    have fb : frB o p s p1 s1 := fb
    have T : Tr p g p1 s1 g1 (K + 2 * j) (M + 203 * j) := T
    have iB : iBk s1 o nf j := iB
    have q1 : p1.1 (o + 10) = P1 := q1
    have zo : ∀ k, j ≤ k → k < 16 → (s1.1 (o + 170 + k)).1 = 0 := zo
    have li2 : lsc s1 (o + 13) (o + 14) j (fun k => o + 170 + k) := li2
    have b10 := fb (u + 10) (by omega)
    have b13 := fb (u + 13) (by omega)
    have b14 := fb (u + 14) (by omega)
    have b170 := fb (u + 170 + j) (by omega)
    have lu : lst s1 (u + 13) (u + 14) no (fun i => u + 170 + i) := lst_cg hl b13.2.1 b13.2.2.1 b13.2.2.2.2 b14.2.1 b14.2.2.2.2
    have shu : s1.1 (u + 170 + j) = (1, 13) := b170.2.1.trans (hB.2.2.2.2.2.2.2.2.2.2.2.2.2.1 j hj)
    obtain ⟨e1, T1⟩ := Tr_new (fs := [.int 0, .int 0, .long 0]) T hr (o + 170 + j) 13 3 (by omega) (by omega) (zo j (Nat.le_refl _) (by omega)) (by omega) rfl
    generalize hp2 : pA p1 (o + 170 + j) g1.2.1 = p2 at e1 T1
    generalize hs2 : sNw s1 (o + 170 + j) (1, 13) = s2 at e1 T1
    generalize hg2 : zadd g1 (true, .inr (13, [.int 0, .int 0, .long 0])) 3 = g2 at e1 T1
    have f2 : ∀ d, d ≠ o + 170 + j → p2.1 d = p1.1 d ∧ s2.1 d = s1.1 d ∧ s2.2.1 d = s1.2.1 d ∧ s2.2.2.1 d = s1.2.2.1 d ∧ s2.2.2.2 d = s1.2.2.2 d := fun d hd => by
      rw [← hp2, ← hs2]
      exact ⟨cu_ne p1.1 _ hd, sNw_o s1 hd _⟩
    have q2 : p2.1 (o + 170 + j) = g1.2.1 := by rw [← hp2]; exact cu_same _ _ _
    have c2 : s2.1 (o + 170 + j) = (1, 13) := by rw [← hs2]; exact cu_same _ _ _
    have w10 := f2 (u + 10) (by omega)
    have w13 := f2 (u + 13) (by omega)
    have w14 := f2 (u + 14) (by omega)
    have w170 := f2 (u + 170 + j) (by omega)
    have lu2 : lst s2 (u + 13) (u + 14) no (fun i => u + 170 + i) := lst_cg lu w13.2.1 w13.2.2.1 w13.2.2.2.2 w14.2.1 w14.2.2.2.2
    have shu2 : s2.1 (u + 170 + j) = (1, 13) := w170.2.1.trans shu
    obtain ⟨e3, T3⟩ := Tr_I T1 (o + 170 + j) 13 0 (v := s.2.1 (u + 170 + j) 0) c2 rfl q2
    obtain ⟨e4, T4⟩ := Tr_I T3 (o + 170 + j) 13 1 (v := s.2.1 (u + 170 + j) 1) c2 rfl q2
    obtain ⟨e5, T5⟩ := Tr_L T4 (o + 170 + j) 13 2 (v := s.2.2.1 (u + 170 + j) 2) c2 rfl q2
    generalize hs5 : uL (uI (uI s2 (o + 170 + j) 0 (s.2.1 (u + 170 + j) 0)) (o + 170 + j) 1 (s.2.1 (u + 170 + j) 1)) (o + 170 + j) 2 (s.2.2.1 (u + 170 + j) 2) = s5 at e5 T5
    have f5 : ∀ d, d ≠ o + 170 + j → p2.1 d = p1.1 d ∧ s5.1 d = s1.1 d ∧ s5.2.1 d = s1.2.1 d ∧ s5.2.2.1 d = s1.2.2.1 d ∧ s5.2.2.2 d = s1.2.2.2 d := fun d hd => by
      have x := f2 d hd
      rw [← hs5]
      exact ⟨x.1, x.2.1, (show (uI (uI s2 (o + 170 + j) 0 (s.2.1 (u + 170 + j) 0)) (o + 170 + j) 1 (s.2.1 (u + 170 + j) 1)).2.1 d = _ from (uI_row _ hd _ _).trans ((uI_row _ hd _ _).trans x.2.2.1)), (uL_row _ hd _ _).trans x.2.2.2.1, x.2.2.2.2⟩
    have oj : ouC s s5 o u j := by
      rw [← hs5]
      exact ⟨by rw [uL_I, uI_ne _ _ (Or.inr (by decide)), uI_s], by rw [uL_I, uI_s], by rw [uL_s]⟩
    have c5 : s5.1 (o + 170 + j) = (1, 13) := by rw [← hs5]; exact c2
    have y13 := f5 (o + 13) (by omega)
    have y14 := f5 (o + 14) (by omega)
    have lc : lsc s5 (o + 13) (o + 14) j (fun i => o + 170 + i) := lsc_cg li2 ⟨y13.2.1, y13.2.2.1, y13.2.2.2.2⟩ ⟨y14.2.1, y14.2.2.2.2⟩
    have sh : ∀ i, i < j → s5.1 (o + 170 + i) = (1, 13) := fun i hi => by
      rw [(f5 _ (by omega)).2.1]
      exact iB.2.2.2.2.2.2.2.2.2.2.2.2.2.1 i hi
    obtain ⟨pd, sd, gd, e6, A⟩ := J_add E T5.1 (c := o + 13) (r := o + 14) (n := j) (e := o + 170 + j) lc (by omega) (by omega) (by omega) (ob_sh T5.1 c5) (Or.inl (by rw [c5]; exact Nat.succ_ne_zero _)) (fun i hi => ob_sh T5.1 (sh i hi)) (Tr_rm T5 hr (by omega) (by omega))
    have T6 := Tr_ad T5 A
    obtain ⟨A1, A2, A3, A4, A5, A6⟩ := A
    have A2 : lsc sd (o + 13) (o + 14) (j + 1) (fun i => o + 170 + i) := lsc_el A2 (fun i hi => by
      by_cases w : i = j
      · rw [if_pos w, w]
      · rw [if_neg w])
    have fd : ∀ d, d ≠ o + 170 + j → d ≠ o + 13 → d ≠ o + 14 → pd.1 d = p1.1 d ∧ sd.1 d = s1.1 d ∧ sd.2.1 d = s1.2.1 d ∧ sd.2.2.1 d = s1.2.2.1 d ∧ sd.2.2.2 d = s1.2.2.2 d := fun d d1 d2 d3 => by
      have x := f5 d d1
      have y := A3 d d3
      exact ⟨y.1.trans x.1, y.2.1.trans x.2.1, (A4 d d2).trans x.2.2.1, (congrFun A5 d).trans x.2.2.2.1, y.2.2.trans x.2.2.2.2⟩
    have l1 : lsc sd (o + 11) (o + 12) nf (fun k => o + 130 + k) := by
      have x := fd (o + 11) (by omega) (by omega) (by omega)
      have y := fd (o + 12) (by omega) (by omega) (by omega)
      exact lsc_cg li1 ⟨x.2.1, x.2.2.1, x.2.2.2.2⟩ ⟨y.2.1, y.2.2.2.2⟩
    have hf8 := iB.2.2.2.2.2.2.2.1
    have r1 : gR (cH p1 s1 g1) (p.1 (u + 10)) 4 1 = some (p1.1 (u + 13)) := by rw [← b10.1]; exact c_gR T.1.1 (b10.2.1.trans hB.1) rfl (by rw [b10.2.2.2.2]; exact hB.2.2.1)
    have r2 : gR (cH p1 s1 g1) P1 4 1 = some (p1.1 (o + 13)) := by rw [← q1]; exact c_gR T.1.1 iB.1 rfl iB.2.2.1
    have r3 : gR (cH p2 s2 g2) (p.1 (u + 10)) 4 1 = some (p2.1 (u + 13)) := by rw [← b10.1, ← w10.1]; exact c_gR T1.1.1 (w10.2.1.trans (b10.2.1.trans hB.1)) rfl (by rw [w10.2.2.2.2, b10.2.2.2.2]; exact hB.2.2.1)
    have r4 : gI (cH p2 s2 g2) (p2.1 (u + 170 + j)) 13 0 = some (s.2.1 (u + 170 + j) 0) := by rw [c_gI T1.1.1 shu2 rfl, w170.2.2.1, b170.2.2.1]
    have r5 : gI (cH p2 s2 g2) (p2.1 (u + 170 + j)) 13 1 = some (s.2.1 (u + 170 + j) 1) := by rw [c_gI T1.1.1 shu2 rfl, w170.2.2.1, b170.2.2.1]
    have r6 : gL (cH p2 s2 g2) (p2.1 (u + 170 + j)) 13 2 = some (s.2.2.1 (u + 170 + j) 2) := by rw [c_gL T1.1.1 shu2 rfl, w170.2.2.2.1, b170.2.2.2.1]
    have g3 : f_J2_get E (p2.1 (u + 13)) (Int32.ofNat j) (cH p2 s2 g2) = some (p2.1 (u + 170 + j), cH p2 s2 g2) := b_get T1.1.1 lu2 E hj
    have k3 := c_cko (g := g2) T1.1.1 lu2.1
    have k4 := c_cko (g := g2) T1.1.1 shu2
    unfold f_X4_copy_l65 f_X14_init f_X14_init_b0
    rw [r1, b1_some, c_cko T.1.1 lu.1, b1_some, b_size T.1.1 lu E, b2_some, if_neg (le_ofn (by omega) hj), r2, b1_some, e1, b2_some, r3, b1_some, k3, b1_some, g3, b2_some, k4, b1_some, r4, b1_some, r3, b1_some, k3, b1_some, g3, b2_some, k4, b1_some, r5, b1_some, r3, b1_some, k3, b1_some, g3, b2_some, k4, b1_some, r6, b1_some, e3, b1_some, e4, b1_some, e5, b1_some, b2_some, ← y13.1, c_cko T5.1.1 lc.1.1, b1_some, ← q2, e6, b2_some, i32_s]
    refine k (pd, (sd, gd)) ⟨?_, ?_, ?_, l1, A2, fun i hi => ?_, fun q hq => ?_, fun q h1 h2 => ?_, fun d hd => ?_⟩
    · exact Tr_w T6 (by omega) (by omega)
    · exact (fd (o + 10) (by omega) (by omega) (by omega)).1.trans q1
    · refine iBk_cg iB (fun d hd => ?_) hf8 (by omega) l1.1 A2.1 (fun i hi => ?_) (fun q hq => ?_)
      · have x := fd d (by omega) (by omega) (by omega)
        exact ⟨x.2.1, x.2.2.2.2⟩
      · refine iFr_cg (iB.2.2.2.2.2.2.2.2.2.2.2.2.1 i hi) (fun d hd => ?_)
        have x := fd d (by omega) (by omega) (by omega)
        exact ⟨x.2.1, x.2.2.2.2⟩
      · by_cases w : q = j
        · rw [w, (A3 _ (by omega)).2.1]; exact c5
        · rw [(fd _ (by omega) (by omega) (by omega)).2.1]; exact iB.2.2.2.2.2.2.2.2.2.2.2.2.2.1 q (by omega)
    · refine frC_cg (fc i hi) (fun d hd => ?_)
      have x := fd d (by omega) (by omega) (by omega)
      exact x.2.2
    · by_cases w : q = j
      · subst w
        obtain ⟨x1, x2, x3⟩ := oj
        refine ⟨?_, ?_, ?_⟩
        · exact (congrFun (A4 _ (by omega)) 0).trans x1
        · exact (congrFun (A4 _ (by omega)) 1).trans x2
        · exact (congrFun (congrFun A5 _) 2).trans x3
      · obtain ⟨x1, x2, x3⟩ := oc q (by omega)
        have y := fd (o + 170 + q) (by omega) (by omega) (by omega)
        exact ⟨(congrFun y.2.2.1 0).trans x1, (congrFun y.2.2.1 1).trans x2, (congrFun y.2.2.2.1 2).trans x3⟩
    · show (sd.1 (o + 170 + q)).1 = 0
      rw [(fd _ (by omega) (by omega) (by omega)).2.1]
      exact zo q (by omega) h2
    · have x := fd d (by omega) (by omega) (by omega)
      have y := fb d hd
      exact ⟨x.1.trans y.1, x.2.1.trans y.2.1, x.2.2.1.trans y.2.2.1, x.2.2.2.1.trans y.2.2.2.1, x.2.2.2.2.trans y.2.2.2.2⟩
  · obtain ⟨p1, s1, g1⟩ := a
    show Ww (f_X4_copy_l65 E (m + 1) (p.1 (u + 10)) P1 (Int32.ofNat no) (cH p1 s1 g1)) _
    have hk := hQ (p1, (s1, g1)) ha
    obtain ⟨T, q1, iB, li1, li2, fc, oc, zo, fb⟩ := ha
    have fb : frB o p s p1 s1 := fb
    have T : Tr p g p1 s1 g1 (K + 2 * no) (M + 203 * no) := T
    have iB : iBk s1 o nf no := iB
    have q1 : p1.1 (o + 10) = P1 := q1
    have b10 := fb (u + 10) (by omega)
    have b13 := fb (u + 13) (by omega)
    have b14 := fb (u + 14) (by omega)
    have b15 := fb (u + 15) (by omega)
    have lu : lst s1 (u + 13) (u + 14) no (fun i => u + 170 + i) := lst_cg hl b13.2.1 b13.2.2.1 b13.2.2.2.2 b14.2.1 b14.2.2.2.2
    have r1 : gR (cH p1 s1 g1) (p.1 (u + 10)) 4 1 = some (p1.1 (u + 13)) := by rw [← b10.1]; exact c_gR T.1.1 (b10.2.1.trans hB.1) rfl (by rw [b10.2.2.2.2]; exact hB.2.2.1)
    have r2 : gR (cH p1 s1 g1) P1 4 2 = some (p1.1 (o + 15)) := by rw [← q1]; exact c_gR T.1.1 iB.1 rfl iB.2.2.2.1
    have r3 : gR (cH p1 s1 g1) (p.1 (u + 10)) 4 2 = some (p1.1 (u + 15)) := by rw [← b10.1]; exact c_gR T.1.1 (b10.2.1.trans hB.1) rfl (by rw [b10.2.2.2.2]; exact hB.2.2.2.1)
    unfold f_X4_copy_l65
    rw [r1, b1_some, c_cko T.1.1 lu.1, b1_some, b_size T.1.1 lu E, b2_some, if_pos (Int32.le_refl _), r2, b1_some, r3, b1_some, c_cko T.1.1 iB.2.2.2.2.2.2.2.2.2.2.2.1.1, b1_some]
    exact hk
end CP
