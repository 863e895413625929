/-! franchisee: it is made and added, with its name -/
set_option maxRecDepth 100000
section FR
variable {E : zE} {p : cP} {s : cT} {g : zH} {t : twS} {nb nf no : Nat}
theorem ob_raw {l : List Int32} {a : Nat} (hx : px p) (h : StrH (rv0 p g) a l) : ob (cH p s g) (p.1 (XT + a)) := by
  obtain ⟨b, x, y, f2, h1, -⟩ := h
  obtain ⟨v1, v2, v3⟩ := rv0_spec h1
  rw [hx]
  exact ⟨v1, true, _, (cH_raw v2).trans v3⟩
theorem K_fra (hK : Kp p s g) (hr : rm g 10 600) (hnb : 400 ≤ nb ∧ nb + 10000 ≤ XT) (hB : iBk s nb nf no) (hl : lsc s (nb + 11) (nb + 12) nf (fun i => nb + 130 + i)) (hnf : nf < 8) (hC : s.1 (nb + 130 + nf) = (1, 10)) (z1 : (s.1 (nb + 140 + nf)).1 = 0) (z2 : (s.1 (nb + 150 + nf)).1 = 0) (z3 : (s.1 (nb + 160 + nf)).1 = 0) (hrd : s.1 (nb + 400) = (1, 6)) (hr1 : s.2.2.2 (nb + 400) 1 = some (nb + 202)) (h202 : s.1 (nb + 202) = (1, 2)) (hr2 : s.2.2.2 (nb + 202) 1 = some (nb + 205)) {na : Nat → Nat} {nm : Nat → List Nat} (hln : lsc s (nb + 205) (nb + 206) nf (fun i => XT + na i)) (hn : ∀ i, i < nf → StrH (rv0 p g) (na i) (chd (nm i))) {aw : Nat} {d : List Nat} (hw : StrH (rv0 p g) aw (chd d)) (a b : Int32) : ∃ p1 s1 g1, (bnd2 (f_X11_init E (p.1 (nb + 130 + nf)) a b (cH p s g)) fun x42 h40 => (cko h40 (p.1 (nb + 11)) 15).bind fun _ => bnd2 (f_J2_add E (p.1 (nb + 11)) (p.1 (nb + 130 + nf)) h40) fun x46 h44 => (gR h44 (p.1 (nb + 400)) 6 1).bind fun x47 => (gR h44 x47 2 1).bind fun x49 => (cko h44 x49 15).bind fun _ => bnd2 (f_J2_add E x49 aw h44) fun x54 h52 => some ((Sum.inl () : Unit ⊕ (Nat × Nat)), h52)) = some (.inl (), cH p1 s1 g1) ∧ Tr p g p1 s1 g1 5 527 ∧ lsc s1 (nb + 11) (nb + 12) (nf + 1) (fun i => nb + 130 + i) ∧ lsc s1 (nb + 205) (nb + 206) (nf + 1) (fun i => XT + if i = nf then aw else na i) ∧ iFr s1 nb nf ∧ (s1.2.1 (nb + 130 + nf) 3 = a ∧ s1.2.1 (nb + 130 + nf) 4 = b ∧ s1.2.1 (nb + 130 + nf) 5 = 0 ∧ s1.2.1 (nb + 130 + nf) 6 = s.2.1 (nb + 130 + nf) 6 ∧ s1.2.1 (nb + 130 + nf) 7 = s.2.1 (nb + 130 + nf) 7 ∧ ∀ k, s1.2.2.1 (nb + 130 + nf) k = s.2.2.1 (nb + 130 + nf) k) ∧ ((∀ k, s1.2.1 (nb + 140 + nf) k = 0) ∧ ∀ k, s1.2.2.1 (nb + 140 + nf) k = 0) ∧ (∀ e, e ≠ nb + 130 + nf → e ≠ nb + 140 + nf → e ≠ nb + 150 + nf → e ≠ nb + 160 + nf → e ≠ nb + 11 → e ≠ nb + 12 → e ≠ nb + 205 → e ≠ nb + 206 → p1.1 e = p.1 e ∧ s1.1 e = s.1 e ∧ s1.2.1 e = s.2.1 e ∧ s1.2.2.1 e = s.2.2.1 e ∧ s1.2.2.2 e = s.2.2.2 e) ∧ ∀ e, e ≠ nb + 140 + nf → e ≠ nb + 150 + nf → e ≠ nb + 160 + nf → e ≠ nb + 12 → e ≠ nb + 206 → s1.1 e = s.1 e := by
  have XTv : XT = 1000000 := rfl
  obtain ⟨p1, s1, g1, e1, T1, i1, x1, y1, q1, f1⟩ := K_X11_init (o := nb) (i := nf) E hK (by omega) hnf hC z1 z2 z3 ⟨by have := hr.1; omega, by have := hr.2; omega⟩ a b
  have g11 := f1 (nb + 11) (by omega) (by omega) (by omega) (by omega)
  have g12 := f1 (nb + 12) (by omega) (by omega) (by omega) (by omega)
  have l1 : lsc s1 (nb + 11) (nb + 12) nf (fun i => nb + 130 + i) := lsc_cg hl ⟨g11.2.1, g11.2.2.1, g11.2.2.2.2⟩ ⟨g12.2.1, g12.2.2.2.2⟩
  have sh : ∀ k, k < nf → s1.1 (nb + 130 + k) = (1, 10) := fun k hk => by
    rw [(f1 _ (by omega) (by omega) (by omega) (by omega)).2.1]; exact (hB.2.2.2.2.2.2.2.2.2.2.2.2.1 k hk).1
  obtain ⟨p2, s2, g2, e2, A⟩ := J_add E T1.1 (c := nb + 11) (r := nb + 12) (n := nf) (e := nb + 130 + nf) l1 (by omega) (by omega) (by omega) (ob_sh T1.1 i1.1) (Or.inl (by rw [i1.1]; exact Nat.succ_ne_zero _)) (fun k hk => ob_sh T1.1 (sh k hk)) (Tr_rm T1 hr (by decide) (by decide))
  have T2 := Tr_ad T1 A
  obtain ⟨A1, A2, A3, A4, A5, A6⟩ := A
  have A2' : lsc s2 (nb + 11) (nb + 12) (nf + 1) (fun k => nb + 130 + k) := lsc_el A2 (fun k hk => by
    by_cases w : k = nf
    · rw [if_pos w, w]
    · rw [if_neg w])
  have f2 : ∀ e, e ≠ nb + 11 → e ≠ nb + 12 → p2.1 e = p1.1 e ∧ s2.1 e = s1.1 e ∧ s2.2.1 e = s1.2.1 e ∧ s2.2.2.1 e = s1.2.2.1 e ∧ s2.2.2.2 e = s1.2.2.2 e := fun e h1 h2 => ⟨(A3 e h2).1, (A3 e h2).2.1, A4 e h1, congrFun A5 e, (A3 e h2).2.2⟩
  have k205 := f1 (nb + 205) (by omega) (by omega) (by omega) (by omega)
  have k206 := f1 (nb + 206) (by omega) (by omega) (by omega) (by omega)
  have k202 := f1 (nb + 202) (by omega) (by omega) (by omega) (by omega)
  have k400 := f1 (nb + 400) (by omega) (by omega) (by omega) (by omega)
  have m205 := f2 (nb + 205) (by omega) (by omega)
  have m206 := f2 (nb + 206) (by omega) (by omega)
  have m202 := f2 (nb + 202) (by omega) (by omega)
  have m400 := f2 (nb + 400) (by omega) (by omega)
  have ln2 : lsc s2 (nb + 205) (nb + 206) nf (fun i => XT + na i) := lsc_cg hln ⟨m205.2.1.trans k205.2.1, m205.2.2.1.trans k205.2.2.1, m205.2.2.2.2.trans k205.2.2.2.2⟩ ⟨m206.2.1.trans k206.2.1, m206.2.2.2.2.trans k206.2.2.2.2⟩
  have mono := rv0_Tr T2
  have hx2 := A1.2.2.1
  obtain ⟨p3, s3, g3, e3, B⟩ := J_add E A1 (c := nb + 205) (r := nb + 206) (n := nf) (e := XT + aw) ln2 (by omega) (by omega) (by omega) (ob_raw hx2 (StrH_mono mono hw)) (Or.inr (Nat.le_add_right _ _)) (fun k hk => ob_raw hx2 (StrH_mono mono (hn k hk))) (Tr_rm T2 hr (by decide) (by decide))
  have T3 := Tr_ad T2 B
  obtain ⟨B1, B2, B3, B4, B5, B6⟩ := B
  have f3 : ∀ e, e ≠ nb + 205 → e ≠ nb + 206 → p3.1 e = p2.1 e ∧ s3.1 e = s2.1 e ∧ s3.2.1 e = s2.2.1 e ∧ s3.2.2.1 e = s2.2.2.1 e ∧ s3.2.2.2 e = s2.2.2.2 e := fun e h1 h2 => ⟨(B3 e h2).1, (B3 e h2).2.1, B4 e h1, congrFun B5 e, (B3 e h2).2.2⟩
  have f23 : ∀ e, e ≠ nb + 11 → e ≠ nb + 12 → e ≠ nb + 205 → e ≠ nb + 206 → p3.1 e = p1.1 e ∧ s3.1 e = s1.1 e ∧ s3.2.1 e = s1.2.1 e ∧ s3.2.2.1 e = s1.2.2.1 e ∧ s3.2.2.2 e = s1.2.2.2 e := fun e h1 h2 h3 h4 => by
    have x := f2 e h1 h2
    have y := f3 e h3 h4
    exact ⟨y.1.trans x.1, y.2.1.trans x.2.1, y.2.2.1.trans x.2.2.1, y.2.2.2.1.trans x.2.2.2.1, y.2.2.2.2.trans x.2.2.2.2⟩
  have u11 := f3 (nb + 11) (by omega) (by omega)
  have u12 := f3 (nb + 12) (by omega) (by omega)
  have uC := f23 (nb + 130 + nf) (by omega) (by omega) (by omega) (by omega)
  have uD := f23 (nb + 140 + nf) (by omega) (by omega) (by omega) (by omega)
  refine ⟨p3, s3, g3, ?_, Tr_w T3 (by decide) (by decide), lsc_cg A2' ⟨u11.2.1, u11.2.2.1, u11.2.2.2.2⟩ ⟨u12.2.1, u12.2.2.2.2⟩, lsc_el B2 (fun k hk => by
    by_cases w : k = nf
    · rw [if_pos w, if_pos w]
    · rw [if_neg w, if_neg w]), iFr_cg i1 (fun e he => by have k := f23 e (by omega) (by omega) (by omega) (by omega); exact ⟨k.2.1, k.2.2.2.2⟩), ⟨(congrFun uC.2.2.1 3).trans x1.1, (congrFun uC.2.2.1 4).trans x1.2.1, (congrFun uC.2.2.1 5).trans x1.2.2.1, (congrFun uC.2.2.1 6).trans x1.2.2.2.1, (congrFun uC.2.2.1 7).trans x1.2.2.2.2.1, fun k => (congrFun uC.2.2.2.1 k).trans (x1.2.2.2.2.2 k)⟩, ⟨fun k => (congrFun uD.2.2.1 k).trans (y1.1 k), fun k => (congrFun uD.2.2.2.1 k).trans (y1.2.1 k)⟩, fun e h1 h2 h3 h4 h5 h6 h7 h8 => ?_, fun e h2 h3 h4 h6 h8 => ?_⟩
  · have ck11 : cko (cH p1 s1 g1) (p.1 (nb + 11)) 15 = some () := by rw [← g11.1]; exact c_cko T1.1.1 l1.1.1
    have r1 : gR (cH p2 s2 g2) (p.1 (nb + 400)) 6 1 = some (p2.1 (nb + 202)) := by
      rw [← k400.1, ← m400.1]
      exact c_gR A1.1 (m400.2.1.trans (k400.2.1.trans hrd)) rfl ((congrFun m400.2.2.2.2 1).trans ((congrFun k400.2.2.2.2 1).trans hr1))
    have r2 : gR (cH p2 s2 g2) (p2.1 (nb + 202)) 2 1 = some (p2.1 (nb + 205)) := c_gR A1.1 (m202.2.1.trans (k202.2.1.trans h202)) rfl ((congrFun m202.2.2.2.2 1).trans ((congrFun k202.2.2.2.2 1).trans hr2))
    rw [hx2] at e3
    rw [e1, b2_some, ck11, b1_some, ← g11.1, ← q1, e2, b2_some, r1, b1_some, r2, b1_some, c_cko A1.1 ln2.1.1, b1_some, e3, b2_some]
  · have x := f1 e h1 h2 h3 h4
    have y := f23 e h5 h6 h7 h8
    exact ⟨y.1.trans x.1, y.2.1.trans x.2.1, y.2.2.1.trans x.2.2.1, y.2.2.2.1.trans x.2.2.2.1, y.2.2.2.2.trans x.2.2.2.2⟩
  · rw [(B3 e h8).2.1, (A3 e h6).2.1]
    by_cases w : e = nb + 130 + nf
    · rw [w, i1.1, hC]
    · exact (f1 e w h2 h3 h4).2.1
end FR
