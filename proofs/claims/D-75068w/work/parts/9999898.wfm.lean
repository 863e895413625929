/-! formatInvoice at the world level -/
set_option maxRecDepth 100000
section LP
variable {p0 : cP} {g0 : zH} {s0 : cT} {E : zE}
theorem f_rows (hE : 20000 ≤ E.1) (hD : Dgs E (rv0 p0 g0)) (hL : Lt E (rv0 p0 g0)) (hr : rm g0 10 5000) (hx : s0.1 1 = (1, 0) ∧ s0.2.2.2 1 5 = some 24) {v : Nat → Int64} {fr ar e m : Nat} (hm : m < 60) (h1 : s0.1 fr = (1, 10)) (h2 : s0.2.2.2 fr 1 = some ar) (h3 : s0.1 ar = (7, 60)) (h4 : s0.2.2.2 ar m = some e) (h5 : s0.1 e = (3, 7)) (hv : ∀ i, i < 7 → s0.2.2.1 e i = v i ∧ -9000000000000000000 ≤ (v i).toInt) (c1 : 103 < fr) (c2 : 103 < ar) (c3 : 103 < e) : ∀ k i n (p : cP) (s : cT) (g : zH), i + k = 7 → FX p0 g0 s0 p s g (ptx v i) → ∃ p1 s1 g1, f_X1_formatInvoice_l31 E (n + k + 1) (p0.1 1) (Int32.ofNat m) (p0.1 fr) (Int32.ofNat i) (cH p s g) = some (.inl (Int32.ofNat (ptx v 7).length), cH p1 s1 g1) ∧ FX p0 g0 s0 p1 s1 g1 (ptx v 7)
  | 0, i, n, p, s, g, hi, h => by
    have e7 : i = 7 := by omega
    subst e7
    obtain ⟨q1, q2⟩ := FX_ck (E := E) h
    refine ⟨p, s, g, ?_, h⟩
    rw [f_X1_formatInvoice_l31, if_pos (by decide), FX_1 hx h, b1_some, q1, b1_some, q2, b2_some]
  | k + 1, i, n, p, s, g, hi, h => by
    have hi7 : i < 7 := by omega
    obtain ⟨p1, s1, g1, e1, h1'⟩ := f_line hE hD hL hr hx (v := v) hi7 h (hv i hi7).2
    obtain ⟨p2, s2, g2, e2, h2'⟩ := f_rows hE hD hL hr hx hm h1 h2 h3 h4 h5 hv c1 c2 c3 k (i + 1) n p1 s1 g1 (by omega) h1'
    have hn : f_X1_nameOf E (Int32.ofNat i) (cH p s g) = some (E.2.1 i, cH p s g) := by
      rcases i with _ | _ | _ | _ | _ | _ | _ | i
      · rfl
      · rfl
      · rfl
      · rfl
      · rfl
      · rfl
      · rfl
      · omega
    refine ⟨p2, s2, g2, ?_, h2'⟩
    obtain ⟨r, cap, kk, mm, T, hS, hb, hrr, hf, h24⟩ := h
    have f1 := hf 1 (by decide) (by decide) (by decide)
    have ffr := hf fr (by omega) (by omega) (by omega)
    have far := hf ar (by omega) (by omega) (by omega)
    have fe := hf e (by omega) (by omega) (by omega)
    have hp := T.1.1
    have nj : ¬ (Int32.ofNat m < 0 ∨ 60 ≤ (Int32.ofNat m).toNatClampNeg) := by rw [nat_clamp (by omega)]; exact fun q => q.elim (i32_nneg (by omega)) (by omega)
    have ni : ¬ (Int32.ofNat i < 0 ∨ 7 ≤ (Int32.ofNat i).toNatClampNeg) := by rw [nat_clamp (by omega)]; exact fun q => q.elim (i32_nneg (by omega)) (by omega)
    have r1 : gR (cH p s g) (p0.1 fr) 10 1 = some (p.1 ar) := by rw [← ffr.1]; exact c_gR hp (ffr.2.1.trans h1) rfl ((congrFun ffr.2.2.2.2 1).trans h2)
    have r2 : dR (cH p s g) (p.1 ar) 5 (Int32.ofNat m) = some (p.1 e) := c_dR hp (t := 5) (n := 60) (far.2.1.trans h3) (Or.inr (Or.inl rfl)) nj (by rw [nat_clamp (by omega)]; exact (congrFun far.2.2.2.2 m).trans h4)
    have r3 : dL (cH p s g) (p.1 e) (Int32.ofNat i) = some (v i) := by
      rw [c_dL hp (n := 7) (fe.2.1.trans h5) ni, nat_clamp (by omega), fe.2.2.2.1, (hv i hi7).1]
    have r4 : cko (cH p s g) (p0.1 1) 0 = some () := by rw [← f1.1]; exact c_cko hp (f1.2.1.trans hx.1)
    rw [show n + (k + 1) + 1 = (n + k + 1) + 1 by omega, f_X1_formatInvoice_l31, if_neg (fun q => by rw [show (7 : Int32) = Int32.ofNat 7 from rfl, i32_le (by decide) (by omega)] at q; omega), hn, b2_some, r1, b1_some, r2, b1_some, r3, b1_some, r4, b1_some, e1, b2_some, i32_s, e2]
theorem t_rows (hE : 20000 ≤ E.1) {t0 : twS} {v : Nat → Int64} {f m : Nat} (hf : f < 8) (hm : m < 60) (hv : ∀ i, i < 7 → t0.1 (1694 + 7 * (8 * m + f) + i) = v i ∧ -9000000000000000000 ≤ (v i).toInt) : ∀ k i n (t : twS), i + k = 7 → TwL t0 t (ptx v i) → ∃ t1, t_X6_formatInvoice_l56 E (n + k + 1) (Int32.ofNat f) (Int32.ofNat m) (Int32.ofNat i) t = some (Int32.ofNat (ptx v 7).length, t1) ∧ TwL t0 t1 (ptx v 7)
  | 0, i, n, t, hi, h => by
    have e7 : i = 7 := by omega
    subst e7
    refine ⟨t, ?_, h⟩
    rw [t_X6_formatInvoice_l56, if_pos (by decide), h.1]
  | k + 1, i, n, t, hi, h => by
    have hi7 : i < 7 := by omega
    have hlen := ptx_len v i (by omega)
    have hn := lit_chs i (by omega)
    have s1 : ∃ t1, TwL t0 t1 (ptx v i ++ (if i = 0 then [] else [32])) ∧ t_X6_formatInvoice_l56 E (n + (k + 1) + 1) (Int32.ofNat f) (Int32.ofNat m) (Int32.ofNat i) t = t_X6_formatInvoice_b72 E (t_X6_formatInvoice_l56 E (n + (k + 1))) (Int32.ofNat f) (Int32.ofNat m) (Int32.ofNat i) t1 := by
      have c7 : ¬ (7 : Int32) ≤ Int32.ofNat i := fun q => by rw [show (7 : Int32) = Int32.ofNat 7 from rfl, i32_le (by decide) (by omega)] at q; omega
      rw [t_X6_formatInvoice_l56, if_neg c7]
      by_cases w : i = 0
      · refine ⟨t, by rw [if_pos w, List.append_nil]; exact h, ?_⟩
        have c0 : Int32.ofNat i ≤ 0 := by rw [w]; decide
        rw [if_pos c0]
      · obtain ⟨t1, e1, h2⟩ := tw_c (E := E) h (by omega) 32 (c := 32) rfl
        refine ⟨t1, by rw [if_neg w]; exact h2, ?_⟩
        have c0 : ¬ Int32.ofNat i ≤ 0 := fun q => by rw [show (0 : Int32) = Int32.ofNat 0 from rfl, i32_le (by omega) (by decide)] at q; omega
        rw [if_neg c0, e1, b2_some]
    obtain ⟨t1, h1, e1⟩ := s1
    generalize hl1 : ptx v i ++ (if i = 0 then [] else [32]) = l1 at h1
    have n1 : l1.length ≤ 33 * i + 1 := by
      rw [← hl1, List.length_append]
      have h3 : (if i = 0 then [] else [(32 : Int32)]).length ≤ 1 := by split <;> decide
      omega
    obtain ⟨t2, e2, h2⟩ := tw_word (E := E) (pnm i) 10 (E.1 - 11) t1 l1 45 h1 (by omega) (by decide) (by decide)
    rw [show E.1 - 11 + 10 + 1 = E.1 by omega] at e2
    rw [pnm_w i hi7] at h2
    have n2 : (l1 ++ (lit i ++ [32])).length ≤ 33 * i + 12 := by
      rw [List.length_append, List.length_append]
      have : [(32 : Int32)].length = 1 := rfl
      omega
    obtain ⟨t3, e3, h3⟩ := tw_am hE h2 (by omega) (hv i hi7).2
    have hcat : l1 ++ (lit i ++ [32]) ++ am (v i) = ptx v (i + 1) := by
      rw [← hl1]
      show _ = ptx v i ++ ((if i = 0 then [] else [32]) ++ (lit i ++ (32 :: am (v i))))
      simp only [List.append_assoc, List.cons_append, List.nil_append]
    rw [hcat] at h3
    obtain ⟨t4, e4, h4⟩ := t_rows hE hf hm hv k (i + 1) n t3 (by omega) h3
    refine ⟨t4, ?_, h4⟩
    have ew : t_X6_appendWord E (pnm i) t1 = some ((), t2) := e2
    have ed : tdL t2 1 (Int32.ofNat (1694 + 7 * (8 * m + f)) + Int32.ofNat i) = some (v i) := by
      rw [y_inv hf hm hi7, h2.2.2.1, (hv i hi7).1]
    rw [e1]
    unfold t_X6_formatInvoice_b72
    rw [tw_pn i hi7, b2_some, ew, b2_some, y_invRow, b2_some, ed, b1_some, e3, b2_some, i32_s, show n + (k + 1) = n + k + 1 from rfl, e4]
end LP
/-! ## the world -/
theorem iRu_cg2 {s s1 : cT} {np : Nat} {nt : Nat → Nat} (h : iRu s np nt) (hS : ∀ c, 2 ≤ c → c < 103 → c < 21 ∨ 30 ≤ c → s1.1 c = s.1 c ∧ s1.2.1 c = s.2.1 c ∧ s1.2.2.2 c = s.2.2.2 c) : iRu s1 np nt := by
  obtain ⟨a1, a2, a3, a4, a5, a6, a7, a8, a9, a10, a11, a12⟩ := h
  have S : ∀ c, 2 ≤ c → c < 103 → c < 21 ∨ 30 ≤ c → s1.1 c = s.1 c := fun c h1 h2 h3 => (hS c h1 h2 h3).1
  have I : ∀ c, 2 ≤ c → c < 103 → c < 21 ∨ 30 ≤ c → s1.2.1 c = s.2.1 c := fun c h1 h2 h3 => (hS c h1 h2 h3).2.1
  have R : ∀ c, 2 ≤ c → c < 103 → c < 21 ∨ 30 ≤ c → s1.2.2.2 c = s.2.2.2 c := fun c h1 h2 h3 => (hS c h1 h2 h3).2.2
  have R2 : ∀ c k, 2 ≤ c → c < 103 → c < 21 ∨ 30 ≤ c → s1.2.2.2 c k = s.2.2.2 c k := fun c k h1 h2 h3 => congrFun (R c h1 h2 h3) k
  refine ⟨(S _ (by omega) (by omega) (by omega)).trans a1, (R2 _ _ (by omega) (by omega) (by omega)).trans a2, (R2 _ _ (by omega) (by omega) (by omega)).trans a3, (R2 _ _ (by omega) (by omega) (by omega)).trans a4, (R2 _ _ (by omega) (by omega) (by omega)).trans a5, (R2 _ _ (by omega) (by omega) (by omega)).trans a6, (S _ (by omega) (by omega) (by omega)).trans a7, (S _ (by omega) (by omega) (by omega)).trans a8, (S _ (by omega) (by omega) (by omega)).trans a9, a10, lst_cg a11 (S _ (by omega) (by omega) (by omega)) (I _ (by omega) (by omega) (by omega)) (R _ (by omega) (by omega) (by omega)) (S _ (by omega) (by omega) (by omega)) (R _ (by omega) (by omega) (by omega)), fun i hi => ?_⟩
  obtain ⟨b1, b2, b3, b4, b5, b6, b7⟩ := a12 i hi
  exact ⟨(S _ (by omega) (by omega) (by omega)).trans b1, (R2 _ _ (by omega) (by omega) (by omega)).trans b2, (R2 _ _ (by omega) (by omega) (by omega)).trans b3, (S _ (by omega) (by omega) (by omega)).trans b4, b5, lst_cg b6 (S _ (by omega) (by omega) (by omega)) (I _ (by omega) (by omega) (by omega)) (R _ (by omega) (by omega) (by omega)) (S _ (by omega) (by omega) (by omega)) (R _ (by omega) (by omega) (by omega)), fun j hj => (S _ (by omega) (by omega) (by omega)).trans (b7 j hj)⟩
section CG
variable {s s1 : cT} {np : Nat} {nt : Nat → Nat} {t t1 : Nat → Int64}
theorem RR_cg4 (h : RR s np nt t) (h4 : np ≤ 4) (hC : ∀ c, 2 ≤ c → c < 103 → c < 21 ∨ 30 ≤ c → s1.2.1 c = s.2.1 c ∧ s1.2.2.1 c = s.2.2.1 c) (ht : ∀ y, y = 1 ∨ 4 ≤ y ∧ y < 11 ∨ 14 ≤ y ∧ y < 58 → t1 y = t y) : RR s1 np nt t1 := by
  obtain ⟨⟨a1, a2, a3, a4, a5, a6, a7, a8⟩, hp⟩ := h
  refine ⟨⟨by rw [ht _ (by omega)]; exact a1, by rw [ht _ (by omega), (hC 7 (by decide) (by decide) (by decide)).1]; exact a2, by rw [ht _ (by omega), (hC 2 (by decide) (by decide) (by decide)).2]; exact a3, by rw [ht _ (by omega), (hC 8 (by decide) (by decide) (by decide)).1]; exact a4, by rw [ht _ (by omega), (hC 9 (by decide) (by decide) (by decide)).1]; exact a5, by rw [ht _ (by omega), (hC 2 (by decide) (by decide) (by decide)).2]; exact a6, by rw [ht _ (by omega), (hC 2 (by decide) (by decide) (by decide)).1]; exact a7, by rw [ht _ (by omega), (hC 2 (by decide) (by decide) (by decide)).1]; exact a8⟩, fun i hi => ?_⟩
  obtain ⟨b1, b2, b3, b4, b5, b6⟩ := hp i hi
  refine ⟨by rw [ht _ (by omega), (hC (40 + i) (by omega) (by omega) (by omega)).1]; exact b1, by rw [ht _ (by omega), (hC (70 + 8 * i + 0) (by omega) (by omega) (by omega)).1]; exact b2, by rw [(hC (70 + 8 * i + 0) (by omega) (by omega) (by omega)).2]; exact b3, b4, by rw [ht _ (by omega)]; exact b5, fun j hj => ⟨?_, ?_⟩⟩
  · rw [ht _ (by omega), (hC (70 + 8 * i + (j + 1)) (by omega) (by omega) (by omega)).2]; exact (b6 j hj).1
  · rw [ht _ (by omega), (hC (70 + 8 * i + (j + 1)) (by omega) (by omega) (by omega)).1]; exact (b6 j hj).2
end CG
section WO
variable {X : cT → (Nat → Option zC) → twS → Prop} {E : zE} {q x a c n : Nat} {H : zH} {t : twS} {p : cP} {s : cT} {N : iN} {mo nb : Nat}
/-- behind a call that wrote text only *(codes 23 .. 29, 103, new codes from nb; the ledger's ints)* -/
theorem Wo_tr {X1 : cT → (Nat → Option zC) → twS → Prop} (h : Wo X q x a (c + 50) n H t p s N mo nb) {p1 : cP} {s1 : cT} {g1 : zH} {t1 : twS} {nb1 : Nat} (hK : Kp p1 s1 g1) (hnb : nb ≤ nb1) (hnb2 : nb1 ≤ nb + 10000) (hfr : ∀ d, d < 23 ∨ 30 ≤ d → d ≠ 103 → d < nb ∨ nb1 ≤ d → p1.1 d = p.1 d ∧ s1.1 d = s.1 d ∧ (d ≠ 1 → s1.2.1 d = s.2.1 d) ∧ s1.2.2.1 d = s.2.2.1 d ∧ s1.2.2.2 d = s.2.2.2 d) (h23 : s1.1 23 = s.1 23) (hraw : ∀ b, b < H.2.1 → p.2 b = none → b ≠ a → p1.2 b = none ∧ g1.1 b = H.1 b) (ha : p1.2 a = none) (hoa : oC g1 a) (hs : H.2.1 ≤ g1.2.1) (hr1 : H.2.2.1 ≤ g1.2.2.1 + 20000) (hr2 : H.2.2.2 ≤ g1.2.2.2 + 220000) (ht : ∀ y, y < 15162 → t1.1 y = t.1 y) (ht2 : t1.2.2.1 2 = t.2.2.1 2) (hx : (∀ b c, rvw p H a q b = some c → rvw p1 (cH p1 s1 g1) a q b = some c) → X1 s1 (rvw p1 (cH p1 s1 g1) a q) t1) : Wo X1 q x a c (n + 1) (cH p1 s1 g1) t1 p1 s1 N mo nb1 := by
  obtain ⟨⟨w1, w2, w3, w4⟩, ⟨w5, w6, w7, w8, w9⟩, ⟨w10, w11, w12, w13, w14⟩, ⟨w15, w16, w17, w18, w19⟩, ⟨w20, w21⟩, w22, w23⟩ := h
  have h2 := w3.2.2.2.2.2
  have jX := w3.2.2.1
  have iB := w3.2.2.2.1
  have XTv : XT = 1000000 := rfl
  have te := ht
  have b1 := hfr 1 (by omega) (by omega) (by omega)
  have bk : ∀ u, 200 ≤ u → u + 200 ≤ nb → ∀ d, u + 10 ≤ d → d < u + 200 → s1.1 d = s.1 d ∧ s1.2.1 d = s.2.1 d ∧ s1.2.2.1 d = s.2.2.1 d ∧ s1.2.2.2 d = s.2.2.2 d := fun u u1 u2 d d1 d2 => by
    have k := hfr d (by omega) (by omega) (by omega)
    exact ⟨k.2.1, k.2.2.1 (by omega), k.2.2.2.1, k.2.2.2.2⟩
  have rw1 : ∀ e, XT ≤ e → s.1 e = (3, 7) → s1.1 e = (3, 7) ∧ s1.2.2.1 e = s.2.2.1 e := fun e he hs => by
    have k := hfr e (by omega) (by omega) (by omega)
    exact ⟨k.2.1.trans hs, k.2.2.2.1⟩
  have key := bk_keep (t := t.1) (t1 := t1.1) (bk N.1 h2 w10) rw1 iB w9 w5 (fun y hy => te y (by omega)) w6.1.1
  have ru : ∀ c, 2 ≤ c → c < 103 → c < 21 ∨ 30 ≤ c → s1.1 c = s.1 c ∧ s1.2.1 c = s.2.1 c ∧ s1.2.2.1 c = s.2.2.1 c ∧ s1.2.2.2 c = s.2.2.2 c := fun c c1 c2 c3 => by
    have k := hfr c (by omega) (by omega) (by omega)
    exact ⟨k.2.1, k.2.2.1 (by omega), k.2.2.2.1, k.2.2.2.2⟩
  have hiX : ∀ (k22 : s1.1 22 = s.1 22) (k21 : s1.1 21 = s.1 21), iX s1 N.1 := fun k22 k21 => by
    obtain ⟨x1, x2, x3, x4, x5, x6, x7, x8, x9, x10, x11⟩ := jX
    have R1 := b1.2.2.2.2
    exact ⟨b1.2.1.trans x1, (congrFun R1 0).trans x2, (congrFun R1 1).trans x3, (congrFun R1 2).trans x4, (congrFun R1 3).trans x5, (congrFun R1 4).trans x6, (congrFun R1 5).trans x7, (congrFun R1 6).trans x8, k21.trans x9, k22.trans x10, h23.trans x11⟩
  have f21 := hfr 21 (by omega) (by omega) (by omega)
  have f22 := hfr 22 (by omega) (by omega) (by omega)
  have raw : ∀ b, b < H.2.1 → p.2 b = none → b ≠ a → ¬ (q ≤ b ∧ b < q + 10) → p1.2 b = none ∧ (cH p1 s1 g1).1 b = H.1 b := fun b hb hn hba _ => by
    have k := hraw b hb hn hba
    exact ⟨k.1, by rw [cH_raw k.1]; exact k.2⟩
  refine ⟨⟨hK, cH_idem _ _ _, ⟨hK.1, hK.2.1, hiX f22.2.1 f21.2.1, key.1, iRu_cg2 w3.2.2.2.2.1 (fun c c1 c2 c3 => by have k := ru c c1 c2 c3; exact ⟨k.1, k.2.1, k.2.2.2⟩), h2⟩, b1.1.trans w4⟩, ⟨key.2.2, IV_all w6 (fun y hy => te y (by omega)) (Nat.le_succ n), RR_cg4 w7 w6.1.2.2.2 (fun c c1 c2 c3 => by have k := ru c c1 c2 c3; exact ⟨k.2.1, k.2.2.1⟩) (fun y hy => te y (by omega)), IR_cg w8 w6.1.2.2.2 (fun y hy => te y (by omega)), key.2.1⟩, ⟨by omega, by omega, fun d d1 d2 => by rw [(hfr d (by omega) (by omega) (by omega)).2.1]; exact w12 d (by omega) d2, by omega, ?_⟩, ⟨ha, ⟨hoa.1, ?_⟩, fun b d1 d2 => (hraw b (by omega) (w17 b d1 d2) (by omega)).1, by show q + 10 ≤ g1.2.1; omega, w19⟩, ⟨fun k k1 k2 => by rw [(bk N.1 h2 w10 _ (by omega) (by omega)).1]; exact w20 k k1 k2, by rw [(bk N.1 h2 w10 _ (by omega) (by omega)).1]; exact w21⟩, fun k hk => ?_, hx (rvw_le hs raw)⟩
  · have := w14.1; have := w14.2
    exact ⟨show 400 * c ≤ g1.2.2.1 by omega, show 4400 * c ≤ g1.2.2.2 by omega⟩
  · obtain ⟨f, hf⟩ := hoa.2
    exact ⟨f, by rw [cH_raw ha]; exact hf⟩
  · exact Sn_keep hk (w22 k hk) ⟨rfl, rfl⟩ (by rw [f21.2.2.2.2]) (fun u u1 u2 u3 => ⟨u3, bk u u1 u2⟩) rw1 hnb (Nat.le_succ n) (congrFun ht2 k) (fun y y1 y2 => te y (by omega)) (fun y hy => te y (by rcases hy with hy | hy | hy | ⟨i, hi, hy⟩ <;> omega))
end WO
