/-! the buffer, the error: X is Bf and the rest Y -/
set_option maxRecDepth 100000
def Bf (s : cT) (t : twS) : Prop := s.2.1 1 7 = tSc t 9 ∧ s.2.1 1 8 = tSc t 11 ∧ s.2.1 1 9 = tSc t 12 ∧ (∃ L, tSc t 9 = Int32.ofNat L ∧ L ≤ 1500) ∧ ∀ j, j < 1500 → s.2.1 23 j = t.2.2.1 7 j
/-- what is told of other raw things does not look at the buffer, the errors *(7: length of the text; 19, 20: the journal; arrays 6, 8)* -/
def stY (Y : cT → (Nat → Option zC) → twS → Prop) : Prop := ∀ s s1 v v1 t t1, (∀ d, d < 200 → d ≠ 1 → d ≠ 21 → d ≠ 22 → d ≠ 23 → s1.1 d = s.1 d ∧ s1.2.1 d = s.2.1 d ∧ s1.2.2.1 d = s.2.2.1 d ∧ s1.2.2.2 d = s.2.2.2 d) → (∀ b c, v b = some c → v1 b = some c) → (∀ k, k = 7 ∨ k = 19 ∨ k = 20 → tSc t1 k = tSc t k) → (∀ i, i = 6 ∨ i = 8 → t1.2.2.1 i = t.2.2.1 i) → (∀ i, i < 8 → t1.1 (58 + 16 * i + 0) = t.1 (58 + 16 * i + 0)) → Y s v t → Y s1 v1 t1
def XX (Y : cT → (Nat → Option zC) → twS → Prop) : cT → (Nat → Option zC) → twS → Prop := fun s v t => Bf s t ∧ Y s v t
theorem stb_XX {Y : cT → (Nat → Option zC) → twS → Prop} (hY : stY Y) : stb (XX Y) := fun s s1 v v1 t t1 h1 h2 h3 h4 h5 h => by
  obtain ⟨⟨b1, b2, b3, b4, b5⟩, y⟩ := h
  have k1 := (h1 1 (by decide) (by decide) (by decide)).2.1
  have k23 := (h1 23 (by decide) (by decide) (by decide)).2.1
  refine ⟨⟨?_, ?_, ?_, ?_, fun j hj => ?_⟩, hY s s1 v v1 t t1 (fun d d1 d2 d3 d4 d5 => ?_) h2 (fun k hk => h3 k (by omega)) (fun i hi => h4 i (by omega)) h5 y⟩
  · rw [k1, h3 9 (by decide)]; exact b1
  · rw [k1, h3 11 (by decide)]; exact b2
  · rw [k1, h3 12 (by decide)]; exact b3
  · rw [h3 9 (by decide)]; exact b4
  · rw [k23, h4 7 (by decide)]; exact b5 j hj
  · have k := h1 d d1 d3 d4
    exact ⟨k.1, k.2.1, k.2.2.1, k.2.2.2 d2⟩
section CG
variable {s s1 : cT} {np : Nat} {nt : Nat → Nat} {t t1 : Nat → Int64}
theorem RR_cg3 (h : RR s np nt t) (h4 : np ≤ 4) (hC : ∀ c, c < 200 → c ≠ 22 → c ≠ 1 → c ≠ 23 → s1.2.1 c = s.2.1 c ∧ s1.2.2.1 c = s.2.2.1 c) (ht : ∀ y, y = 1 ∨ 4 ≤ y ∧ y < 11 ∨ 14 ≤ y ∧ y < 58 → t1 y = t y) : RR s1 np nt t1 := by
  obtain ⟨⟨a1, a2, a3, a4, a5, a6, a7, a8⟩, hp⟩ := h
  refine ⟨⟨by rw [ht _ (by omega)]; exact a1, by rw [ht _ (by omega), (hC 7 (by decide) (by decide) (by decide) (by decide)).1]; exact a2, by rw [ht _ (by omega), (hC 2 (by decide) (by decide) (by decide) (by decide)).2]; exact a3, by rw [ht _ (by omega), (hC 8 (by decide) (by decide) (by decide) (by decide)).1]; exact a4, by rw [ht _ (by omega), (hC 9 (by decide) (by decide) (by decide) (by decide)).1]; exact a5, by rw [ht _ (by omega), (hC 2 (by decide) (by decide) (by decide) (by decide)).2]; exact a6, by rw [ht _ (by omega), (hC 2 (by decide) (by decide) (by decide) (by decide)).1]; exact a7, by rw [ht _ (by omega), (hC 2 (by decide) (by decide) (by decide) (by decide)).1]; exact a8⟩, fun i hi => ?_⟩
  obtain ⟨b1, b2, b3, b4, b5, b6⟩ := hp i hi
  refine ⟨by rw [ht _ (by omega), (hC (40 + i) (by omega) (by omega) (by omega) (by omega)).1]; exact b1, by rw [ht _ (by omega), (hC (70 + 8 * i + 0) (by omega) (by omega) (by omega) (by omega)).1]; exact b2, by rw [(hC (70 + 8 * i + 0) (by omega) (by omega) (by omega) (by omega)).2]; exact b3, b4, by rw [ht _ (by omega)]; exact b5, fun j hj => ⟨?_, ?_⟩⟩
  · rw [ht _ (by omega), (hC (70 + 8 * i + (j + 1)) (by omega) (by omega) (by omega) (by omega)).2]; exact (b6 j hj).1
  · rw [ht _ (by omega), (hC (70 + 8 * i + (j + 1)) (by omega) (by omega) (by omega) (by omega)).1]; exact (b6 j hj).2
end CG
section WO
variable {X Y : cT → (Nat → Option zC) → twS → Prop} {E : zE} {q x a c n : Nat} {H : zH} {t : twS} {p : cP} {s : cT} {N : iN} {mo nb : Nat}
/-- only the ledger's numbers and the buffer were written -/
theorem Wo_sm (h : Wo X q x a (c + 1) n H t p s N mo nb) {s1 : cT} {t1 : twS} {g1 : zH} (h0 : s1.1 = s.1) (hR : s1.2.2.2 = s.2.2.2) (hL : s1.2.2.1 = s.2.2.1) (hI : ∀ d, d ≠ 1 → d ≠ 23 → s1.2.1 d = s.2.1 d) (ht : t1.1 = t.1) (ha2 : t1.2.2.1 2 = t.2.2.1 2) (hg : gxp H g1 a) (hH : iH p s1 g1 N) (hx : (∀ b c, rvw p H a q b = some c → rvw p (cH p s1 g1) a q b = some c) → X s1 (rvw p (cH p s1 g1) a q) t1) : Wo X q x a c (n + 1) (cH p s1 g1) t1 p s1 N mo nb := by
  obtain ⟨⟨w1, w2, w3, w4⟩, ⟨w5, w6, w7, w8, w9⟩, ⟨w10, w11, w12, w13, w14⟩, ⟨w15, w16, w17, w18, w19⟩, ⟨w20, w21⟩, w22, w23⟩ := h
  obtain ⟨g0, g2, g3, g4, g5⟩ := hg
  have h2 := w3.2.2.2.2.2
  have XTv : XT = 1000000 := rfl
  have te : ∀ y, t1.1 y = t.1 y := fun y => by rw [ht]
  have raw : ∀ b, b < H.2.1 → p.2 b = none → b ≠ a → ¬ (q ≤ b ∧ b < q + 10) → p.2 b = none ∧ (cH p s1 g1).1 b = H.1 b := fun b hb hn ha _ => ⟨hn, by rw [cH_raw hn]; exact g2 b hb ha⟩
  have key := bk_keep (t := t.1) (t1 := t1.1) (fun d d1 d2 => ⟨by rw [h0], hI d (by omega) (by omega), by rw [hL], by rw [hR]⟩) (fun e _ hs => ⟨by rw [h0]; exact hs, by rw [hL]⟩) w3.2.2.2.1 w9 w5 (fun y _ => te y) w6.1.1
  refine ⟨⟨Kp_g (Kp_t w1 h0 hR) g0, cH_idem _ _ _, iH_g hH (Nat.le_refl _), w4⟩, ⟨key.2.2, IV_all w6 (fun y _ => te y) (Nat.le_succ n), RR_cg3 w7 w6.1.2.2.2 (fun d hd _ d1 d23 => ⟨hI d d1 d23, by rw [hL]⟩) (fun y _ => te y), IR_cg w8 w6.1.2.2.2 (fun y _ => te y), key.2.1⟩, ⟨w10, by omega, fun d d1 d2 => by rw [h0]; exact w12 d d1 d2, by omega, ?_⟩, ⟨w15, ⟨g3.1, ?_⟩, w17, by show q + 10 ≤ g1.2.1; omega, w19⟩, ⟨fun k k1 k2 => by rw [h0]; exact w20 k k1 k2, by rw [h0]; exact w21⟩, fun k hk => ?_, hx (rvw_le g0 raw)⟩
  · have := w14.1; have := w14.2
    exact ⟨show 400 * c ≤ g1.2.2.1 by omega, show 4400 * c ≤ g1.2.2.2 by omega⟩
  · obtain ⟨f, hf⟩ := g3.2
    exact ⟨f, by rw [cH_raw w15]; exact hf⟩
  · exact Sn_keep hk (w22 k hk) ⟨rfl, rfl⟩ (by rw [hR]) (fun u u1 u2 u3 => ⟨u3, fun d d1 d2 => ⟨by rw [h0], hI d (by omega) (by omega), by rw [hL], by rw [hR]⟩⟩) (fun e he hs => ⟨by rw [h0]; exact hs, by rw [hL]⟩) (Nat.le_refl _) (Nat.le_succ n) (congrFun ha2 k) (fun y _ _ => te y) (fun y _ => te y)
theorem gxp_rfl {H : zH} (h : oC H a) : gxp H H a := ⟨Nat.le_refl _, fun _ _ _ => rfl, h, Nat.le_add_right _ _, Nat.le_add_right _ _⟩
theorem W_errorCode (hY : stY Y) (h : Wo (XX Y) q x a (c + 1) n H t p s N mo nb) : ∃ r H1 t1, f_X1_errorCode E x H = some (r, H1) ∧ t_X6_errorCode E t = some (r, t1) ∧ Wd (XX Y) q x a c H1 t1 := by
  have k := (cs_X1_errorCode (p := p) E h.1.2.2.1 (r := s.2.1 1 8) (s9 := s) (g9 := H) rfl).1
  rw [h.1.2.2.2, h.1.2.1] at k
  refine ⟨s.2.1 1 8, H, uSc t 2 0, k, ?_, n + 1, p, s, N, mo, nb, Wo_thr (stb_XX hY) h 0⟩
  have e := h.2.2.2.2.2.2.1.2.1
  show some (tSc (uSc t 2 (0 : Int32)) 11, uSc t 2 (0 : Int32)) = _
  rw [e]
  rfl
theorem W_errorPosition (hY : stY Y) (h : Wo (XX Y) q x a (c + 1) n H t p s N mo nb) : ∃ r H1 t1, f_X1_errorPosition E x H = some (r, H1) ∧ t_X6_errorPosition E t = some (r, t1) ∧ Wd (XX Y) q x a c H1 t1 := by
  have k := (cs_X1_errorPosition (p := p) E h.1.2.2.1 (r := s.2.1 1 9) (s9 := s) (g9 := H) rfl).1
  rw [h.1.2.2.2, h.1.2.1] at k
  refine ⟨s.2.1 1 9, H, uSc t 2 0, k, ?_, n + 1, p, s, N, mo, nb, Wo_thr (stb_XX hY) h 0⟩
  have e := h.2.2.2.2.2.2.1.2.2.1
  show some (tSc (uSc t 2 (0 : Int32)) 12, uSc t 2 (0 : Int32)) = _
  rw [e]
  rfl
theorem tSc_u (t : twS) (k : Nat) (v : Int32) (j : Nat) : tSc (uSc t k v) j = if j = k then v else tSc t j := rfl
theorem W_truncateInput (hY : stY Y) (h : Wo (XX Y) q x a (c + 1) n H t p s N mo nb) (p1 : Int32) : ∃ r H1 t1, f_X1_truncateInput E x p1 H = some (r, H1) ∧ t_X6_truncateInput E p1 t = some (r, t1) ∧ Wd (XX Y) q x a c H1 t1 := by
  obtain ⟨b1, b2, b3, ⟨L, b4, b4'⟩, b5⟩ := h.2.2.2.2.2.2.1
  have hy := h.2.2.2.2.2.2.2
  unfold t_X6_truncateInput t_X6_truncateInput_b0
  rw [y_inRange, b2_some]
  have e9 : tSc (uSc t 2 (0 : Int32)) 9 = s.2.1 1 7 := b1.symm
  rw [e9]
  by_cases hc : (0 : Int64) ≤ p1.toInt64 ∧ p1.toInt64 ≤ (s.2.1 1 7).toInt64
  · have k := cs_X1_truncateInput (p := p) E h.1.2.2.1 (p1 := p1) (r := p1) (s9 := uI s 1 7 p1) (g9 := H) (by
      unfold c_X1_truncateInput c_X1_truncateInput_b0
      rw [if_pos hc, if_neg (by decide)])
    rw [h.1.2.2.2, h.1.2.1] at k
    rw [if_pos hc, if_neg (by decide)]
    refine ⟨p1, cH p (uI s 1 7 p1) H, uSc (uSc t 2 0) 9 p1, k.1, rfl, n + 1, p, uI s 1 7 p1, N, mo, nb, Wo_sm h rfl rfl rfl (fun d d1 _ => uI_row s d1 _ _) rfl rfl (gxp_rfl h.2.2.2.1.2.1) k.2 (fun hv => ⟨⟨?_, ?_, ?_, ?_, fun j hj => ?_⟩, hY s _ _ _ t _ (fun d d1 d2 d3 d4 d5 => ⟨rfl, uI_row s d2 _ _, rfl, rfl⟩) hv (fun k hk => ?_) (fun _ _ => rfl) (fun _ _ => rfl) hy⟩)⟩
    · rw [uI_s]; rfl
    · rw [uI_ne _ _ (Or.inr (by decide))]; exact b2
    · rw [uI_ne _ _ (Or.inr (by decide))]; exact b3
    · have i := inF_nat (f := p1) (n := L + 1) (by
        have h1 := hc.1
        have h3 := hc.2
        rw [b1, b4, Int64.le_iff_toInt_le, Int32.toInt_toInt64, Int32.toInt_toInt64, i32_toInt (by omega)] at h3
        rw [Int64.le_iff_toInt_le, Int32.toInt_toInt64] at h1
        exact ⟨h1, by omega⟩)
      exact ⟨p1.toNatClampNeg, i.1, by omega⟩
    · rw [uI_row s (show (23 : Nat) ≠ 1 by decide)]; exact b5 j hj
    · rw [tSc_u, tSc_u, if_neg (by omega), if_neg (by omega)]
  · have k := cs_X1_truncateInput (p := p) E h.1.2.2.1 (p1 := p1) (r := -1) (s9 := s) (g9 := H) (by
      unfold c_X1_truncateInput c_X1_truncateInput_b0
      rw [if_neg hc, if_pos rfl])
    rw [h.1.2.2.2, h.1.2.1] at k
    rw [if_neg hc, if_pos rfl]
    exact ⟨-1, H, uSc t 2 0, k.1, rfl, n + 1, p, s, N, mo, nb, Wo_thr (stb_XX hY) h 0⟩
end WO
