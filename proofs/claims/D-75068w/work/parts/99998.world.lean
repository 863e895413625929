/-! THE WORLD between two calls *(X: what is told of raw things)* -/
set_option maxRecDepth 100000
/-- raw cells that nobody writes -/
def rvw (p : cP) (H : zH) (a q : Nat) : Nat → Option zC := fun b => if b < H.2.1 ∧ p.2 b = none ∧ b ≠ a ∧ ¬ (q ≤ b ∧ b < q + 10) then H.1 b else none
def stb (X : cT → (Nat → Option zC) → twS → Prop) : Prop := ∀ s s1 v v1 t t1, (∀ d, d < 200 → d ≠ 21 → d ≠ 22 → s1.1 d = s.1 d ∧ s1.2.1 d = s.2.1 d ∧ s1.2.2.1 d = s.2.2.1 d ∧ (d ≠ 1 → s1.2.2.2 d = s.2.2.2 d)) → (∀ b c, v b = some c → v1 b = some c) → (∀ k, k ≠ 2 → tSc t1 k = tSc t k) → (∀ i, 6 ≤ i → t1.2.2.1 i = t.2.2.1 i) → (∀ i, i < 8 → t1.1 (58 + 16 * i + 0) = t.1 (58 + 16 * i + 0)) → X s v t → X s1 v1 t1
/-- rows have dynamic codes -/
def rX (s : cT) (u nf mo : Nat) : Prop := ∀ i m e, i < nf → m < mo → s.2.2.2 (u + 150 + i) m = some e → XT ≤ e
/-- a snapshot -/
def Sn (s : cT) (t : twS) (N : iN) (nb n k : Nat) : Prop := (t.2.2.1 2 k = 0 ∧ s.2.2.2 21 k = none) ∨ (t.2.2.1 2 k = 1 ∧ ∃ u no mo, s.2.2.2 21 k = some (u + 10) ∧ 200 ≤ u ∧ u + 200 ≤ nb ∧ (u + 200 ≤ N.1 ∨ N.1 + 200 ≤ u) ∧ iBk s u N.2.1 no ∧ rX s u N.2.1 mo ∧ RB s u N.2.1 no mo (fun y => t.1 (5054 * (1 + k) + y)) ∧ IV (fun y => t.1 (5054 * (1 + k) + y)) N.2.1 no N.2.2.2.1 mo n ∧ ∀ y, y = 1 ∨ 4 ≤ y ∧ y ≤ 10 ∨ 14 ≤ y ∧ y < 58 ∨ (∃ i, i < 8 ∧ y = 58 + 16 * i) → t.1 (5054 * (1 + k) + y) = t.1 y)
/-- c calls are still to come -/
def Wo (X : cT → (Nat → Option zC) → twS → Prop) (q x a c n : Nat) (H : zH) (t : twS) (p : cP) (s : cT) (N : iN) (mo nb : Nat) : Prop := (Kp p s H ∧ cH p s H = H ∧ iH p s H N ∧ p.1 1 = x) ∧ (RB s N.1 N.2.1 N.2.2.1 mo t.1 ∧ IV t.1 N.2.1 N.2.2.1 N.2.2.2.1 mo n ∧ RR s N.2.2.2.1 N.2.2.2.2 t.1 ∧ IR t.1 N.2.2.2.1 ∧ rX s N.1 N.2.1 mo) ∧ (N.1 + 200 ≤ nb ∧ nb + 200 * c ≤ XT ∧ (∀ d, nb ≤ d → d < XT → (s.1 d).1 = 0) ∧ n + c ≤ 50000 ∧ rm H (400 * c) (4400 * c)) ∧ (p.2 a = none ∧ oC H a ∧ (∀ b, q ≤ b → b < q + 10 → p.2 b = none) ∧ q + 10 ≤ H.2.1 ∧ (a < q ∨ q + 10 ≤ a)) ∧ ((∀ k, N.2.2.1 ≤ k → k < 16 → (s.1 (N.1 + 170 + k)).1 = 0) ∧ ∃ m, s.1 (N.1 + 14) = (6, m) ∧ 1 ≤ m ∧ m ≤ 2 * N.2.2.1 + 2) ∧ (∀ k, k < 2 → Sn s t N nb n k) ∧ X s (rvw p H a q) t
section WO
variable {X : cT → (Nat → Option zC) → twS → Prop} {E : zE} {q x a c n : Nat} {H : zH} {t : twS} {p : cP} {s : cT} {N : iN} {mo nb : Nat}
theorem Wo_Pr (h : Wo X q x a (c + 1) n H t p s N mo nb) (hE : 20000 ≤ E.1) : Pr E N mo n s t H := by
  obtain ⟨⟨w1, w2, w3, w4⟩, ⟨w5, w6, w7, w8, w9⟩, ⟨w10, w11, w12, w13, w14⟩, -⟩ := h
  have hB := w3.2.2.2.1
  have hK := hB.2.2.2.2.2.2.2.2.2.2.2.2.2.2
  refine ⟨w5, w6, w7, w8, hE, rm_le w14 (by omega) (by omega), fun i hi => ?_, fun k hk => hB.2.2.2.2.2.2.2.2.2.2.2.2.2.1 k hk, hK.2.2, fun f hf => (hK.2.1 f hf).2, by omega, w3.2.2.2.2.2⟩
  have f := hB.2.2.2.2.2.2.2.2.2.2.2.2.1 i hi
  exact ⟨f.1, f.2.2.2.2.1, f.2.2.2.2.2.2⟩
/-- a snapshot's books stay as they are -/
theorem bk_keep {s1 : cT} {u nf no mo : Nat} {t t1 : Nat → Int64} (hS : ∀ d, u + 10 ≤ d → d < u + 200 → s1.1 d = s.1 d ∧ s1.2.1 d = s.2.1 d ∧ s1.2.2.1 d = s.2.2.1 d ∧ s1.2.2.2 d = s.2.2.2 d) (hrow : ∀ e, XT ≤ e → s.1 e = (3, 7) → s1.1 e = (3, 7) ∧ s1.2.2.1 e = s.2.2.1 e) (hb : iBk s u nf no) (hx : rX s u nf mo) (hB : RB s u nf no mo t) (ht : ∀ y, y < 5054 → t1 y = t y) (hm : mo ≤ 60) : iBk s1 u nf no ∧ rX s1 u nf mo ∧ RB s1 u nf no mo t1 := by
  have h8 := hb.2.2.2.2.2.2.2.1
  have h16 := hb.2.2.2.2.2.2.2.2.1
  refine ⟨iBk_cg hb (fun d hd => ?_) h8 h16 ?_ ?_ (fun i hi => iFr_cg (hb.2.2.2.2.2.2.2.2.2.2.2.2.1 i hi) (fun d hd => ?_)) (fun k hk => ((hS _ (by omega) (by omega)).1).trans (hb.2.2.2.2.2.2.2.2.2.2.2.2.2.1 k hk)), fun i m e hi hm he => ?_, ?_⟩
  · have k := hS d (by omega) (by omega)
    exact ⟨k.1, k.2.2.2⟩
  · have k := hS (u + 11) (by omega) (by omega)
    have k2 := hS (u + 12) (by omega) (by omega)
    exact lst_cg hb.2.2.2.2.2.2.2.2.2.1 k.1 k.2.1 k.2.2.2 k2.1 k2.2.2.2
  · have k := hS (u + 13) (by omega) (by omega)
    have k2 := hS (u + 14) (by omega) (by omega)
    exact lst_cg hb.2.2.2.2.2.2.2.2.2.2.1 k.1 k.2.1 k.2.2.2 k2.1 k2.2.2.2
  · have k := hS d (by omega) (by omega)
    exact ⟨k.1, k.2.2.2⟩
  · rw [(hS _ (by omega) (by omega)).2.2.2] at he
    exact hx i m e hi hm he
  · obtain ⟨⟨a1, a2, a3, a4⟩, hF, hO, hC, hSp, hD, hRe, hIv⟩ := hB
    refine ⟨⟨by rw [ht _ (by omega)]; exact a1, by rw [(hS (u + 10) (by omega) (by omega)).2.1]; exact a2, by rw [ht _ (by omega)]; exact a3, by rw [ht _ (by omega)]; exact a4⟩, fun j hj => frR_cg (hF j hj) ?_ ?_ (fun x hx => ht _ (by omega)), fun k hk => ouR_cg (hO k hk) ?_ (fun x hx => ht _ (by omega)), fun c hc => by rw [ht _ (by omega), (hS (u + 16) (by omega) (by omega)).2.1]; exact hC c hc, fun k hk => by rw [ht _ (by omega), (hS (u + 20) (by omega) (by omega)).2.2.1]; exact hSp k hk, fun f hf g hg => by rw [ht _ (by omega), (hS (u + 190 + f) (by omega) (by omega)).2.2.1]; exact hD f hf g hg, fun f hf m hm => by rw [ht _ (by omega), (hS (u + 160 + f) (by omega) (by omega)).2.2.1]; exact hRe f hf m hm, fun f hf m hm => ?_⟩
    · have k := hS (u + 130 + j) (by omega) (by omega); exact ⟨k.2.1, k.2.2.1⟩
    · have k := hS (u + 140 + j) (by omega) (by omega); exact ⟨k.2.1, k.2.2.1⟩
    · have k' := hS (u + 170 + k) (by omega) (by omega); exact ⟨k'.2.1, k'.2.2.1⟩
    · obtain ⟨e, e1, e2, e3⟩ := hIv f hf m hm
      have k := hrow e (hx f m e hf hm e1) e2
      refine ⟨e, by rw [(hS _ (by omega) (by omega)).2.2.2]; exact e1, k.1, fun q hq => ?_⟩
      rw [ht _ (by omega), k.2]
      exact e3 q hq
theorem IV_all {t t1 : Nat → Int64} {nf no np mo n n1 : Nat} (h : IV t nf no np mo n) (ht : ∀ y, y < 5054 → t1 y = t y) (hn : n ≤ n1) : IV t1 nf no np mo n1 := by
  obtain ⟨⟨b1, b2, b3, b4⟩, hF, hO, hC, hR, hD⟩ := h
  refine ⟨⟨b1, b2, b3, b4⟩, fun j hj => frI_cg (frI_n (hF j hj) hn) (fun x hx => ht _ (by omega)), fun k hk => ?_, fun c hc => ?_, fun f hf m hm => ?_, fun f hf g hg hz => ?_⟩
  · rw [ht _ (by omega), ht _ (by omega)]; exact hO k hk
  · rw [ht _ (by omega)]; exact hC c hc
  · rw [ht _ (by omega)]
    refine ⟨(hR f hf m hm).1, fun q hq => ?_⟩
    rw [ht _ (by omega)]
    exact (hR f hf m hm).2 q hq
  · rw [ht _ (by omega)]; exact hD f hf g hg hz
/-- snapshots stay *(tables, the twin's other blocks, the rules)* -/
theorem Sn_keep {s1 : cT} {t1 : twS} {N1 : iN} {nb1 n1 k : Nat} (hk : k < 2) (h : Sn s t N nb n k) (hN : N1.2.1 = N.2.1 ∧ N1.2.2.2.1 = N.2.2.2.1) (h21 : s1.2.2.2 21 k = s.2.2.2 21 k) (hS : ∀ u, 200 ≤ u → u + 200 ≤ nb → u + 200 ≤ N.1 ∨ N.1 + 200 ≤ u → (u + 200 ≤ N1.1 ∨ N1.1 + 200 ≤ u) ∧ ∀ d, u + 10 ≤ d → d < u + 200 → s1.1 d = s.1 d ∧ s1.2.1 d = s.2.1 d ∧ s1.2.2.1 d = s.2.2.1 d ∧ s1.2.2.2 d = s.2.2.2 d) (hrow : ∀ e, XT ≤ e → s.1 e = (3, 7) → s1.1 e = (3, 7) ∧ s1.2.2.1 e = s.2.2.1 e) (hnb : nb ≤ nb1) (hn : n ≤ n1) (ha : t1.2.2.1 2 k = t.2.2.1 2 k) (ht : ∀ y, 5054 * (1 + k) ≤ y → y < 5054 * (1 + k) + 5054 → t1.1 y = t.1 y) (hc : ∀ y, y = 1 ∨ 4 ≤ y ∧ y ≤ 10 ∨ 14 ≤ y ∧ y < 58 ∨ (∃ i, i < 8 ∧ y = 58 + 16 * i) → t1.1 y = t.1 y) : Sn s1 t1 N1 nb1 n1 k := by
  rcases h with ⟨h1, h2⟩ | ⟨h1, u, no, mo, h2, h3, h4, h5, h6, h7, h8, h9, h10⟩
  · exact Or.inl ⟨ha.trans h1, h21.trans h2⟩
  · have hS := hS u h3 h4 h5
    have key := bk_keep (t1 := fun y => t1.1 (5054 * (1 + k) + y)) hS.2 hrow h6 h7 h8 (fun y hy => ht _ (by omega) (by omega)) h9.1.1
    refine Or.inr ⟨ha.trans h1, u, no, mo, h21.trans h2, h3, by omega, hS.1, by rw [hN.1]; exact key.1, by rw [hN.1]; exact key.2.1, by rw [hN.1]; exact key.2.2, by rw [hN.1, hN.2]; exact IV_all h9 (fun y hy => ht _ (by omega) (by omega)) hn, fun y hy => ?_⟩
    rw [hc y hy, ← h10 y hy]
    refine ht _ (by omega) ?_
    rcases hy with hy | hy | hy | ⟨i, hi, hy⟩ <;> omega
theorem rvw_le {p1 : cP} {H1 : zH} (hs : H.2.1 ≤ H1.2.1) (hp : ∀ b, b < H.2.1 → p.2 b = none → b ≠ a → ¬ (q ≤ b ∧ b < q + 10) → p1.2 b = none ∧ H1.1 b = H.1 b) : ∀ b c, rvw p H a q b = some c → rvw p1 H1 a q b = some c := fun b c hb => by
  unfold rvw at hb ⊢
  by_cases w : b < H.2.1 ∧ p.2 b = none ∧ b ≠ a ∧ ¬ (q ≤ b ∧ b < q + 10)
  · rw [if_pos w] at hb
    have k := hp b w.1 w.2.1 w.2.2.1 w.2.2.2
    rw [if_pos ⟨by omega, k.1, w.2.2.1, w.2.2.2⟩, k.2]
    exact hb
  · rw [if_neg w] at hb; cases hb
/-- behind an operation on the books -/
theorem Wo_op (hX : stb X) (h : Wo X q x a (c + 1) n H t p s N mo nb) {s1 : cT} {t1 : twS} {g1 : zH} (hP : Pw N mo n s t H a s1 t1 g1) (hH : iH p s1 g1 N) : Wo X q x a c (n + 1) (cH p s1 g1) t1 p s1 N mo nb := by
  obtain ⟨⟨w1, w2, w3, w4⟩, ⟨w5, w6, w7, w8, w9⟩, ⟨w10, w11, w12, w13, w14⟩, ⟨w15, w16, w17, w18, w19⟩, ⟨w20, w21⟩, w22, w23⟩ := h
  obtain ⟨p1, p2, ⟨s0, sR, sO⟩, ⟨t0, tS, tA, tV⟩, g0, g2, g3, g4, g5⟩ := hP
  have h2 := w3.2.2.2.2.2
  have cst1 : ∀ y, y = 1 ∨ 4 ≤ y ∧ y ≤ 10 ∨ 14 ≤ y ∧ y < 58 ∨ (∃ i, i < 8 ∧ y = 58 + 16 * i) → t1.1 y = t.1 y := fun y hy => t0 y (Or.inr (by
    rcases hy with hy | hy | hy | hy
    · exact Or.inl ⟨by omega, by omega⟩
    · exact Or.inl ⟨by omega, by omega⟩
    · exact Or.inr (Or.inl ⟨by omega, by omega⟩)
    · exact Or.inr (Or.inr hy)))
  have cst2 : ∀ y, y = 1 ∨ 4 ≤ y ∧ y < 11 ∨ 14 ≤ y ∧ y < 58 → t1.1 y = t.1 y := fun y hy => cst1 y (by omega)
  have raw : ∀ b, b < H.2.1 → p.2 b = none → b ≠ a → ¬ (q ≤ b ∧ b < q + 10) → p.2 b = none ∧ (cH p s1 g1).1 b = H.1 b := fun b hb hn ha _ => ⟨hn, by rw [cH_raw hn]; exact g2 b hb ha⟩
  refine ⟨⟨Kp_g (Kp_t w1 s0 sR) g0, cH_idem p s1 g1, iH_g hH (Nat.le_refl _), w4⟩, ⟨p1, p2, RR_cg w7 w6.1.2.2.2 (fun d hd h22 => sO d (Or.inl (by omega)) h22) cst2, IR_cg w8 w6.1.2.2.2 cst2, fun i m e hi hm he => w9 i m e hi hm (by rw [← sR]; exact he)⟩, ⟨w10, by omega, fun d d1 d2 => by rw [s0]; exact w12 d d1 d2, by omega, ?_⟩, ⟨w15, ⟨g3.1, ?_⟩, w17, by show q + 10 ≤ g1.2.1; omega, w19⟩, ⟨fun k k1 k2 => by rw [s0]; exact w20 k k1 k2, by rw [s0]; exact w21⟩, fun k hk => ?_, ?_⟩
  · have := w14.1; have := w14.2
    exact ⟨show 400 * c ≤ g1.2.2.1 by omega, show 4400 * c ≤ g1.2.2.2 by omega⟩
  · obtain ⟨f, hf⟩ := g3.2
    exact ⟨f, by rw [cH_raw w15]; exact hf⟩
  · refine Sn_keep hk (w22 k hk) ⟨rfl, rfl⟩ (by rw [sR]) (fun u u1 u2 u3 => ⟨u3, fun d d1 d2 => ?_⟩) (fun e he hs => ⟨by rw [s0]; exact hs, ?_⟩) (Nat.le_refl _) (Nat.le_succ n) (congrFun (tA 2 (Or.inl rfl)) k) (fun y y1 y2 => t0 y (Or.inl (by omega))) cst1
    · have k := sO d (by omega) (by omega)
      exact ⟨by rw [s0], k.1, k.2, by rw [sR]⟩
    · exact (sO e (Or.inr (by omega)) (by have : XT = 1000000 := rfl; omega)).2
  · refine hX s s1 _ _ t t1 (fun d d1 _ d3 => ?_) (rvw_le g0 raw) tS (fun i hi => tA i (Or.inr hi)) (fun i hi => cst1 _ (Or.inr (Or.inr (Or.inr ⟨i, hi, rfl⟩)))) w23
    have k := sO d (Or.inl (by omega)) d3
    exact ⟨by rw [s0], k.1, k.2, fun _ => by rw [sR]⟩
theorem Wo_le {k : Nat} (h : Wo X q x a (c + k) n H t p s N mo nb) : Wo X q x a c n H t p s N mo nb := by
  obtain ⟨w1, w2, ⟨w10, w11, w12, w13, w14⟩, w4, w5, w6, w7⟩ := h
  exact ⟨w1, w2, ⟨w10, by omega, w12, by omega, rm_le w14 (by omega) (by omega)⟩, w4, w5, w6, w7⟩
end WO
