/-! what was made of a text till now: books under nb, rules under nb + 200; the twin's block 3 *(T)* -/
set_option maxRecDepth 100000
def dr (t : twS) : Nat → Int64 := fun y => t.1 (15162 + y)
def iPw (s : cT) (w i n : Nat) : Prop := s.1 (w + 30 + i) = (1, 8) ∧ s.2.2.2 (w + 30 + i) 0 = some (w + 40 + i) ∧ s.2.2.2 (w + 30 + i) 1 = some (w + 50 + i) ∧ s.1 (w + 40 + i) = (1, 3) ∧ n ≤ 5 ∧ lst s (w + 50 + i) (w + 60 + i) n (fun j => w + 70 + 8 * i + j) ∧ ∀ j, j < n → s.1 (w + 70 + 8 * i + j) = (1, 9)
def iRw (s : cT) (w c7 c8 c9 np : Nat) (nt : Nat → Nat) : Prop := s.1 (w + 2) = (1, 2) ∧ s.2.2.2 (w + 2) 0 = some (w + 3) ∧ s.2.2.2 (w + 2) 1 = some (w + 5) ∧ s.2.2.2 (w + 2) 2 = some c7 ∧ s.2.2.2 (w + 2) 3 = some c8 ∧ s.2.2.2 (w + 2) 4 = some c9 ∧ s.1 c7 = (1, 3) ∧ s.1 c8 = (1, 3) ∧ s.1 c9 = (1, 3) ∧ np ≤ 4 ∧ lsc s (w + 3) (w + 4) np (fun i => w + 30 + i) ∧ ∀ i, i < np → iPw s w i (nt i)
def plW (s : cT) (T : Nat → Int64) (w i n : Nat) : Prop := T (14 + 11 * i + 0) = (s.2.1 (w + 40 + i) 0).toInt64 ∧ T (14 + 11 * i + 1) = (s.2.1 (w + 70 + 8 * i + 0) 1).toInt64 ∧ s.2.2.1 (w + 70 + 8 * i + 0) 0 = 0 ∧ (1 ≤ n ∧ n ≤ 5) ∧ T (14 + 11 * i + 2) = Int64.ofNat (n - 1) ∧ ∀ j, j + 1 < n → T (14 + 11 * i + (3 + j)) = s.2.2.1 (w + 70 + 8 * i + (j + 1)) 0 ∧ T (14 + 11 * i + (7 + j)) = (s.2.1 (w + 70 + 8 * i + (j + 1)) 1).toInt64
def RRw (s : cT) (w c7 c8 c9 np : Nat) (nt : Nat → Nat) (T : Nat → Int64) : Prop := (T 1 = Int64.ofNat np ∧ T 4 = (s.2.1 c7 0).toInt64 ∧ T 5 = s.2.2.1 (w + 2) 5 ∧ T 6 = (s.2.1 c8 0).toInt64 ∧ T 7 = (s.2.1 c9 0).toInt64 ∧ T 8 = s.2.2.1 (w + 2) 6 ∧ T 9 = (s.2.1 (w + 2) 7).toInt64 ∧ T 10 = (s.2.1 (w + 2) 8).toInt64) ∧ ∀ i, i < np → plW s T w i (nt i)
/-- the books that are read -/
def MkB (nb np nf no : Nat) (s : cT) (T : Nat → Int64) : Prop := (iBk s nb nf no ∧ lsc s (nb + 11) (nb + 12) nf (fun i => nb + 130 + i) ∧ lsc s (nb + 13) (nb + 14) no (fun k => nb + 170 + k)) ∧ RB s nb nf no 0 T ∧ IV T nf no np 0 0 ∧ ((∀ i, nf ≤ i → i < 8 → ∀ x, 3 ≤ x → x < 16 → T (58 + 16 * i + x) = 0) ∧ (∀ f, f < 8 → ∀ g, g < 8 → T (1150 + 8 * f + g) = 0) ∧ ∀ k, k < no → s.2.1 (nb + 170 + k) 1 ≠ -1) ∧ (∀ i, nf ≤ i → i < 8 → (s.1 (nb + 130 + i)).1 = 0 ∧ (s.1 (nb + 140 + i)).1 = 0 ∧ (s.1 (nb + 150 + i)).1 = 0 ∧ (s.1 (nb + 160 + i)).1 = 0) ∧ ∀ k, no ≤ k → k < 16 → (s.1 (nb + 170 + k)).1 = 0
/-- the rules -/
def MkR (nb c7 c8 c9 np : Nat) (nt : Nat → Nat) (s : cT) (T : Nat → Int64) : Prop := iRw s (nb + 200) c7 c8 c9 np nt ∧ RRw s (nb + 200) c7 c8 c9 np nt T ∧ IR T np ∧ (∀ i, np ≤ i → i < 4 → ∀ x, x < 11 → T (14 + 11 * i + x) = 0) ∧ ∀ i, np ≤ i → i < 4 → (s.1 (nb + 200 + 30 + i)).1 = 0 ∧ (s.1 (nb + 200 + 40 + i)).1 = 0 ∧ (s.1 (nb + 200 + 50 + i)).1 = 0 ∧ (s.1 (nb + 200 + 60 + i)).1 = 0 ∧ ∀ j, j < 8 → (s.1 (nb + 200 + 70 + 8 * i + j)).1 = 0
/-- the names -/
def MkN (nb nf : Nat) (na : Nat → Nat) (nm : Nat → List Nat) (s : cT) (v : Nat → Option zC) (T : Nat → Int64) : Prop := Nms s v T (nb + 202) (nb + 205) (nb + 206) nf na nm ∧ lsc s (nb + 205) (nb + 206) nf (fun i => XT + na i)
def Mk (nb z c7 c8 c9 np nf no cnt : Nat) (nt na : Nat → Nat) (nm : Nat → List Nat) (s : cT) (v : Nat → Option zC) (T : Nat → Int64) : Prop := MkB nb np nf no s T ∧ MkR nb c7 c8 c9 np nt s T ∧ MkN nb nf na nm s v T ∧ s.2.1 (nb + 202) 9 = Int32.ofNat cnt ∧ (c7 = nb + 207 ∨ nb + 500 ≤ c7 ∧ c7 < z) ∧ (c8 = nb + 208 ∨ nb + 500 ≤ c8 ∧ c8 < z) ∧ (c9 = nb + 209 ∨ nb + 500 ≤ c9 ∧ c9 < z) ∧ c7 ≠ c8 ∧ c7 ≠ c9 ∧ c8 ≠ c9
section CG
variable {nb z c7 c8 c9 np nf no cnt : Nat} {nt na : Nat → Nat} {nm : Nat → List Nat} {s s1 : cT} {v v1 : Nat → Option zC} {T T1 : Nat → Int64}
theorem IV_0 {np1 : Nat} (h : IV T nf no np 0 0) (hn : np ≤ np1) (h4 : np1 ≤ 4) (ht : ∀ y, y < 1214 → ¬ (y < 58) → T1 y = T y) : IV T1 nf no np1 0 0 := by
  obtain ⟨⟨b1, b2, b3, b4⟩, hF, hO, hC, hR, hD⟩ := h
  refine ⟨⟨b1, b2, b3, h4⟩, fun j hj => ?_, fun k hk => ?_, fun c hc => ?_, fun f hf m hm => absurd hm (Nat.not_lt_zero _), fun f hf g hg hz => ?_⟩
  · have x := frI_cg (hF j hj) (t1 := T1) (fun x hx => ht _ (by omega) (by omega))
    exact ⟨⟨x.1.1, by have := x.1.2; omega⟩, x.2⟩
  · rw [ht _ (by omega) (by omega), ht _ (by omega) (by omega)]; exact hO k hk
  · rw [ht _ (by omega) (by omega)]; exact hC c hc
  · rw [ht _ (by omega) (by omega)]; exact hD f hf g hg hz
theorem MkB_cg {np1 : Nat} (h : MkB nb np nf no s T) (hn : np ≤ np1) (h4 : np1 ≤ 4) (hS : ∀ d, nb + 10 ≤ d → d < nb + 200 → s1.1 d = s.1 d ∧ s1.2.1 d = s.2.1 d ∧ s1.2.2.1 d = s.2.2.1 d ∧ s1.2.2.2 d = s.2.2.2 d) (ht : ∀ y, y < 1214 → ¬ (3 < y ∧ y < 11 ∨ y = 1 ∨ 13 < y ∧ y < 58) → T1 y = T y) : MkB nb np1 nf no s1 T1 := by
  obtain ⟨⟨a1, a2, a3⟩, hB, hV, ⟨z1, z2, z3⟩, f1, f2⟩ := h
  have h8 := a1.2.2.2.2.2.2.2.1
  have h16 := a1.2.2.2.2.2.2.2.2.1
  have l2 : lsc s1 (nb + 11) (nb + 12) nf (fun i => nb + 130 + i) := lsc_cg a2 (by have k := hS (nb + 11) (by omega) (by omega); exact ⟨k.1, k.2.1, k.2.2.2⟩) (by have k := hS (nb + 12) (by omega) (by omega); exact ⟨k.1, k.2.2.2⟩)
  have l3 : lsc s1 (nb + 13) (nb + 14) no (fun k => nb + 170 + k) := lsc_cg a3 (by have k := hS (nb + 13) (by omega) (by omega); exact ⟨k.1, k.2.1, k.2.2.2⟩) (by have k := hS (nb + 14) (by omega) (by omega); exact ⟨k.1, k.2.2.2⟩)
  refine ⟨⟨iBk_cg a1 (fun d hd => ?_) h8 h16 l2.1 l3.1 (fun i hi => iFr_cg (a1.2.2.2.2.2.2.2.2.2.2.2.2.1 i hi) (fun d hd => ?_)) (fun k hk => ?_), l2, l3⟩, ?_, IV_0 hV hn h4 (fun y y1 y2 => ht y y1 (by omega)), ⟨fun i i1 i2 x x1 x2 => ?_, fun f hf g hg => ?_, fun k hk => by rw [(hS _ (by omega) (by omega)).2.1]; exact z3 k hk⟩, fun i i1 i2 => ?_, fun k k1 k2 => ?_⟩
  · have k := hS d (by omega) (by omega); exact ⟨k.1, k.2.2.2⟩
  · have k := hS d (by omega) (by omega); exact ⟨k.1, k.2.2.2⟩
  · rw [(hS _ (by omega) (by omega)).1]; exact a1.2.2.2.2.2.2.2.2.2.2.2.2.2.1 k hk
  · obtain ⟨⟨b1, b2, b3, b4⟩, hF, hO, hC, hSp, hD, hRe, hIv⟩ := hB
    refine ⟨⟨by rw [ht _ (by omega) (by omega)]; exact b1, by rw [(hS _ (by omega) (by omega)).2.1]; exact b2, by rw [ht _ (by omega) (by omega)]; exact b3, by rw [ht _ (by omega) (by omega)]; exact b4⟩, fun i hi => frR_cg (hF i hi) ?_ ?_ (fun x hx => ht _ (by omega) (by omega)), fun k hk => ouR_cg (hO k hk) ?_ (fun x hx => ht _ (by omega) (by omega)), fun c hc => ?_, fun k hk => ?_, fun f hf g hg => ?_, fun f hf m hm => absurd hm (Nat.not_lt_zero _), fun f hf m hm => absurd hm (Nat.not_lt_zero _)⟩
    · have k := hS (nb + 130 + i) (by omega) (by omega); exact ⟨k.2.1, k.2.2.1⟩
    · have k := hS (nb + 140 + i) (by omega) (by omega); exact ⟨k.2.1, k.2.2.1⟩
    · have k' := hS (nb + 170 + k) (by omega) (by omega); exact ⟨k'.2.1, k'.2.2.1⟩
    · rw [ht _ (by omega) (by omega), (hS _ (by omega) (by omega)).2.1]; exact hC c hc
    · rw [ht _ (by omega) (by omega), (hS _ (by omega) (by omega)).2.2.1]; exact hSp k hk
    · rw [ht _ (by omega) (by omega), (hS _ (by omega) (by omega)).2.2.1]; exact hD f hf g hg
  · rw [ht _ (by omega) (by omega)]; exact z1 i i1 i2 x x1 x2
  · rw [ht _ (by omega) (by omega)]; exact z2 f hf g hg
  · rw [(hS _ (by omega) (by omega)).1, (hS _ (by omega) (by omega)).1, (hS _ (by omega) (by omega)).1, (hS _ (by omega) (by omega)).1]; exact f1 i i1 i2
  · rw [(hS _ (by omega) (by omega)).1]; exact f2 k k1 k2
theorem iPw_cg {w i n : Nat} (h : iPw s w i n) (hS : ∀ d, d = w + 30 + i ∨ d = w + 40 + i ∨ d = w + 50 + i ∨ d = w + 60 + i ∨ (w + 70 + 8 * i ≤ d ∧ d < w + 78 + 8 * i) → s1.1 d = s.1 d ∧ s1.2.1 d = s.2.1 d ∧ s1.2.2.1 d = s.2.2.1 d ∧ s1.2.2.2 d = s.2.2.2 d) : iPw s1 w i n := by
  obtain ⟨a1, a2, a3, a4, a5, a6, a7⟩ := h
  have k30 := hS (w + 30 + i) (Or.inl rfl)
  have k40 := hS (w + 40 + i) (Or.inr (Or.inl rfl))
  have k50 := hS (w + 50 + i) (by omega)
  have k60 := hS (w + 60 + i) (by omega)
  exact ⟨k30.1.trans a1, (congrFun k30.2.2.2 0).trans a2, (congrFun k30.2.2.2 1).trans a3, k40.1.trans a4, a5, lst_cg a6 k50.1 k50.2.1 k50.2.2.2 k60.1 k60.2.2.2, fun j hj => (hS _ (by omega)).1.trans (a7 j hj)⟩
theorem plW_cg {w i n : Nat} (h : plW s T w i n) (hS : ∀ d, d = w + 40 + i ∨ (w + 70 + 8 * i ≤ d ∧ d < w + 78 + 8 * i) → s1.2.1 d = s.2.1 d ∧ s1.2.2.1 d = s.2.2.1 d) (ht : ∀ x, x < 11 → T1 (14 + 11 * i + x) = T (14 + 11 * i + x)) : plW s1 T1 w i n := by
  obtain ⟨a1, a2, a3, a4, a5, a6⟩ := h
  have k40 := hS (w + 40 + i) (Or.inl rfl)
  have k70 := hS (w + 70 + 8 * i + 0) (by omega)
  refine ⟨by rw [ht _ (by omega), k40.1]; exact a1, by rw [ht _ (by omega), k70.1]; exact a2, by rw [k70.2]; exact a3, a4, by rw [ht _ (by omega)]; exact a5, fun j hj => ?_⟩
  have k := hS (w + 70 + 8 * i + (j + 1)) (by omega)
  rw [ht _ (by omega), ht _ (by omega), k.1, k.2]
  exact a6 j hj
theorem MkR_cg (h : MkR nb c7 c8 c9 np nt s T) (hS : ∀ d, nb + 202 ≤ d ∧ d < nb + 400 ∧ d ≠ nb + 205 ∧ d ≠ nb + 206 ∨ d = c7 ∨ d = c8 ∨ d = c9 → s1.1 d = s.1 d ∧ (d ≠ nb + 202 → s1.2.1 d = s.2.1 d) ∧ s1.2.2.1 d = s.2.2.1 d ∧ s1.2.2.2 d = s.2.2.2 d) (h7 : s1.2.1 (nb + 202) 7 = s.2.1 (nb + 202) 7) (h8 : s1.2.1 (nb + 202) 8 = s.2.1 (nb + 202) 8) (hc : c7 ≠ nb + 202 ∧ c8 ≠ nb + 202 ∧ c9 ≠ nb + 202) (ht : ∀ y, 0 < y → y < 58 → y ≠ 2 → y ≠ 3 → T1 y = T y) : MkR nb c7 c8 c9 np nt s1 T1 := by
  obtain ⟨⟨a1, a2, a3, a4, a5, a6, a7, a8, a9, a10, a11, a12⟩, ⟨⟨b1, b2, b3, b4, b5, b6, b7, b8⟩, b9⟩, ⟨i1, i2, i3, i4, i5, i6, i7, i8⟩, hz, hf⟩ := h
  have k2 := hS (nb + 202) (by omega)
  have k3 := hS (nb + 203) (by omega)
  have k4 := hS (nb + 204) (by omega)
  have kc7 := hS c7 (by omega)
  have kc8 := hS c8 (by omega)
  have kc9 := hS c9 (by omega)
  have R2 := k2.2.2.2
  refine ⟨⟨k2.1.trans a1, (congrFun R2 0).trans a2, (congrFun R2 1).trans a3, (congrFun R2 2).trans a4, (congrFun R2 3).trans a5, (congrFun R2 4).trans a6, kc7.1.trans a7, kc8.1.trans a8, kc9.1.trans a9, a10, lsc_cg a11 ⟨k3.1, k3.2.1 (by omega), k3.2.2.2⟩ ⟨k4.1, k4.2.2.2⟩, fun i hi => iPw_cg (a12 i hi) (fun d hd => by have k := hS d (by omega); exact ⟨k.1, k.2.1 (by omega), k.2.2⟩)⟩, ⟨⟨?_, ?_, ?_, ?_, ?_, ?_, ?_, ?_⟩, fun i hi => plW_cg (b9 i hi) (fun d hd => by have k := hS d (by omega); exact ⟨k.2.1 (by omega), k.2.2.1⟩) (fun x hx => ht _ (by omega) (by omega) (by omega) (by omega))⟩, ⟨?_, ?_, ?_, ?_, ?_, ?_, ?_, fun i hi => ⟨?_, fun j hj => ?_⟩⟩, fun i j1 j2 x hx => ?_, fun i j1 j2 => ⟨?_, ?_, ?_, ?_, fun j hj => ?_⟩⟩
  · rw [ht _ (by decide) (by decide) (by decide) (by decide)]; exact b1
  · rw [ht _ (by decide) (by decide) (by decide) (by decide), kc7.2.1 hc.1]; exact b2
  · rw [ht _ (by decide) (by decide) (by decide) (by decide)]; exact b3.trans (congrFun k2.2.2.1 5).symm
  · rw [ht _ (by decide) (by decide) (by decide) (by decide), kc8.2.1 hc.2.1]; exact b4
  · rw [ht _ (by decide) (by decide) (by decide) (by decide), kc9.2.1 hc.2.2]; exact b5
  · rw [ht _ (by decide) (by decide) (by decide) (by decide)]; exact b6.trans (congrFun k2.2.2.1 6).symm
  · rw [ht _ (by decide) (by decide) (by decide) (by decide)]; exact b7.trans (congrArg _ h7.symm)
  · rw [ht _ (by decide) (by decide) (by decide) (by decide)]; exact b8.trans (congrArg _ h8.symm)
  · rw [ht _ (by decide) (by decide) (by decide) (by decide)]; exact i1
  · rw [ht _ (by decide) (by decide) (by decide) (by decide)]; exact i2
  · rw [ht _ (by decide) (by decide) (by decide) (by decide)]; exact i3
  · rw [ht _ (by decide) (by decide) (by decide) (by decide)]; exact i4
  · rw [ht _ (by decide) (by decide) (by decide) (by decide)]; exact i5
  · rw [ht _ (by decide) (by decide) (by decide) (by decide)]; exact i6
  · rw [ht _ (by decide) (by decide) (by decide) (by decide)]; exact i7
  · rw [ht _ (by omega) (by omega) (by omega) (by omega)]; exact (i8 i hi).1
  · rw [ht _ (by omega) (by omega) (by omega) (by omega)]; exact (i8 i hi).2 j hj
  · rw [ht _ (by omega) (by omega) (by omega) (by omega)]; exact hz i j1 j2 x hx
  · rw [(hS _ (by omega)).1]; exact (hf i j1 j2).1
  · rw [(hS _ (by omega)).1]; exact (hf i j1 j2).2.1
  · rw [(hS _ (by omega)).1]; exact (hf i j1 j2).2.2.1
  · rw [(hS _ (by omega)).1]; exact (hf i j1 j2).2.2.2.1
  · rw [(hS _ (by omega)).1]; exact (hf i j1 j2).2.2.2.2 j hj
theorem MkN_cg (h : MkN nb nf na nm s v T) (h2 : s1.1 (nb + 202) = s.1 (nb + 202) ∧ s1.2.2.2 (nb + 202) 1 = s.2.2.2 (nb + 202) 1) (h5 : s1.1 (nb + 205) = s.1 (nb + 205) ∧ s1.2.1 (nb + 205) = s.2.1 (nb + 205) ∧ s1.2.2.2 (nb + 205) = s.2.2.2 (nb + 205)) (h6 : s1.1 (nb + 206) = s.1 (nb + 206) ∧ s1.2.2.2 (nb + 206) = s.2.2.2 (nb + 206)) (hv : svw v v1) (ht : T1 2 = T 2) (hn : ∀ i, i < nf → T1 (58 + 16 * i + 0) = T (58 + 16 * i + 0)) : MkN nb nf na nm s1 v1 T1 := by
  obtain ⟨⟨⟨a1, a2, a3, a4⟩, a5, a6⟩, a7⟩ := h
  have l := lsc_cg a7 h5 h6
  exact ⟨⟨⟨h2.1.trans a1, h2.2.trans a2, l.1, a4⟩, fun i hi => ⟨(a5 i hi).1, hv.2 _ _ (a5 i hi).2.1, (hn i hi).trans (a5 i hi).2.2⟩, ht.trans a6⟩, l⟩
end CG
section KQ
variable {nb z c7 c8 c9 np nf no cnt : Nat} {nt na : Nat → Nat} {nm : Nat → List Nat} {p : cP} {s : cT} {g : zH} {t : twS} {p1 : cP} {s1 : cT} {g1 : zH} {t1 : twS}
/-- a step of reading keeps what was made -/
theorem Mk_Kq (h : Mk nb z c7 c8 c9 np nf no cnt nt na nm s (rv0 p g) (dr t)) (hz : nb + 500 ≤ z) (hk : Kq nb z p s g t p1 s1 g1 t1) {z1 : Nat} (hz1 : z ≤ z1) : Mk nb z1 c7 c8 c9 np nf no cnt nt na nm s1 (rv0 p1 g1) (dr t1) := by
  obtain ⟨hB, hR, hN, hc, e7, e8, e9, e10⟩ := h
  obtain ⟨k1, k2, k3, k4, k5, k6⟩ := hk
  have hT : ∀ y, dr t1 y = dr t y := fun y => by unfold dr; rw [k4]
  have S : ∀ d, d ≠ nb + 400 → d < z → s1.1 d = s.1 d ∧ s1.2.1 d = s.2.1 d ∧ s1.2.2.1 d = s.2.2.1 d ∧ s1.2.2.2 d = s.2.2.2 d := fun d d1 d2 => (k1 d d1 d2).2
  have s2 := S (nb + 202) (by omega) (by omega)
  have s5 := S (nb + 205) (by omega) (by omega)
  have s6 := S (nb + 206) (by omega) (by omega)
  exact ⟨MkB_cg hB (Nat.le_refl _) hB.2.2.1.1.2.2.2 (fun d d1 d2 => S d (by omega) (by omega)) (fun y _ _ => hT y), MkR_cg hR (fun d hd => by have k := S d (by omega) (by omega); exact ⟨k.1, fun _ => k.2.1, k.2.2⟩) (congrFun s2.2.1 7) (congrFun s2.2.1 8) (by omega) (fun y _ _ _ _ => hT y), MkN_cg hN ⟨s2.1, congrFun s2.2.2.2 1⟩ ⟨s5.1, s5.2.1, s5.2.2.2⟩ ⟨s6.1, s6.2.2.2⟩ k3 (hT 2) (fun i _ => hT _), (congrFun s2.2.1 9).trans hc, by omega, by omega, by omega, e10⟩
end KQ
