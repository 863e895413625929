/-! plan: tiers; the finished plan among the rules -/
set_option maxRecDepth 100000
section KT
variable {E : zE} {p : cP} {s : cT} {g : zH} {w i n : Nat}
theorem K_tadd {α : Type} (hK : Kp p s g) (hr : rm g 1 200) (hw : w + 200 ≤ XT) (hi : i < 4) (hn : n < 8) (hT : s.1 (w + 70 + 8 * i + n) = (1, 9)) (hl : lsc s (w + 50 + i) (w + 60 + i) n (fun j => w + 70 + 8 * i + j)) (hs : ∀ j, j < n → s.1 (w + 70 + 8 * i + j) = (1, 9)) (thr : Int64) (rate : Int32) (F : zH → Option α) : ∃ p1 s1 g1, (bnd2 (f_X10_init E (p.1 (w + 70 + 8 * i + n)) thr rate (cH p s g)) fun x h22 => (cko h22 (p.1 (w + 50 + i)) 15).bind fun _ => bnd2 (f_J2_add E (p.1 (w + 50 + i)) (p.1 (w + 70 + 8 * i + n)) h22) fun y h26 => F h26) = F (cH p1 s1 g1) ∧ Tr p g p1 s1 g1 1 200 ∧ lsc s1 (w + 50 + i) (w + 60 + i) (n + 1) (fun j => w + 70 + 8 * i + j) ∧ s1.2.2.1 (w + 70 + 8 * i + n) 0 = thr ∧ s1.2.1 (w + 70 + 8 * i + n) 1 = rate ∧ (∀ e, e ≠ w + 70 + 8 * i + n → e ≠ w + 50 + i → e ≠ w + 60 + i → p1.1 e = p.1 e ∧ s1.1 e = s.1 e ∧ s1.2.1 e = s.2.1 e ∧ s1.2.2.1 e = s.2.2.1 e ∧ s1.2.2.2 e = s.2.2.2 e) ∧ ∀ e, e ≠ w + 60 + i → p1.1 e = p.1 e ∧ s1.1 e = s.1 e ∧ s1.2.2.2 e = s.2.2.2 e := by
  obtain ⟨e1, T1⟩ := Tr_L (Tr_0 hK) (w + 70 + 8 * i + n) 9 0 (v := thr) hT rfl rfl
  obtain ⟨e2, T2⟩ := Tr_I T1 (w + 70 + 8 * i + n) 9 1 (v := rate) hT rfl rfl
  have l2 : lsc (uI (uL s (w + 70 + 8 * i + n) 0 thr) (w + 70 + 8 * i + n) 1 rate) (w + 50 + i) (w + 60 + i) n (fun j => w + 70 + 8 * i + j) := lsc_cg hl ⟨rfl, (uI_row _ (by omega) _ _), rfl⟩ ⟨rfl, rfl⟩
  obtain ⟨p3, s3, g3, e3, A⟩ := J_add E T2.1 (c := w + 50 + i) (r := w + 60 + i) (n := n) (e := w + 70 + 8 * i + n) l2 (by omega) (by omega) (by omega) (ob_sh T2.1 hT) (Or.inl (by show (s.1 (w + 70 + 8 * i + n)).1 ≠ 0; rw [hT]; exact Nat.succ_ne_zero _)) (fun j hj => ob_sh T2.1 (hs j hj)) (Tr_rm T2 hr (by decide) (by decide))
  have T3 := Tr_ad T2 A
  obtain ⟨A1, A2, A3, A4, A5, A6⟩ := A
  refine ⟨p3, s3, g3, ?_, Tr_w T3 (by decide) (by decide), lsc_el A2 (fun k hk => ?_), ?_, ?_, fun e h1 h2 h3 => ⟨(A3 e h3).1, (A3 e h3).2.1, ?_, ?_, (A3 e h3).2.2⟩, fun e h3 => ⟨(A3 e h3).1, (A3 e h3).2.1, (A3 e h3).2.2⟩⟩
  · unfold f_X10_init f_X10_init_b0 f_J17_init_X10 f_J17_init_X10_b0
    rw [b2_some, e1, b1_some, e2, b1_some, b2_some, c_cko T2.1.1 l2.1.1, b1_some, e3, b2_some]
  · by_cases q : k = n
    · rw [if_pos q, q]
    · rw [if_neg q]
  · rw [A5, uI_L, uL_s]
  · rw [A4 _ (by omega), uI_s]
  · rw [A4 e h2, uI_row _ h1]; rfl
  · rw [A5, uI_L, uL_row _ h1]
end KT
section CG
variable {nb z c7 c8 c9 np nf no cnt : Nat} {nt na : Nat → Nat} {nm : Nat → List Nat} {s s1 : cT} {v v1 : Nat → Option zC} {T T1 : Nat → Int64}
theorem Mk_plan (h : Mk nb z c7 c8 c9 np nf no cnt nt na nm s v T) (hz : nb + 500 ≤ z) {n : Nat} (hnp : np < 4) (hl : lsc s1 (nb + 200 + 3) (nb + 200 + 4) (np + 1) (fun i => nb + 200 + 30 + i)) (hP : iPw s1 (nb + 200) np n) (hW : plW s1 T1 (nb + 200) np n) (hth : ∀ j, j < 4 → btw (T1 (14 + 11 * np + (3 + j))) 0 9999900) (hf : ∀ e, e < nb + 400 ∨ nb + 500 ≤ e ∧ e < z → e ≠ nb + 203 → e ≠ nb + 204 → e ≠ nb + 200 + 30 + np → e ≠ nb + 200 + 40 + np → e ≠ nb + 200 + 50 + np → e ≠ nb + 200 + 60 + np → (∀ j, j < 8 → e ≠ nb + 200 + 70 + 8 * np + j) → s1.1 e = s.1 e ∧ s1.2.1 e = s.2.1 e ∧ s1.2.2.1 e = s.2.2.1 e ∧ s1.2.2.2 e = s.2.2.2 e) (hv : svw v v1) (t1 : T1 1 = Int64.ofNat (np + 1)) (hT : ∀ y, y ≠ 1 → y < 14 + 11 * np ∨ 14 + 11 * np + 11 ≤ y → T1 y = T y) : Mk nb z c7 c8 c9 (np + 1) nf no cnt (fun i => if i = np then n else nt i) na nm s1 v1 T1 := by
  obtain ⟨hB, hR, hN, hcn, k7, k8, k9, k10⟩ := h
  have n7 : c7 ≠ nb + 202 ∧ (c7 = nb + 207 ∨ nb + 500 ≤ c7 ∧ c7 < z) := by clear k8 k9; omega
  have n8 : c8 ≠ nb + 202 ∧ (c8 = nb + 208 ∨ nb + 500 ≤ c8 ∧ c8 < z) := by clear k7 k9; omega
  have n9 : c9 ≠ nb + 202 ∧ (c9 = nb + 209 ∨ nb + 500 ≤ c9 ∧ c9 < z) := by clear k7 k8; omega
  have f2 := hf (nb + 202) (by omega) (by omega) (by omega) (by omega) (by omega) (by omega) (by omega) (fun j hj => by omega)
  have f5 := hf (nb + 205) (by omega) (by omega) (by omega) (by omega) (by omega) (by omega) (by omega) (fun j hj => by omega)
  have f6 := hf (nb + 206) (by omega) (by omega) (by omega) (by omega) (by omega) (by omega) (by omega) (fun j hj => by omega)
  have g7 := hf c7 (by omega) (by omega) (by omega) (by omega) (by omega) (by omega) (by omega) (fun j hj => by omega)
  have g8 := hf c8 (by omega) (by omega) (by omega) (by omega) (by omega) (by omega) (by omega) (fun j hj => by omega)
  have g9 := hf c9 (by omega) (by omega) (by omega) (by omega) (by omega) (by omega) (by omega) (fun j hj => by omega)
  refine ⟨MkB_cg hB (Nat.le_succ np) (by omega) (fun d d1 d2 => hf d (by omega) (by omega) (by omega) (by omega) (by omega) (by omega) (by omega) (fun j hj => by omega)) (fun y y1 y2 => hT y (by omega) (by omega)), ?_, MkN_cg hN ⟨f2.1, congrFun f2.2.2.2 1⟩ ⟨f5.1, f5.2.1, f5.2.2.2⟩ ⟨f6.1, f6.2.2.2⟩ hv (hT 2 (by omega) (by omega)) (fun i hi => hT _ (by omega) (by omega)), (congrFun f2.2.1 9).trans hcn, k7, k8, k9, k10⟩
  clear k7 k8 k9
  obtain ⟨⟨a1, a2, a3, a4, a5, a6, a7, a8, a9, a10, a11, a12⟩, ⟨⟨b1, b2, b3, b4, b5, b6, b7, b8⟩, b9⟩, ⟨i1, i2, i3, i4, i5, i6, i7, i8⟩, hzz, hfr⟩ := hR
  have R2 := f2.2.2.2
  have old : ∀ i, i < np → ∀ d, d = nb + 200 + 30 + i ∨ d = nb + 200 + 40 + i ∨ d = nb + 200 + 50 + i ∨ d = nb + 200 + 60 + i ∨ (nb + 200 + 70 + 8 * i ≤ d ∧ d < nb + 200 + 78 + 8 * i) → s1.1 d = s.1 d ∧ s1.2.1 d = s.2.1 d ∧ s1.2.2.1 d = s.2.2.1 d ∧ s1.2.2.2 d = s.2.2.2 d := fun i hi d hd => hf d (by omega) (by omega) (by omega) (by omega) (by omega) (by omega) (by omega) (fun j hj => by omega)
  refine ⟨⟨f2.1.trans a1, (congrFun R2 0).trans a2, (congrFun R2 1).trans a3, (congrFun R2 2).trans a4, (congrFun R2 3).trans a5, (congrFun R2 4).trans a6, g7.1.trans a7, g8.1.trans a8, g9.1.trans a9, by omega, hl, fun i hi => ?_⟩, ⟨⟨t1, ?_, ?_, ?_, ?_, ?_, ?_, ?_⟩, fun i hi => ?_⟩, ⟨?_, ?_, ?_, ?_, ?_, ?_, ?_, fun i hi => ⟨?_, fun j hj => ?_⟩⟩, fun i j1 j2 x hx => ?_, fun i j1 j2 => ?_⟩
  · by_cases q : i = np
    · have e : (fun i => if i = np then n else nt i) i = n := if_pos q
      rw [e, q]; exact hP
    · have e : (fun i => if i = np then n else nt i) i = nt i := if_neg q
      rw [e]
      exact iPw_cg (a12 i (by omega)) (old i (by omega))
  · rw [hT _ (by decide) (by omega), g7.2.1]; exact b2
  · rw [hT _ (by decide) (by omega)]; exact b3.trans (congrFun f2.2.2.1 5).symm
  · rw [hT _ (by decide) (by omega), g8.2.1]; exact b4
  · rw [hT _ (by decide) (by omega), g9.2.1]; exact b5
  · rw [hT _ (by decide) (by omega)]; exact b6.trans (congrFun f2.2.2.1 6).symm
  · rw [hT _ (by decide) (by omega), show s1.2.1 (nb + 200 + 2) = s.2.1 (nb + 200 + 2) from f2.2.1]; exact b7
  · rw [hT _ (by decide) (by omega), show s1.2.1 (nb + 200 + 2) = s.2.1 (nb + 200 + 2) from f2.2.1]; exact b8
  · by_cases q : i = np
    · have e : (fun i => if i = np then n else nt i) i = n := if_pos q
      rw [e, q]; exact hW
    · have e : (fun i => if i = np then n else nt i) i = nt i := if_neg q
      rw [e]
      exact plW_cg (b9 i (by omega)) (fun d hd => by have k := old i (by omega) d (by omega); exact ⟨k.2.1, k.2.2.1⟩) (fun x hx => hT _ (by omega) (by omega))
  · rw [hT _ (by decide) (by omega)]; exact i1
  · rw [hT _ (by decide) (by omega)]; exact i2
  · rw [hT _ (by decide) (by omega)]; exact i3
  · rw [hT _ (by decide) (by omega)]; exact i4
  · rw [hT _ (by decide) (by omega)]; exact i5
  · rw [hT _ (by decide) (by omega)]; exact i6
  · rw [hT _ (by decide) (by omega)]; exact i7
  · by_cases q : i = np
    · rw [q, hW.2.2.2.2.1]
      have := hW.2.2.2.1
      unfold btw
      rw [Int64.toInt_ofNat_of_lt (by omega)]
      omega
    · rw [hT _ (by omega) (by omega)]; exact (i8 i (by omega)).1
  · by_cases q : i = np
    · rw [q]; exact hth j hj
    · rw [hT _ (by omega) (by omega)]; exact (i8 i (by omega)).2 j hj
  · rw [hT _ (by omega) (by omega)]; exact hzz i (by omega) j2 x hx
  · have k := hfr i (by omega) j2
    have fr : ∀ d, d = nb + 200 + 30 + i ∨ d = nb + 200 + 40 + i ∨ d = nb + 200 + 50 + i ∨ d = nb + 200 + 60 + i ∨ (nb + 200 + 70 + 8 * i ≤ d ∧ d < nb + 200 + 78 + 8 * i) → s1.1 d = s.1 d := fun d hd => (hf d (by omega) (by omega) (by omega) (by omega) (by omega) (by omega) (by omega) (fun j hj => by omega)).1
    refine ⟨?_, ?_, ?_, ?_, fun j hj => ?_⟩
    · rw [fr _ (Or.inl rfl)]; exact k.1
    · rw [fr _ (Or.inr (Or.inl rfl))]; exact k.2.1
    · rw [fr _ (by omega)]; exact k.2.2.1
    · rw [fr _ (by omega)]; exact k.2.2.2.1
    · rw [fr _ (by omega)]; exact k.2.2.2.2 j hj
end CG
