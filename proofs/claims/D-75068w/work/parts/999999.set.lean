/-! settings -/
set_option maxRecDepth 100000
section CG
variable {nb z c7 c8 c9 np nf no cnt : Nat} {nt na : Nat → Nat} {nm : Nat → List Nat} {s s1 : cT} {v v1 : Nat → Option zC} {T T1 : Nat → Int64}
theorem MkR_set (h : MkR nb c7 c8 c9 np nt s T) {e7 e8 e9 : Nat} (hS : ∀ d, nb + 202 < d → d < nb + 400 → s1.1 d = s.1 d ∧ s1.2.1 d = s.2.1 d ∧ s1.2.2.1 d = s.2.2.1 d ∧ s1.2.2.2 d = s.2.2.2 d) (h2 : s1.1 (nb + 202) = s.1 (nb + 202)) (r0 : s1.2.2.2 (nb + 202) 0 = s.2.2.2 (nb + 202) 0) (r1 : s1.2.2.2 (nb + 202) 1 = s.2.2.2 (nb + 202) 1) (r2 : s1.2.2.2 (nb + 202) 2 = some e7) (r3 : s1.2.2.2 (nb + 202) 3 = some e8) (r4 : s1.2.2.2 (nb + 202) 4 = some e9) (q7 : s1.1 e7 = (1, 3)) (q8 : s1.1 e8 = (1, 3)) (q9 : s1.1 e9 = (1, 3)) (ht : ∀ y, y = 1 ∨ 14 ≤ y ∧ y < 58 → T1 y = T y) (t4 : T1 4 = (s1.2.1 e7 0).toInt64) (t5 : T1 5 = s1.2.2.1 (nb + 202) 5) (t6 : T1 6 = (s1.2.1 e8 0).toInt64) (t7 : T1 7 = (s1.2.1 e9 0).toInt64) (t8 : T1 8 = s1.2.2.1 (nb + 202) 6) (t9 : T1 9 = (s1.2.1 (nb + 202) 7).toInt64) (t10 : T1 10 = (s1.2.1 (nb + 202) 8).toInt64) (b4 : btw (T1 4) 0 5000) (b5 : btw (T1 5) 0 999900) (b6 : btw (T1 6) 0 500) (b7 : btw (T1 7) 0 2000) (b8 : btw (T1 8) 0 999900) (b9 : btw (T1 9) 0 12) (b10 : btw (T1 10) 0 999) : MkR nb e7 e8 e9 np nt s1 T1 := by
  obtain ⟨⟨a1, a2, a3, a4, a5, a6, a7, a8, a9, a10, a11, a12⟩, ⟨⟨c1, -⟩, c9⟩, ⟨-, -, -, -, -, -, -, i8⟩, hz, hf⟩ := h
  have k3 := hS (nb + 203) (by omega) (by omega)
  have k4 := hS (nb + 204) (by omega) (by omega)
  refine ⟨⟨h2.trans a1, r0.trans a2, r1.trans a3, r2, r3, r4, q7, q8, q9, a10, lsc_cg a11 ⟨k3.1, k3.2.1, k3.2.2.2⟩ ⟨k4.1, k4.2.2.2⟩, fun i hi => iPw_cg (a12 i hi) (fun d hd => hS d (by omega) (by omega))⟩, ⟨⟨(ht 1 (Or.inl rfl)).trans c1, t4, t5, t6, t7, t8, t9, t10⟩, fun i hi => plW_cg (c9 i hi) (fun d hd => by have k := hS d (by omega) (by omega); exact ⟨k.2.1, k.2.2.1⟩) (fun x hx => ht _ (by omega))⟩, ⟨b4, b5, b6, b7, b8, b9, b10, fun i hi => ⟨?_, fun j hj => ?_⟩⟩, fun i j1 j2 x hx => ?_, fun i j1 j2 => ⟨?_, ?_, ?_, ?_, fun j hj => ?_⟩⟩
  · rw [ht _ (by omega)]; exact (i8 i hi).1
  · rw [ht _ (by omega)]; exact (i8 i hi).2 j hj
  · rw [ht _ (by omega)]; exact hz i j1 j2 x hx
  · rw [(hS _ (by omega) (by omega)).1]; exact (hf i j1 j2).1
  · rw [(hS _ (by omega) (by omega)).1]; exact (hf i j1 j2).2.1
  · rw [(hS _ (by omega) (by omega)).1]; exact (hf i j1 j2).2.2.1
  · rw [(hS _ (by omega) (by omega)).1]; exact (hf i j1 j2).2.2.2.1
  · rw [(hS _ (by omega) (by omega)).1]; exact (hf i j1 j2).2.2.2.2 j hj
theorem btw_n {n : Nat} {b : Int} (h : (n : Int) ≤ b) (hb : n < 1000000000) : btw (Int64.ofNat n) 0 b := by
  unfold btw
  rw [Int64.toInt_ofNat_of_lt (by omega)]
  omega
/-- a rate is laid into the rules -/
theorem Mk_rate (h : Mk nb z c7 c8 c9 np nf no cnt nt na nm s v T) (hnb : 500 ≤ z ∧ nb + 500 ≤ z) {j y n z1 : Nat} {hi : Int} (hj : j = 2 ∧ y = 4 ∧ hi = 5000 ∨ j = 3 ∧ y = 6 ∧ hi = 500 ∨ j = 4 ∧ y = 7 ∧ hi = 2000) (hn : (n : Int) ≤ hi) (hz1 : z < z1) (hc : s.1 z = (1, 3)) : ∃ e7 e8 e9, Mk nb z1 e7 e8 e9 np nf no cnt nt na nm (uR (uI s z 0 (Int32.ofNat n)) (nb + 202) j (some z)) v (va_up T y (Int64.ofNat n)) := by
  obtain ⟨hB, hR, hN, hcn, k7, k8, k9, k10⟩ := h
  have hR' := hR
  obtain ⟨⟨a1, a2, a3, a4, a5, a6, a7, a8, a9, a10, -⟩, ⟨⟨-, b2, b3, b4, b5, b6, b7, b8⟩, -⟩, ⟨i1, i2, i3, i4, i5, i6, i7, -⟩, -⟩ := hR
  have hy : y = 4 ∨ y = 6 ∨ y = 7 := by clear k7 k8 k9; omega
  have hjj : j = 2 ∨ j = 3 ∨ j = 4 := by clear k7 k8 k9; omega
  have z7 : c7 ≠ z := by clear k8 k9 hj; omega
  have z8 : c8 ≠ z := by clear k7 k9 hj; omega
  have z9 : c9 ≠ z := by clear k7 k8 hj; omega
  have k7' : c7 = nb + 207 ∨ nb + 500 ≤ c7 ∧ c7 < z1 := k7.imp id fun q => ⟨q.1, Nat.lt_trans q.2 hz1⟩
  have k8' : c8 = nb + 208 ∨ nb + 500 ≤ c8 ∧ c8 < z1 := k8.imp id fun q => ⟨q.1, Nat.lt_trans q.2 hz1⟩
  have k9' : c9 = nb + 209 ∨ nb + 500 ≤ c9 ∧ c9 < z1 := k9.imp id fun q => ⟨q.1, Nat.lt_trans q.2 hz1⟩
  have oth : ∀ d, d ≠ z → d ≠ nb + 202 → (uR (uI s z 0 (Int32.ofNat n)) (nb + 202) j (some z)).1 d = s.1 d ∧ (uR (uI s z 0 (Int32.ofNat n)) (nb + 202) j (some z)).2.1 d = s.2.1 d ∧ (uR (uI s z 0 (Int32.ofNat n)) (nb + 202) j (some z)).2.2.1 d = s.2.2.1 d ∧ (uR (uI s z 0 (Int32.ofNat n)) (nb + 202) j (some z)).2.2.2 d = s.2.2.2 d := fun d d1 d2 => ⟨rfl, by rw [uR_I, uI_row _ d1], rfl, by funext q; rw [uR_ne _ _ (Or.inl d2)]; rfl⟩
  have I : ∀ d q, d ≠ z → (uR (uI s z 0 (Int32.ofNat n)) (nb + 202) j (some z)).2.1 d q = s.2.1 d q := fun d q hd => by rw [uR_I, uI_row _ hd]
  have Iz : (uR (uI s z 0 (Int32.ofNat n)) (nb + 202) j (some z)).2.1 z 0 = Int32.ofNat n := by rw [uR_I, uI_s]
  have Rj : (uR (uI s z 0 (Int32.ofNat n)) (nb + 202) j (some z)).2.2.2 (nb + 202) j = some z := uR_s _ _ _ _
  have Ro : ∀ q, q ≠ j → (uR (uI s z 0 (Int32.ofNat n)) (nb + 202) j (some z)).2.2.2 (nb + 202) q = s.2.2.2 (nb + 202) q := fun q hq => by rw [uR_ne _ _ (Or.inr hq)]; rfl
  have To : ∀ x, x ≠ y → va_up T y (Int64.ofNat n) x = T x := fun x hx => cu_ne _ _ hx
  have Ty : va_up T y (Int64.ofNat n) y = Int64.ofNat n := cu_same _ _ _
  have n31 : n < 2 ^ 31 := by clear k7 k8 k9 k7' k8' k9' hy hjj; omega
  have rest : ∀ e7 e8 e9, MkR nb e7 e8 e9 np nt (uR (uI s z 0 (Int32.ofNat n)) (nb + 202) j (some z)) (va_up T y (Int64.ofNat n)) → (e7 = nb + 207 ∨ nb + 500 ≤ e7 ∧ e7 < z1) → (e8 = nb + 208 ∨ nb + 500 ≤ e8 ∧ e8 < z1) → (e9 = nb + 209 ∨ nb + 500 ≤ e9 ∧ e9 < z1) → e7 ≠ e8 ∧ e7 ≠ e9 ∧ e8 ≠ e9 → Mk nb z1 e7 e8 e9 np nf no cnt nt na nm (uR (uI s z 0 (Int32.ofNat n)) (nb + 202) j (some z)) v (va_up T y (Int64.ofNat n)) := fun e7 e8 e9 hM q7 q8 q9 q10 => by
    have s5 := oth (nb + 205) (by clear k7 k8 k9 k7' k8' k9' hj; omega) (by clear k7 k8 k9 k7' k8' k9' hj; omega)
    have s6 := oth (nb + 206) (by clear k7 k8 k9 k7' k8' k9' hj; omega) (by clear k7 k8 k9 k7' k8' k9' hj; omega)
    exact ⟨MkB_cg hB (Nat.le_refl _) hB.2.2.1.1.2.2.2 (fun d d1 d2 => oth d (by clear k7 k8 k9 k7' k8' k9' hj; omega) (by clear k7 k8 k9 k7' k8' k9' hj; omega)) (fun x _ x2 => To x (by clear k7 k8 k9 k7' k8' k9' hj; omega)), hM, MkN_cg hN ⟨rfl, Ro 1 (by clear k7 k8 k9 k7' k8' k9' hj; omega)⟩ ⟨s5.1, s5.2.1, s5.2.2.2⟩ ⟨s6.1, s6.2.2.2⟩ (svw_rfl _) (To 2 (by clear k7 k8 k9 k7' k8' k9' hj; omega)) (fun i _ => To _ (by clear k7 k8 k9 k7' k8' k9' hj; omega)), (I _ _ (by clear k7 k8 k9 k7' k8' k9' hj; omega)).trans hcn, q7, q8, q9, q10⟩
  have reg : ∀ d, nb + 202 < d → d < nb + 400 → (uR (uI s z 0 (Int32.ofNat n)) (nb + 202) j (some z)).1 d = s.1 d ∧ (uR (uI s z 0 (Int32.ofNat n)) (nb + 202) j (some z)).2.1 d = s.2.1 d ∧ (uR (uI s z 0 (Int32.ofNat n)) (nb + 202) j (some z)).2.2.1 d = s.2.2.1 d ∧ (uR (uI s z 0 (Int32.ofNat n)) (nb + 202) j (some z)).2.2.2 d = s.2.2.2 d := fun d d1 d2 => oth d (by clear k7 k8 k9 k7' k8' k9' hj; omega) (by clear k7 k8 k9 k7' k8' k9' hj; omega)
  rcases hj with ⟨rfl, rfl, rfl⟩ | ⟨rfl, rfl, rfl⟩ | ⟨rfl, rfl, rfl⟩
  · refine ⟨z, c8, c9, rest z c8 c9 (MkR_set hR' reg rfl (Ro 0 (by decide)) (Ro 1 (by decide)) Rj ((Ro 3 (by decide)).trans a5) ((Ro 4 (by decide)).trans a6) hc a8 a9 (fun x hx => To x (by clear k7 k8 k9 k7' k8' k9'; omega)) (by rw [Ty, Iz, i32_64 n31]) (by rw [To 5 (by decide)]; exact b3) (by rw [To 6 (by decide), I _ _ z8]; exact b4) (by rw [To 7 (by decide), I _ _ z9]; exact b5) (by rw [To 8 (by decide)]; exact b6) (by rw [To 9 (by decide), I _ _ (by clear k7 k8 k9 k7' k8' k9'; omega)]; exact b7) (by rw [To 10 (by decide), I _ _ (by clear k7 k8 k9 k7' k8' k9'; omega)]; exact b8) (by rw [Ty]; exact btw_n hn (by clear k7 k8 k9 k7' k8' k9'; omega)) (by rw [To 5 (by decide)]; exact i2) (by rw [To 6 (by decide)]; exact i3) (by rw [To 7 (by decide)]; exact i4) (by rw [To 8 (by decide)]; exact i5) (by rw [To 9 (by decide)]; exact i6) (by rw [To 10 (by decide)]; exact i7)) (Or.inr ⟨hnb.2, hz1⟩) k8' k9' ⟨z8.symm, z9.symm, k10.2.2⟩⟩
  · refine ⟨c7, z, c9, rest c7 z c9 (MkR_set hR' reg rfl (Ro 0 (by decide)) (Ro 1 (by decide)) ((Ro 2 (by decide)).trans a4) Rj ((Ro 4 (by decide)).trans a6) a7 hc a9 (fun x hx => To x (by clear k7 k8 k9 k7' k8' k9'; omega)) (by rw [To 4 (by decide), I _ _ z7]; exact b2) (by rw [To 5 (by decide)]; exact b3) (by rw [Ty, Iz, i32_64 n31]) (by rw [To 7 (by decide), I _ _ z9]; exact b5) (by rw [To 8 (by decide)]; exact b6) (by rw [To 9 (by decide), I _ _ (by clear k7 k8 k9 k7' k8' k9'; omega)]; exact b7) (by rw [To 10 (by decide), I _ _ (by clear k7 k8 k9 k7' k8' k9'; omega)]; exact b8) (by rw [To 4 (by decide)]; exact i1) (by rw [To 5 (by decide)]; exact i2) (by rw [Ty]; exact btw_n hn (by clear k7 k8 k9 k7' k8' k9'; omega)) (by rw [To 7 (by decide)]; exact i4) (by rw [To 8 (by decide)]; exact i5) (by rw [To 9 (by decide)]; exact i6) (by rw [To 10 (by decide)]; exact i7)) k7' (Or.inr ⟨hnb.2, hz1⟩) k9' ⟨z7, k10.2.1, z9.symm⟩⟩
  · refine ⟨c7, c8, z, rest c7 c8 z (MkR_set hR' reg rfl (Ro 0 (by decide)) (Ro 1 (by decide)) ((Ro 2 (by decide)).trans a4) ((Ro 3 (by decide)).trans a5) Rj a7 a8 hc (fun x hx => To x (by clear k7 k8 k9 k7' k8' k9'; omega)) (by rw [To 4 (by decide), I _ _ z7]; exact b2) (by rw [To 5 (by decide)]; exact b3) (by rw [To 6 (by decide), I _ _ z8]; exact b4) (by rw [Ty, Iz, i32_64 n31]) (by rw [To 8 (by decide)]; exact b6) (by rw [To 9 (by decide), I _ _ (by clear k7 k8 k9 k7' k8' k9'; omega)]; exact b7) (by rw [To 10 (by decide), I _ _ (by clear k7 k8 k9 k7' k8' k9'; omega)]; exact b8) (by rw [To 4 (by decide)]; exact i1) (by rw [To 5 (by decide)]; exact i2) (by rw [To 6 (by decide)]; exact i3) (by rw [Ty]; exact btw_n hn (by clear k7 k8 k9 k7' k8' k9'; omega)) (by rw [To 8 (by decide)]; exact i5) (by rw [To 9 (by decide)]; exact i6) (by rw [To 10 (by decide)]; exact i7)) k7' k8' (Or.inr ⟨hnb.2, hz1⟩) ⟨k10.1, z7, z8⟩⟩
end CG
