/-! the component's search for connected cells -/
set_option maxRecDepth 100000
theorem mk_I (s : cT) (o c : Nat) (v : Int32) (c1 : Nat) : (uI s (o + 18) c v).2.1 (o + 18) c1 = if c1 = c then v else s.2.1 (o + 18) c1 := by
  rw [uI_app]
  by_cases h : c1 = c
  · rw [if_pos ⟨rfl, h⟩, if_pos h]
  · rw [if_neg (fun k => h k.2), if_neg h]
theorem qu_I (s : cT) (o c : Nat) (v : Int32) (c1 : Nat) : (uI s (o + 17) c v).2.1 (o + 17) c1 = if c1 = c then v else s.2.1 (o + 17) c1 := by
  rw [uI_app]
  by_cases h : c1 = c
  · rw [if_pos ⟨rfl, h⟩, if_pos h]
  · rw [if_neg (fun k => h k.2), if_neg h]
theorem mk_qI (s : cT) (o c : Nat) (v : Int32) : (uI s (o + 17) c v).2.1 (o + 18) = s.2.1 (o + 18) := uI_row s (by omega) _ _
theorem qu_mI (s : cT) (o c : Nat) (v : Int32) : (uI s (o + 18) c v).2.1 (o + 17) = s.2.1 (o + 17) := uI_row s (by omega) _ _
section LC
variable {E : zE} {N : iN} {s : cT} {g : zH}
theorem bfs_add {f : Int32} {x0 : Nat} (h0 : ownd s N.1 f x0) {s1 : cT} {cn : Nat} (h : bfs N s f x0 s1 cn) {c d : Nat} (hc : c < 900) (hm : s1.2.1 (N.1 + 18) c ≠ 0) (hd : ownd s N.1 f d) (ha : adj c d) (hn : s1.2.1 (N.1 + 18) d = 0) : cn < 900 ∧ bfs N s f x0 (uI (uI s1 (N.1 + 18) d 1) (N.1 + 17) cn (Int32.ofNat d)) (cn + 1) := by
  obtain ⟨b1, b2, b3, b4, b5, b6, b7⟩ := h
  have hlt : cn < 900 := by
    rw [← b3]
    exact cnt_lt (x := d) (fun k => k.2 hn) hd.1
  have mk : ∀ e, (uI (uI s1 (N.1 + 18) d 1) (N.1 + 17) cn (Int32.ofNat d)).2.1 (N.1 + 18) e = if e = d then 1 else s1.2.1 (N.1 + 18) e := fun e => by rw [mk_qI, mk_I]
  have qu : ∀ i, (uI (uI s1 (N.1 + 18) d 1) (N.1 + 17) cn (Int32.ofNat d)).2.1 (N.1 + 17) i = if i = cn then Int32.ofNat d else s1.2.1 (N.1 + 17) i := fun i => by rw [qu_I, qu_mI]
  have mk1 : ∀ e, (uI (uI s1 (N.1 + 18) d 1) (N.1 + 17) cn (Int32.ofNat d)).2.1 (N.1 + 18) e ≠ 0 ↔ s1.2.1 (N.1 + 18) e ≠ 0 ∨ e = d := fun e => by
    rw [mk]
    by_cases q : e = d
    · rw [if_pos q]; exact ⟨fun _ => Or.inr q, fun _ => by decide⟩
    · rw [if_neg q]; exact ⟨Or.inl, fun k => k.elim id (fun k => absurd k q)⟩
  refine ⟨hlt, okQ_I (okQ_I b1 (Or.inr rfl) _ _) (Or.inl rfl) _ _, by omega, ?_, fun i hi => ?_, fun e he hme => ?_, (mk1 x0).mpr (Or.inl b6), fun e he hme => ?_⟩
  · have e := cnt_add (P := fun c => c < 900 ∧ s1.2.1 (N.1 + 18) c ≠ 0) (Q := fun c => c < 900 ∧ (uI (uI s1 (N.1 + 18) d 1) (N.1 + 17) cn (Int32.ofNat d)).2.1 (N.1 + 18) c ≠ 0) (x := d) (fun k => k.2 hn) (fun i => ⟨fun k => ((mk1 i).mp k.2).elim (fun q => Or.inl ⟨k.1, q⟩) Or.inr, fun k => k.elim (fun q => ⟨q.1, (mk1 i).mpr (Or.inl q.2)⟩) (fun q => ⟨by rw [q]; exact hd.1, (mk1 i).mpr (Or.inr q)⟩)⟩) hd.1
    rw [b3] at e
    exact e
  · by_cases q : i = cn
    · refine ⟨d, hd.1, by rw [qu, if_pos q], (mk1 d).mpr (Or.inr rfl)⟩
    · obtain ⟨e, he, h1, h2⟩ := b4 i (by omega)
      exact ⟨e, he, by rw [qu, if_neg q]; exact h1, (mk1 e).mpr (Or.inl h2)⟩
  · rcases (mk1 e).mp hme with q | q
    · obtain ⟨i, hi, h1⟩ := b5 e he q
      exact ⟨i, by omega, by rw [qu, if_neg (by omega)]; exact h1⟩
    · exact ⟨cn, by omega, by rw [qu, if_pos rfl, q]⟩
  · rcases (mk1 e).mp hme with q | q
    · exact b7 e he q
    · rw [q]
      exact rch_s (b7 c hc hm) (rch_O h0 (b7 c hc hm)) hd ha
theorem x_in (hE : 1000 ≤ E.1) {f : Int32} {x0 : Nat} (h0 : ownd s N.1 f x0) {k54 : Int32 → Int32 → Int32 → cT → zH → Option (Int32 × (cT × zH))} {k : Nat} {Q : Int32 × (cT × zH) → Prop} (hk : ∀ s2 cn2, bfs N s f x0 s2 cn2 → k < cn2 → (∀ i, i < k + 1 → bdn N s f s2 i 4) → Ww (k54 f (Int32.ofNat cn2) (Int32.ofNat (k + 1)) s2 g) Q) {s1 : cT} {cn : Nat} (h : bfs N s f x0 s1 cn) (hkc : k < cn) (hb : ∀ i, i < k → bdn N s f s1 i 4) : Ww (c_X5_isConnected_l63 E N k54 E.1 f (Int32.ofNat cn) (Int32.ofNat k) (0 : Int32) s1 g) Q := by
  refine w_lp (σ := cT × Nat) (L := fun m i a => c_X5_isConnected_l63 E N k54 m f (Int32.ofNat a.2) (Int32.ofNat k) i a.1 g) (n := 4) (by decide) (Inv := fun q a => bfs N s f x0 a.1 a.2 ∧ k < a.2 ∧ (∀ i, i < k → bdn N s f a.1 i 4) ∧ bdn N s f a.1 k q) (fun m q a hq ha kk => ?_) (fun m a ha => ?_) 4 0 E.1 (s1, cn) rfl (by omega) ⟨h, hkc, hb, fun c hc e j hj => absurd hj (Nat.not_lt_zero j)⟩
  · show Ww (c_X5_isConnected_l63 E N k54 (m + 1) f (Int32.ofNat a.2) (Int32.ofNat k) (Int32.ofNat q) a.1 g) _
    obtain ⟨s1, cn⟩ := a
    obtain ⟨ha1, ha2, ha3, ha4⟩ := ha
    have ha2 : k < cn := ha2
    obtain ⟨c, hc, hqc, hmc⟩ := ha1.2.2.2.1 k ha2
    have hcn := ha1.2.1
    have hqc : s1.2.1 (N.1 + 17) k = Int32.ofNat c := hqc
    have next : ∀ s2 cn2, bfs N s f x0 s2 cn2 → k < cn2 → (∀ i, i < k → bdn N s f s2 i 4) → bdn N s f s2 k (q + 1) → Ww (c_X5_isConnected_l63 E N k54 m f (Int32.ofNat cn2) (Int32.ofNat k) (Int32.ofNat (q + 1)) s2 g) Q := fun s2 cn2 p1 p2 p3 p4 => kk (s2, cn2) ⟨p1, p2, p3, p4⟩
    have stay : (ownd s N.1 f (nbr c q) → s1.2.1 (N.1 + 18) (nbr c q) ≠ 0) → Ww (c_X5_isConnected_l63 E N k54 m f (Int32.ofNat cn) (Int32.ofNat k) (Int32.ofNat (q + 1)) s1 g) Q := fun hh => next s1 cn ha1 ha2 ha3 (fun c1 hc1 e j hj ho => by
      have ec : c1 = c := (i32_eq (by omega) (by omega)).mp (e.symm.trans hqc)
      subst ec
      by_cases ej : j = q
      · subst ej; exact hh ho
      · exact ha4 c1 hc1 e j (by omega) ho)
    have hnb := nbr_lt (side := q) hc
    unfold c_X5_isConnected_l63 c_X5_isConnected_b132
    rw [if_neg (le4 hq), cdI_of (show k < 900 by omega) (by decide), b1_some, hqc, x_nbr hc hq, b2_some, i32_s]
    by_cases h1 : nbr c q = 900
    · rw [if_pos ((enb_m1 hnb).mpr h1)]
      exact stay (fun ho => by have := ho.1; omega)
    · rw [if_neg (fun e => h1 ((enb_m1 hnb).mp e)), enb_n h1, cdI_of (show nbr c q < 900 by omega) (by decide), b1_some]
      by_cases h2 : s1.2.1 (N.1 + 18) (nbr c q) = 0
      · rw [if_pos h2, cdI_of (show nbr c q < 900 by omega) (by decide), b1_some]
        have eo : s1.2.1 (N.1 + 16) (nbr c q) = s.2.1 (N.1 + 16) (nbr c q) := by rw [ha1.1.2.2 (N.1 + 16) (by omega) (by omega)]
        by_cases h3 : s1.2.1 (N.1 + 16) (nbr c q) = f
        · have ho : ownd s N.1 f (nbr c q) := ⟨by omega, by rw [← eo]; exact h3⟩
          obtain ⟨hlt, hnew⟩ := bfs_add h0 ha1 hc hmc ho ⟨q, hq, rfl, ho.1⟩ h2
          rw [if_pos h3, csI_of (show nbr c q < 900 by omega) (by decide), b1_some, csI_of (show cn < 900 from hlt) (by decide), b1_some, i32_s]
          have mono : ∀ e, s1.2.1 (N.1 + 18) e ≠ 0 → (uI (uI s1 (N.1 + 18) (nbr c q) 1) (N.1 + 17) cn (Int32.ofNat (nbr c q))).2.1 (N.1 + 18) e ≠ 0 := fun e he => by
            rw [mk_qI, mk_I]
            by_cases z : e = nbr c q
            · rw [if_pos z]; decide
            · rw [if_neg z]; exact he
          have que : ∀ i, i < cn → (uI (uI s1 (N.1 + 18) (nbr c q) 1) (N.1 + 17) cn (Int32.ofNat (nbr c q))).2.1 (N.1 + 17) i = s1.2.1 (N.1 + 17) i := fun i hi => by rw [qu_I, if_neg (by omega), qu_mI]
          refine next _ (cn + 1) hnew (by omega) (fun i hi c1 hc1 e j hj ho1 => mono _ (ha3 i hi c1 hc1 (by rw [que i (by omega)] at e; exact e) j hj ho1)) (fun c1 hc1 e j hj ho1 => ?_)
          rw [que k ha2] at e
          have ec : c1 = c := (i32_eq (by omega) (by omega)).mp (e.symm.trans hqc)
          subst ec
          by_cases ej : j = q
          · subst ej
            rw [mk_qI, mk_I, if_pos rfl]
            decide
          · exact mono _ (ha4 c1 hc1 e j (by omega) ho1)
        · rw [if_neg h3]
          exact stay (fun ho => absurd (eo.trans ho.2) h3)
      · rw [if_neg h2]
        exact stay (fun _ => h2)
  · show Ww (c_X5_isConnected_l63 E N k54 (m + 1) f (Int32.ofNat a.2) (Int32.ofNat k) (Int32.ofNat 4) a.1 g) _
    obtain ⟨ha1, ha2, ha3, ha4⟩ := ha
    unfold c_X5_isConnected_l63
    rw [if_pos re4, i32_s]
    exact hk a.1 a.2 ha1 ha2 (fun i hi => by
      by_cases e : i = k
      · subst e; exact ha4
      · exact ha3 i (by omega))
theorem x_out (hE : 1000 ≤ E.1) {f : Int32} (hx : fst9 s N.1 f < 900) (h0 : ownd s N.1 f (fst9 s N.1 f)) : ∀ (m k : Nat) (s1 : cT) (cn : Nat), 902 ≤ m + k → bfs N s f (fst9 s N.1 f) s1 cn → k ≤ cn → (∀ i, i < k → bdn N s f s1 i 4) → Ww (c_X5_isConnected_l54 E N m f (Int32.ofNat cn) (Int32.ofNat k) s1 g) fun z => ∃ s2, z = (bi (CN s N.1 f), (s2, g)) ∧ okQ N s s2 := by
  intro m
  induction m with
  | zero =>
    intro k s1 cn hm h hk hb
    have := h.2.1
    omega
  | succ m ih =>
    intro k s1 cn hm h hk hb
    have hcn := h.2.1
    unfold c_X5_isConnected_l54
    by_cases c : cn ≤ k
    · have ek : k = cn := by omega
      rw [if_pos ((i32_le (by omega) (by omega)).mpr c), x_area hE, b2_some]
      have er : s1.2.1 (N.1 + 16) = s.2.1 (N.1 + 16) := h.1.2.2 _ (by omega) (by omega)
      rw [er, sm_own]
      have hall := rch_all (O := ownd s N.1 f) (M := fun c => c < 900 ∧ s1.2.1 (N.1 + 18) c ≠ 0) (x0 := fst9 s N.1 f) ⟨hx, h.2.2.2.2.2.1⟩ (fun c hc => h.2.2.2.2.2.2 c hc.1 hc.2) (fun a b hMa hOa hOb hab => by
        obtain ⟨i, hi, hq⟩ := h.2.2.2.2.1 a hMa.1 hMa.2
        obtain ⟨j, hj, e, hbl⟩ := hab
        refine ⟨hbl, ?_⟩
        have := hb i (by omega) a hMa.1 hq j hj (by rw [e]; exact hOb)
        rw [e] at this
        exact this)
      have ecn : cn = cnt (rch (ownd s N.1 f) (fst9 s N.1 f)) 900 := by
        rw [← h.2.2.1]
        exact cnt_cg fun i hi => hall i
      have hle := cnt_le (ownd s N.1 f) 900
      unfold c_X5_isConnected_b158
      by_cases q : cn = cnt (ownd s N.1 f) 900
      · rw [if_pos (by rw [q]), zgd1, b1_some, w_some]
        refine ⟨s1, ?_, h.1⟩
        rw [bi_t (show CN s N.1 f from ⟨hx, by rw [← ecn]; exact q⟩)]
      · rw [if_neg (fun e => q ((i32_eq (by omega) (by omega)).mp e)), zgd0, b1_some, w_some]
        refine ⟨s1, ?_, h.1⟩
        rw [bi_f (show ¬ CN s N.1 f from fun k => q (by rw [ecn]; exact k.2))]
    · rw [if_neg (fun e => c ((i32_le (by omega) (by omega)).mp e))]
      exact x_in hE h0 (fun s2 cn2 p1 p2 p3 => ih (k + 1) s2 cn2 (by omega) p1 (by omega) p3) h (by omega) hb
theorem fst9_own {f : Int32} (h : fst9 s N.1 f < 900) : ownd s N.1 f (fst9 s N.1 f) := by
  by_cases hx : ∃ c, c < 900 ∧ s.2.1 (N.1 + 16) c = f ∧ ∀ d, d < c → ¬ s.2.1 (N.1 + 16) d = f
  · have e : fst9 s N.1 f = Classical.choose hx := dif_pos hx
    rw [e]
    exact ⟨(Classical.choose_spec hx).1, (Classical.choose_spec hx).2.1⟩
  · have e : fst9 s N.1 f = 900 := dif_neg hx
    omega
theorem fst9_le (f : Int32) : fst9 s N.1 f = 900 ∨ fst9 s N.1 f < 900 := by
  by_cases hx : ∃ c, c < 900 ∧ s.2.1 (N.1 + 16) c = f ∧ ∀ d, d < c → ¬ s.2.1 (N.1 + 16) d = f
  · have e : fst9 s N.1 f = Classical.choose hx := dif_pos hx
    rw [e]
    exact Or.inr (Classical.choose_spec hx).1
  · exact Or.inl (dif_neg hx)
theorem x_CN (hE : 1000 ≤ E.1) (f : Int32) : Ww (c_X5_isConnected E N f s g) fun z => ∃ s2, z = (bi (CN s N.1 f), (s2, g)) ∧ okQ N s s2 := by
  unfold c_X5_isConnected c_X5_isConnected_b0
  rw [x_first hE, b2_some]
  rcases fst9_le (s := s) (N := N) f with h9 | h9
  · rw [if_pos (enb_e h9), w_some]
    exact ⟨s, by rw [bi_f (show ¬ CN s N.1 f from fun k => by have := k.1; omega)], rfl, rfl, fun _ _ _ => rfl⟩
  · have h0 := fst9_own h9
    rw [if_neg (by rw [enb_n (by omega)]; exact i32_neg1 (by omega)), enb_n (by omega)]
    refine w_lp (L := fun m i a => c_X5_isConnected_l15 E N m f (Int32.ofNat (fst9 s N.1 f)) i a g) (n := 900) (by decide) (Inv := fun j a => okQ N s a ∧ ∀ c, c < j → a.2.1 (N.1 + 18) c = 0) (fun m j a hj ha k => ?_) (fun m a ha => ?_) 900 0 E.1 s rfl (by omega) ⟨⟨rfl, rfl, fun _ _ _ => rfl⟩, fun c hc => by omega⟩
    · show Ww (c_X5_isConnected_l15 E N (m + 1) f (Int32.ofNat (fst9 s N.1 f)) (Int32.ofNat j) a g) _
      unfold c_X5_isConnected_l15
      rw [if_neg (le900 hj), csI_of hj (by decide), b1_some, i32_s]
      refine k _ ⟨okQ_I ha.1 (Or.inr rfl) _ _, fun c hc => ?_⟩
      rw [mk_I]
      by_cases q : c = j
      · rw [if_pos q]
      · rw [if_neg q]; exact ha.2 c (by omega)
    · show Ww (c_X5_isConnected_l15 E N (m + 1) f (Int32.ofNat (fst9 s N.1 f)) (Int32.ofNat 900) a g) _
      unfold c_X5_isConnected_l15
      rw [if_pos re900, show csI a (N.1 + 17) 900 (0 : Int32) (Int32.ofNat (fst9 s N.1 f)) = _ from csI_of (j := 0) (by decide) (by decide), b1_some, csI_of h9 (by decide), b1_some]
      have mk : ∀ e, (uI (uI a (N.1 + 17) 0 (Int32.ofNat (fst9 s N.1 f))) (N.1 + 18) (fst9 s N.1 f) 1).2.1 (N.1 + 18) e = if e = fst9 s N.1 f then 1 else a.2.1 (N.1 + 18) e := fun e => by rw [mk_I, mk_qI]
      have mk1 : ∀ e, e < 900 → ((uI (uI a (N.1 + 17) 0 (Int32.ofNat (fst9 s N.1 f))) (N.1 + 18) (fst9 s N.1 f) 1).2.1 (N.1 + 18) e ≠ 0 ↔ e = fst9 s N.1 f) := fun e he => by
        rw [mk]
        by_cases q : e = fst9 s N.1 f
        · rw [if_pos q]; exact ⟨fun _ => q, fun _ => by decide⟩
        · rw [if_neg q]; exact ⟨fun k => absurd (ha.2 e he) k, fun k => absurd k q⟩
      have qu : (uI (uI a (N.1 + 17) 0 (Int32.ofNat (fst9 s N.1 f))) (N.1 + 18) (fst9 s N.1 f) 1).2.1 (N.1 + 17) 0 = Int32.ofNat (fst9 s N.1 f) := by rw [qu_mI, qu_I, if_pos rfl]
      refine x_out hE h9 h0 E.1 0 _ 1 (by omega) ⟨okQ_I (okQ_I ha.1 (Or.inl rfl) _ _) (Or.inr rfl) _ _, by decide, ?_, fun i hi => ?_, fun c hc hmc => ?_, (mk1 _ h9).mpr rfl, fun c hc hmc => ?_⟩ (by decide) (fun i hi => absurd hi (Nat.not_lt_zero i))
      · rw [← cnt_one (x := fst9 s N.1 f) h9]
        exact cnt_cg fun i hi => ⟨fun k => (mk1 i hi).mp k.2, fun k => ⟨hi, (mk1 i hi).mpr k⟩⟩
      · have e : i = 0 := by omega
        subst e
        exact ⟨_, h9, qu, (mk1 _ h9).mpr rfl⟩
      · exact ⟨0, by decide, by rw [(mk1 c hc).mp hmc]; exact qu⟩
      · rw [(mk1 c hc).mp hmc]
        exact rch0 _ _
end LC
