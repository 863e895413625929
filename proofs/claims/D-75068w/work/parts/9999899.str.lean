/-! Strings: equality, hash, a list of names *(raw Strings of Latin 1)* -/
set_option maxRecDepth 100000
section HH
variable {h : zH} {E : zE}
theorem h_len {a t n : Nat} {w : Bool} {d : zS} (e : h.1 a = some (w, .inl (t, n, d))) : lenA h a = some (Int32.ofNat n) := by
  unfold lenA
  rw [e]
theorem h_dI {a n j : Nat} {w : Bool} {f : Nat → Int32} (e : h.1 a = some (w, .inl (2, n, .inl f))) (hj : j < n) (hn : n < 2 ^ 31) : dI h a 2 (Int32.ofNat j) = some (f j) := by
  unfold dI
  rw [e]
  show (if 2 = 2 ∧ ¬ (Int32.ofNat j < 0 ∨ n ≤ (Int32.ofNat j).toNatClampNeg) then some (f (Int32.ofNat j).toNatClampNeg) else none) = _
  rw [nat_clamp (by omega), if_pos ⟨rfl, fun q => q.elim (i32_nneg (by omega)) (by omega)⟩]
theorem h_obj {a ci : Nat} {w : Bool} {fs : List Value} (e : h.1 a = some (w, .inr (ci, fs))) (k : Nat) : gF h a ci k = fs[k]? := by
  unfold gF
  rw [e]
  exact if_pos rfl
theorem j15_l {a1 a2 n : Nat} {w1 w2 : Bool} {f1 f2 : Nat → Int32} (h1 : h.1 a1 = some (w1, .inl (2, n, .inl f1))) (h2 : h.1 a2 = some (w2, .inl (2, n, .inl f2))) (hn : n < 100000) : ∀ k j m, j + k = n → f_J15_equals_l9 E (m + k + 1) a1 a2 (Int32.ofNat j) h = some (bi (∀ i, j ≤ i → i < n → f1 i = f2 i), h)
  | 0, j, m, hj => by
    rw [f_J15_equals_l9, h_len h1, b1_some, if_pos (by rw [i32_le (by omega) (by omega)]; omega), bi_t (fun i _ _ => by omega)]
  | k + 1, j, m, hj => by
    rw [show m + (k + 1) + 1 = (m + k + 1) + 1 by omega, f_J15_equals_l9, h_len h1, b1_some, if_neg (by rw [i32_le (by omega) (by omega)]; omega), h_dI h1 (by omega) (by omega), b1_some, h_dI h2 (by omega) (by omega), b1_some]
    by_cases q : f1 j = f2 j
    · rw [if_pos q, i32_s, j15_l h1 h2 hn k (j + 1) m (by omega)]
      refine congrArg (fun x => some (x, h)) (bi_c ⟨fun z i i1 i2 => ?_, fun z i i1 i2 => z i (by omega) i2⟩)
      by_cases w : i = j
      · rw [w]; exact q
      · exact z i (by omega) i2
    · rw [if_neg q, bi_f (fun z => q (z j (Nat.le_refl _) (by omega)))]
theorem j15 (hE : 20000 ≤ E.1) {a1 a2 n1 n2 : Nat} {w1 w2 : Bool} {f1 f2 : Nat → Int32} (h1 : h.1 a1 = some (w1, .inl (2, n1, .inl f1))) (h2 : h.1 a2 = some (w2, .inl (2, n2, .inl f2))) (hn : n1 < 10000) (hn2 : n2 < 100000) : f_J15_equals E a1 a2 h = some (bi (n1 = n2 ∧ ∀ i, i < n1 → f1 i = f2 i), h) := by
  unfold f_J15_equals f_J15_equals_b0
  rw [h_len h1, b1_some, h_len h2, b1_some]
  by_cases q : n1 = n2
  · subst q
    have k := j15_l (E := E) h1 h2 (by omega) n1 0 (E.1 - n1 - 1) (by omega)
    rw [show E.1 - n1 - 1 + n1 + 1 = E.1 by omega] at k
    rw [if_pos rfl]
    refine k.trans (congrArg (fun x => some (x, h)) (bi_c ⟨fun z => ⟨rfl, fun i hi => z i (Nat.zero_le _) hi⟩, fun z i _ hi => z.2 i hi⟩))
  · rw [if_neg (fun z => q ((i32_eq (by omega) (by omega)).mp z)), bi_f (fun z => q z.1)]
/-- the hash -/
def hsh (l : List Int32) : Int32 := l.foldl (fun h c => 31 * h + (c &&& 255)) 0
theorem sgn_l {a n : Nat} {w : Bool} {f : Nat → Int32} (h1 : h.1 a = some (w, .inl (2, n, .inl f))) (hn : n < 100000) : ∀ (l : List Int32) (j m : Nat) (acc : Int32), (∀ i c, l[i]? = some c → f (j + i) = c) → j + l.length = n → f_J11_signedHashCode_l8 E (m + l.length + 1) acc a (Int32.ofNat n) (Int32.ofNat j) h = some (l.foldl (fun h c => 31 * h + (c &&& 255)) acc, h)
  | [], j, m, acc, _, hj => by
    have hj : j = n := hj
    show f_J11_signedHashCode_l8 E (m + 0 + 1) acc a (Int32.ofNat n) (Int32.ofNat j) h = some (acc, h)
    rw [f_J11_signedHashCode_l8, if_pos (by rw [i32_le (by omega) (by omega)]; omega)]
  | c :: l, j, m, acc, hl, hj => by
    have hj : j + (l.length + 1) = n := hj
    have hc : f j = c := hl 0 c rfl
    rw [show m + (c :: l).length + 1 = (m + l.length + 1) + 1 by rw [List.length_cons]; omega, f_J11_signedHashCode_l8, if_neg (by rw [i32_le (by omega) (by omega)]; omega), h_dI h1 (by omega) (by omega), b1_some, hc, i32_s]
    exact sgn_l h1 hn l (j + 1) m _ (fun i d hi => by
      have := hl (i + 1) d hi
      rw [show j + 1 + i = j + (i + 1) by omega]
      exact this) (by omega)
theorem j15_hash (hE : 20000 ≤ E.1) {a : Nat} {f : Nat → Int32} {l : List Int32} (h1 : h.1 a = some (true, .inl (2, l.length, .inl f))) (hl : ∀ j c, l[j]? = some c → f j = c) (hn : l.length < 10000) : f_J15_hashCode E a h = some (hsh l, h) := by
  unfold f_J15_hashCode f_J15_hashCode_b0 f_J15_hashCode_b51
  rw [h_len h1, b1_some]
  have gen : bnd2 (f_J11_vectorizedHashCode_A2 E a (0 : Int32) (Int32.ofNat l.length) (0 : Int32) (4 : Int32) h) (fun x11 h9 => some (x11, h9)) = some (hsh l, h) := by
    unfold f_J11_vectorizedHashCode_A2 f_J11_vectorizedHashCode_A2_b0 f_J11_vectorizedHashCode_A2_b157 f_J11_signedHashCode f_J11_signedHashCode_b0
    have ck : cka h a 2 = some () := by
      unfold cka isA
      rw [h1]
      rfl
    have k := sgn_l (E := E) h1 (by omega) l 0 (E.1 - l.length - 1) 0 (fun i c hi => by rw [Nat.zero_add]; exact hl i c hi) (Nat.zero_add _)
    rw [show E.1 - l.length - 1 + l.length + 1 = E.1 by omega] at k
    rw [if_pos rfl, ck, b1_some, show (0 : Int32) + Int32.ofNat l.length = Int32.ofNat l.length from Int32.zero_add _]
    show bnd2 (bnd2 (f_J11_signedHashCode_l8 E E.1 0 a (Int32.ofNat l.length) (Int32.ofNat 0) h) _) _ = _
    rw [k, b2_some, b2_some]
    rfl
  rcases l with _ | ⟨c, _ | ⟨d, l⟩⟩
  · exact if_pos rfl
  · have hc : f 0 = c := hl 0 c rfl
    rw [if_neg (show ¬ Int32.ofNat [c].length = 0 from (by decide : ¬ Int32.ofNat 1 = 0)), if_pos (show Int32.ofNat [c].length = 1 from rfl), show dI h a 2 (0 : Int32) = some (f 0) from h_dI (j := 0) h1 (show 0 < 1 by decide) (show 1 < 2 ^ 31 by decide), b1_some, hc]
    refine congrArg (fun x => some (x, h)) ?_
    show c &&& 255 = 31 * 0 + (c &&& 255)
    rw [Int32.mul_zero, Int32.zero_add]
  · have e0 : ¬ Int32.ofNat (c :: d :: l).length = 0 := fun q => by
      rw [show (0 : Int32) = Int32.ofNat 0 from rfl, i32_eq (by omega) (by decide)] at q
      rw [List.length_cons] at q
      omega
    have e1 : ¬ Int32.ofNat (c :: d :: l).length = 1 := fun q => by
      rw [show (1 : Int32) = Int32.ofNat 1 from rfl, i32_eq (by omega) (by decide)] at q
      rw [List.length_cons, List.length_cons] at q
      omega
    rw [if_neg e0, if_neg e1, b1_some, gen]
end HH
/-- a String whose hash may be kept *(all that the component makes)* -/
def StrH (f : Nat → Option zC) (v : Nat) (l : List Int32) : Prop := ∃ a x y f2, f v = some (true, .inr (19, [.ref a, .int 0, .int x, .int y])) ∧ f a = some (true, .inl (2, l.length, .inl f2)) ∧ (∀ j c, l[j]? = some c → f2 j = c) ∧ l.length < 10000 ∧ (x = 0 ∨ x = hsh l) ∧ (y = 0 ∨ hsh l = 0)
theorem StrH_Str {f : Nat → Option zC} {v : Nat} {l : List Int32} (h : StrH f v l) : Str f v l := by
  obtain ⟨a, x, y, f2, h1, h2, h3, h4, h5⟩ := h
  exact ⟨true, a, x, y, true, f2, h1, h2, h3, by omega⟩
theorem StrH_mono {f f1 : Nat → Option zC} (h : ∀ b c, f b = some c → f1 b = some c) {v : Nat} {l : List Int32} (k : StrH f v l) : StrH f1 v l := by
  obtain ⟨a, x, y, f2, h1, h2, h3⟩ := k
  exact ⟨a, x, y, f2, h v _ h1, h a _ h2, h3⟩
theorem lst_eq {l1 l2 : List Int32} {f1 f2 : Nat → Int32} (h1 : ∀ j c, l1[j]? = some c → f1 j = c) (h2 : ∀ j c, l2[j]? = some c → f2 j = c) : (l1.length = l2.length ∧ ∀ i, i < l1.length → f1 i = f2 i) ↔ l1 = l2 := by
  refine ⟨fun q => ?_, fun q => ?_⟩
  · refine List.ext_getElem q.1 fun i i1 i2 => ?_
    have e1 := h1 i _ (List.getElem?_eq_getElem i1)
    have e2 := h2 i _ (List.getElem?_eq_getElem i2)
    rw [← e1, ← e2]
    exact q.2 i i1
  · subst q
    refine ⟨rfl, fun i i1 => ?_⟩
    rw [h1 i _ (List.getElem?_eq_getElem i1), h2 i _ (List.getElem?_eq_getElem i1)]
section ST
variable {p : cP} {s : cT} {g : zH} {E : zE}
theorem str_eq (hE : 20000 ≤ E.1) {v1 v2 : Nat} {l1 l2 : List Int32} (k1 : Str (rv0 p g) v1 l1) (k2 : Str (rv0 p g) v2 l2) (hn : l1.length < 10000) : f_J9_equals_J9 E v1 v2 (cH p s g) = some (bi (l1 = l2), cH p s g) := by
  obtain ⟨w1, a1, x1, y1, u1, f1, c1, d1, e1, n1⟩ := k1
  obtain ⟨w2, a2, x2, y2, u2, f2, c2, d2, e2, n2⟩ := k2
  obtain ⟨-, r1, c1'⟩ := rv0_spec c1
  obtain ⟨-, r2, c2'⟩ := rv0_spec c2
  obtain ⟨-, q1, d1'⟩ := rv0_spec d1
  obtain ⟨-, q2, d2'⟩ := rv0_spec d2
  have g1 : (cH p s g).1 a1 = some (u1, .inl (2, l1.length, .inl f1)) := (cH_raw q1).trans d1'
  have g2 : (cH p s g).1 a2 = some (u2, .inl (2, l2.length, .inl f2)) := (cH_raw q2).trans d2'
  have b1 : (cH p s g).1 v1 = some (w1, .inr (19, [.ref a1, .int 0, .int x1, .int y1])) := (cH_raw r1).trans c1'
  have b2 : (cH p s g).1 v2 = some (w2, .inr (19, [.ref a2, .int 0, .int x2, .int y2])) := (cH_raw r2).trans c2'
  unfold f_J9_equals_J9 f_J9_equals_J9_b0
  by_cases hv : v1 = v2
  · subst hv
    rw [if_pos rfl]
    rw [b1] at b2
    have ha : a1 = a2 := by injection b2 with z; injection z with _ z; injection z with z; injection z with _ z; injection z with z; injection z
    subst ha
    rw [g1] at g2
    have hl : l1.length = l2.length ∧ f1 = f2 := by injection g2 with z; injection z with _ z; injection z with z; injection z with _ z; injection z with z1 z2; injection z2 with z2; exact ⟨z1, z2⟩
    rw [bi_t ((lst_eq e1 e2).mp ⟨hl.1, fun i _ => by rw [hl.2]⟩)]
  · rw [if_neg (fun z => hv (Option.some.inj z))]
    have ck : cko (cH p s g) v2 19 = some () := by
      unfold cko isO
      rw [b2]
      rfl
    have i1 : gI (cH p s g) v1 19 1 = some 0 := by unfold gI; rw [h_obj b1]; rfl
    have i2 : gI (cH p s g) v2 19 1 = some 0 := by unfold gI; rw [h_obj b2]; rfl
    have t1 : gR (cH p s g) v1 19 0 = some a1 := by unfold gR; rw [h_obj b1]; rfl
    have t2 : gR (cH p s g) v2 19 0 = some a2 := by unfold gR; rw [h_obj b2]; rfl
    have k := j15 (E := E) hE g1 g2 hn (by omega)
    unfold f_J9_equals_J9_b36 f_J9_equals_J9_b54 f_J9_equals_J9_b55
    rw [ck, b1_some, if_neg (by decide), b1_some, if_neg (by decide), i1, b1_some, i2, b1_some, if_pos rfl, t1, b1_some, t2, b1_some, k, b2_some, bi_c (lst_eq e1 e2)]
    by_cases q : l1 = l2
    · rw [bi_t q, if_neg (by decide), zgd1, b1_some]
    · rw [bi_f q, if_pos rfl, zgd0, b1_some]
/-- raw Strings stay -/
def svw (f f1 : Nat → Option zC) : Prop := (∀ v l, Str f v l → Str f1 v l) ∧ ∀ v l, StrH f v l → StrH f1 v l
theorem svw_rfl (f : Nat → Option zC) : svw f f := ⟨fun _ _ h => h, fun _ _ h => h⟩
theorem svw_tr {f f1 f2 : Nat → Option zC} (h : svw f f1) (h1 : svw f1 f2) : svw f f2 := ⟨fun v l k => h1.1 v l (h.1 v l k), fun v l k => h1.2 v l (h.2 v l k)⟩
theorem svw_mono {f f1 : Nat → Option zC} (h : ∀ b c, f b = some c → f1 b = some c) : svw f f1 := ⟨fun _ _ k => Str_mono h k, fun _ _ k => StrH_mono h k⟩
theorem hashed {f f1 : Nat → Option zC} {v a : Nat} {l : List Int32} {x y x1 y1 : Int32} {f2 : Nat → Int32} (h1 : f v = some (true, .inr (19, [.ref a, .int 0, .int x, .int y]))) (h2 : f a = some (true, .inl (2, l.length, .inl f2))) (h3 : ∀ j c, l[j]? = some c → f2 j = c) (e1 : f1 v = some (true, .inr (19, [.ref a, .int 0, .int x1, .int y1]))) (e2 : ∀ b, b ≠ v → f1 b = f b) (q1 : x1 = 0 ∨ x1 = hsh l) (q2 : y1 = 0 ∨ hsh l = 0) : svw f f1 := by
  refine ⟨fun u m k => ?_, fun u m k => ?_⟩
  · obtain ⟨w, b, x2, y2, w2, f3, k1, k2, k3⟩ := k
    have nb : b ≠ v := fun q => by rw [q, h1] at k2; injection k2 with z; injection z with _ z; injection z
    by_cases w1 : u = v
    · subst w1
      rw [h1] at k1
      have hb : b = a ∧ w = true := by injection k1 with z; injection z with z0 z; injection z with z; injection z with _ z; injection z with z; injection z with z; exact ⟨z.symm, z0.symm⟩
      exact ⟨true, a, x1, y1, w2, f3, e1, by rw [← hb.1, e2 b nb]; exact k2, k3⟩
    · exact ⟨w, b, x2, y2, w2, f3, by rw [e2 u w1]; exact k1, by rw [e2 b nb]; exact k2, k3⟩
  · obtain ⟨b, x2, y2, f3, k1, k2, k3, k4, k5, k6⟩ := k
    have nb : b ≠ v := fun q => by rw [q, h1] at k2; injection k2 with z; injection z with _ z; injection z
    by_cases w1 : u = v
    · subst w1
      rw [h1] at k1
      have hb : b = a := by injection k1 with z; injection z with _ z; injection z with z; injection z with _ z; injection z with z; injection z with z; exact z.symm
      subst hb
      rw [h2] at k2
      have hl : l.length = m.length ∧ f2 = f3 := by injection k2 with z; injection z with _ z; injection z with z; injection z with _ z; injection z with z1 z2; injection z2 with z2; exact ⟨z1, z2⟩
      have hlm : l = m := (lst_eq h3 k3).mp ⟨hl.1, fun i _ => by rw [hl.2]⟩
      subst hlm
      exact ⟨b, x1, y1, f2, e1, by rw [e2 b nb]; exact h2, h3, k4, q1, q2⟩
    · exact ⟨b, x2, y2, f3, by rw [e2 u w1]; exact k1, by rw [e2 b nb]; exact k2, k3, k4, k5, k6⟩
theorem str_hash (hE : 20000 ≤ E.1) {v : Nat} {l : List Int32} (k : StrH (rv0 p g) v l) : ∃ g1, f_J9_hashCode E v (cH p s g) = some (hsh l, cH p s g1) ∧ g1.2 = g.2 ∧ (∀ b, b ≠ v → g1.1 b = g.1 b) ∧ p.2 v = none ∧ svw (rv0 p g) (rv0 p g1) := by
  obtain ⟨a, x, y, f2, h1, h2, h3, h4, h5, h6⟩ := k
  obtain ⟨v1, v2, v3⟩ := rv0_spec h1
  obtain ⟨a1, a2, a3⟩ := rv0_spec h2
  have b1 : (cH p s g).1 v = some (true, .inr (19, [.ref a, .int 0, .int x, .int y])) := (cH_raw v2).trans v3
  have b2 : (cH p s g).1 a = some (true, .inl (2, l.length, .inl f2)) := (cH_raw a2).trans a3
  have gi1 : gI (cH p s g) v 19 1 = some 0 := by unfold gI; rw [h_obj b1]; rfl
  have gi2 : gI (cH p s g) v 19 2 = some x := by unfold gI; rw [h_obj b1]; rfl
  have gi3 : gI (cH p s g) v 19 3 = some y := by unfold gI; rw [h_obj b1]; rfl
  have gr0 : gR (cH p s g) v 19 0 = some a := by unfold gR; rw [h_obj b1]; rfl
  have ck : cko (cH p s g) v 19 = some () := by unfold cko isO; rw [b1]; rfl
  have nothing : ∃ g1, (some (hsh l, cH p s g) : Option (Int32 × zH)) = some (hsh l, cH p s g1) ∧ g1.2 = g.2 ∧ (∀ b, b ≠ v → g1.1 b = g.1 b) ∧ p.2 v = none ∧ svw (rv0 p g) (rv0 p g1) := ⟨g, rfl, rfl, fun _ _ => rfl, v2, svw_rfl _⟩
  have wr : ∀ (j : Nat) (val : Int32) (x1 y1 : Int32), ([.ref a, .int 0, .int x, .int y] : List Value).set j (.int val) = [.ref a, .int 0, .int x1, .int y1] → j < 4 → (x1 = 0 ∨ x1 = hsh l) → (y1 = 0 ∨ hsh l = 0) → ∃ g1, pF (cH p s g) v 19 j (.int val) = some (cH p s g1) ∧ g1.2 = g.2 ∧ (∀ b, b ≠ v → g1.1 b = g.1 b) ∧ p.2 v = none ∧ svw (rv0 p g) (rv0 p g1) := fun j val x1 y1 hs hj q1 q2 => by
    refine ⟨zup g v (true, .inr (19, [.ref a, .int 0, .int x1, .int y1])), ?_, rfl, fun b hb => cu_ne _ _ hb, v2, ?_⟩
    · rw [r_pF v2]
      have e : pF g v 19 j (.int val) = some (zup g v (true, .inr (19, [.ref a, .int 0, .int x1, .int y1]))) := by
        unfold pF
        rw [v3]
        show (if 19 = 19 ∧ j < 4 then _ else none) = _
        rw [if_pos ⟨rfl, hj⟩, hs]
      rw [e]
      rfl
    · refine hashed (l := l) h1 h2 h3 (x1 := x1) (y1 := y1) ?_ (fun b hb => ?_) q1 q2
      · unfold rv0
        rw [if_pos (show v < (zup g v (true, .inr (19, [.ref a, .int 0, .int x1, .int y1]))).2.1 ∧ p.2 v = none from ⟨v1, v2⟩)]
        exact cu_same _ _ _
      · unfold rv0
        show (if b < g.2.1 ∧ p.2 b = none then va_up g.1 v _ b else none) = _
        rw [cu_ne _ _ hb]
  unfold f_J9_hashCode f_J9_hashCode_b0 f_J9_hashCode_b58
  rw [gi2, b1_some]
  by_cases q : x = 0
  · rw [if_pos q, gi3, b1_some]
    by_cases z : y = 0
    · unfold f_J9_isLatin1 f_J9_isLatin1_b0 f_J9_isLatin1_b18 f_J9_hashCode_b40 f_J9_hashCode_b58
      rw [if_pos z, ck, b1_some, if_neg (by decide), gi1, b1_some, if_pos rfl, zgd1, b1_some, b2_some, if_neg (by decide), gr0, b1_some, j15_hash hE b2 h3 h4, b2_some]
      by_cases hz : hsh l = 0
      · rw [if_pos hz]
        obtain ⟨g1, e1, e2⟩ := wr 3 1 x 1 rfl (by decide) (Or.inl q) (Or.inr hz)
        rw [e1, b1_some]
        exact ⟨g1, rfl, e2⟩
      · rw [if_neg hz]
        obtain ⟨g1, e1, e2⟩ := wr 2 (hsh l) (hsh l) y rfl (by decide) (Or.inr rfl) (Or.inl z)
        rw [e1, b1_some]
        exact ⟨g1, rfl, e2⟩
    · rw [if_neg z, q]
      have hz : hsh l = 0 := h6.resolve_left z
      rw [hz] at nothing ⊢
      exact nothing
  · rw [if_neg q, h5.resolve_left q]
    exact nothing
/-- names in a list -/
theorem named_l (hE : 20000 ≤ E.1) (hp : okP p s) (hx : px p) {c2 c5 c6 n v : Nat} {na : Nat → Nat} {nm : Nat → List Int32} {l : List Int32} (h1 : s.1 c2 = (1, 2)) (h2 : s.2.2.2 c2 1 = some c5) (hl : lst s c5 c6 n (fun i => XT + na i)) (hn : ∀ i, i < n → Str (rv0 p g) (na i) (nm i) ∧ (nm i).length < 10000) (hv : Str (rv0 p g) v l) : ∀ k j m, j + k = n → (∀ i, i < j → nm i ≠ l) → (∃ i, i < n ∧ nm i = l ∧ (∀ j, j < i → nm j ≠ l) ∧ f_X2_named_J9_l2 E (m + k + 1) (p.1 c2) v (Int32.ofNat j) (cH p s g) = some (Int32.ofNat i, cH p s g)) ∨ (∀ i, i < n → nm i ≠ l) ∧ f_X2_named_J9_l2 E (m + k + 1) (p.1 c2) v (Int32.ofNat j) (cH p s g) = some (-1, cH p s g)
  | 0, j, m, hj, hne => by
    refine Or.inr ⟨fun i hi => hne i (by omega), ?_⟩
    have n3 := hl.2.2.2.1
    rw [f_X2_named_J9_l2, c_gR hp h1 rfl h2, b1_some, c_cko hp hl.1, b1_some, b_size hp hl E, b2_some, if_pos (by rw [i32_le (by omega) (by omega)]; omega)]
  | k + 1, j, m, hj, hne => by
    have n3 := hl.2.2.2.1
    obtain ⟨s1, s2⟩ := hn j (by omega)
    obtain ⟨ck, -⟩ := str_len (s := s) (E := E) s1
    obtain ⟨ckv, -⟩ := str_len (s := s) (E := E) hv
    have hg : f_J2_get E (p.1 c5) (Int32.ofNat j) (cH p s g) = some (na j, cH p s g) := by
      have := b_get (g := g) hp hl E (show j < n by omega)
      rw [hx] at this
      exact this
    have hce : f_J9_contentEquals_J9 E (na j) v (cH p s g) = some (bi (nm j = l), cH p s g) := by
      unfold f_J9_contentEquals_J9 f_J9_contentEquals_J9_b0
      rw [ckv, b1_some, if_pos rfl, b1_some, if_neg (by decide), ck, b1_some, str_eq hE s1 hv s2, b2_some, zgd_bi, b1_some]
    rw [show m + (k + 1) + 1 = (m + k + 1) + 1 by omega, f_X2_named_J9_l2, c_gR hp h1 rfl h2, b1_some, c_cko hp hl.1, b1_some, b_size hp hl E, b2_some, if_neg (by rw [i32_le (by omega) (by omega)]; omega), c_gR hp h1 rfl h2, b1_some, c_cko hp hl.1, b1_some, hg, b2_some, ck, b1_some, b1_some, hce, b2_some]
    by_cases q : nm j = l
    · rw [if_neg (by rw [bi_t q]; decide)]
      exact Or.inl ⟨j, by omega, q, hne, rfl⟩
    · rw [if_pos (bi_f q), i32_s]
      exact named_l hE hp hx h1 h2 hl hn hv k (j + 1) m (by omega) (fun i hi => by
        by_cases w : i = j
        · rw [w]; exact q
        · exact hne i (by omega))
end ST
