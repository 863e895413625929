/-! closing a month: what the component's loops do to the tables -/
set_option maxRecDepth 100000
theorem ite_cg {a b : Prop} {da : Decidable a} {db : Decidable b} (h : a ↔ b) {α : Type} {x y x1 y1 : α} (hx : x = x1) (hy : y = y1) : (if a then x else y) = (if b then x1 else y1) := by
  subst hx hy
  exact if_iff h _ _
theorem SA_cg {s s1 : cT} {o : Nat} {f pc : Int32} : ∀ {no : Nat}, (∀ k, k < no → s1.2.1 (o + 170 + k) 1 = s.2.1 (o + 170 + k) 1 ∧ s1.2.2.1 (o + 170 + k) 2 = s.2.2.1 (o + 170 + k) 2) → SA s1 o no f pc = SA s o no f pc := by
  intro no
  induction no with
  | zero => intro _; rfl
  | succ j ih =>
    intro h
    show SA s1 o j f pc + (if s1.2.1 (o + 170 + j) 1 = f then s1.2.2.1 (o + 170 + j) 2 * pc.toInt64 / 100 else 0) = SA s o j f pc + (if s.2.1 (o + 170 + j) 1 = f then s.2.2.1 (o + 170 + j) 2 * pc.toInt64 / 100 else 0)
    rw [ih (fun k hk => h k (by omega)), (h j (by omega)).1, (h j (by omega)).2]
/-- longs behind the month's end: i franchisees, k outlets done -/
def EML (s : cT) (o no mo i k : Nat) : Nat → Nat → Int64 := fun c x => if o + 160 ≤ c ∧ c < o + 160 + i ∧ x = mo then SA s o no (Int32.ofNat (c - (o + 160))) 100 else if o + 190 ≤ c ∧ c < o + 190 + i ∧ x < 8 then 0 else if o + 170 ≤ c ∧ c < o + 170 + k ∧ x = 2 then 0 else s.2.2.1 c x
def emI (s : cT) (o no mo i k : Nat) (a : cT) : Prop := a.1 = s.1 ∧ a.2.1 = s.2.1 ∧ a.2.2.2 = s.2.2.2 ∧ ∀ c x, a.2.2.1 c x = EML s o no mo i k c x
/-- booked -/
def bkS (s : cT) (o i e : Nat) : cT := if s.2.1 (o + 130 + i) 5 = 0 then uL (uL (uI s (o + 130 + i) 7 (if s.2.2.1 (o + 130 + i) 8 ≤ 0 then 0 else s.2.1 (o + 130 + i) 7 + 1)) (o + 130 + i) 8 (s.2.2.1 (o + 130 + i) 8 + s.2.2.1 e 5)) (o + 130 + i) 9 (s.2.2.1 (o + 130 + i) 9 + s.2.2.1 e 1) else s
def BK (s : cT) (o g0 : Nat) : Nat → cT
  | 0 => s
  | i + 1 => bkS (BK s o g0 i) o i (XT + (g0 + i))
/-- a transfer that is due is done -/
def trS (s : cT) (o i : Nat) : cT := if s.2.1 (o + 140 + i) 0 = 2 then (if s.2.1 2 7 ≤ s.2.1 (o + 10) 5 - s.2.1 (o + 140 + i) 1 then uL (uI (uI (uI (uI s (o + 140 + i) 0 4) (o + 130 + i) 4 (s.2.1 (o + 140 + i) 2)) (o + 130 + i) 6 (s.2.1 (o + 130 + i) 6 + 1)) (o + 130 + i) 7 0) (o + 130 + i) 8 (s.2.2.1 (o + 130 + i) 8 + s.2.2.1 2 6) else s) else s
def CC (s : cT) (o g0 : Nat) : Nat → cT
  | 0 => s
  | i + 1 => uL (trS (CC s o g0 i) o i) (XT + (g0 + i)) 6 ((trS (CC s o g0 i) o i).2.2.1 (o + 130 + i) 8)
section FR
variable {s : cT} {o g0 : Nat}
theorem bkS_S (s : cT) (o i e : Nat) : (bkS s o i e).1 = s.1 := by unfold bkS; split <;> rfl
theorem bkS_R (s : cT) (o i e : Nat) : (bkS s o i e).2.2.2 = s.2.2.2 := by unfold bkS; split <;> rfl
theorem bkS_o (s : cT) {o i e c : Nat} (h : c ≠ o + 130 + i) : (bkS s o i e).2.1 c = s.2.1 c ∧ (bkS s o i e).2.2.1 c = s.2.2.1 c := by
  unfold bkS
  split
  · exact ⟨uI_row s h _ _, (uL_row _ h _ _).trans (uL_row _ h _ _)⟩
  · exact ⟨rfl, rfl⟩
theorem BK_S : ∀ i, (BK s o g0 i).1 = s.1
  | 0 => rfl
  | i + 1 => (bkS_S _ _ _ _).trans (BK_S i)
theorem BK_R : ∀ i, (BK s o g0 i).2.2.2 = s.2.2.2
  | 0 => rfl
  | i + 1 => (bkS_R _ _ _ _).trans (BK_R i)
theorem BK_o {c : Nat} : ∀ i, (∀ j, j < i → c ≠ o + 130 + j) → (BK s o g0 i).2.1 c = s.2.1 c ∧ (BK s o g0 i).2.2.1 c = s.2.2.1 c
  | 0, _ => ⟨rfl, rfl⟩
  | i + 1, h => by
    have e := bkS_o (BK s o g0 i) (e := XT + (g0 + i)) (h i (by omega))
    have k := BK_o i (fun j hj => h j (by omega))
    exact ⟨e.1.trans k.1, e.2.trans k.2⟩
theorem trS_S (s : cT) (o i : Nat) : (trS s o i).1 = s.1 := by unfold trS; split; split <;> rfl; rfl
theorem trS_R (s : cT) (o i : Nat) : (trS s o i).2.2.2 = s.2.2.2 := by unfold trS; split; split <;> rfl; rfl
theorem trS_o (s : cT) {o i c : Nat} (h : c ≠ o + 130 + i) (h1 : c ≠ o + 140 + i) : (trS s o i).2.1 c = s.2.1 c ∧ (trS s o i).2.2.1 c = s.2.2.1 c := by
  unfold trS
  split
  · split
    · refine ⟨?_, uL_row _ h _ _⟩
      rw [uL_I, uI_row _ h, uI_row _ h, uI_row _ h, uI_row _ h1]
    · exact ⟨rfl, rfl⟩
  · exact ⟨rfl, rfl⟩
theorem CC_S : ∀ i, (CC s o g0 i).1 = s.1
  | 0 => rfl
  | i + 1 => (trS_S _ _ _).trans (CC_S i)
theorem CC_R : ∀ i, (CC s o g0 i).2.2.2 = s.2.2.2
  | 0 => rfl
  | i + 1 => (trS_R _ _ _).trans (CC_R i)
theorem CC_o {c : Nat} : ∀ i, (∀ j, j < i → c ≠ o + 130 + j ∧ c ≠ o + 140 + j ∧ c ≠ XT + (g0 + j)) → (CC s o g0 i).2.1 c = s.2.1 c ∧ (CC s o g0 i).2.2.1 c = s.2.2.1 c
  | 0, _ => ⟨rfl, rfl⟩
  | i + 1, h => by
    have e := trS_o (CC s o g0 i) (h i (by omega)).1 (h i (by omega)).2.1
    have k := CC_o i (fun j hj => h j (by omega))
    exact ⟨e.1.trans k.1, (uL_row _ (h i (by omega)).2.2 _ _).trans (e.2.trans k.2)⟩
end FR
section LC
variable {E : zE} {N : iN} {s : cT} {g : zH}
theorem x_EM (hE : 1000 ≤ E.1) (h8 : N.2.1 ≤ 8) (h16 : N.2.2.1 ≤ 16) {mo : Nat} (hm : mo < 60) (hmo : s.2.1 (N.1 + 10) 5 = Int32.ofNat mo) : Ww (c_X4_endMonth E N s g) fun z => z.2.2 = g ∧ z.2.1.1 = s.1 ∧ z.2.1.2.2.2 = s.2.2.2 ∧ (∀ c x, z.2.1.2.1 c x = if c = N.1 + 10 ∧ x = 5 then Int32.ofNat (mo + 1) else s.2.1 c x) ∧ ∀ c x, z.2.1.2.2.1 c x = EML s N.1 N.2.2.1 mo N.2.1 N.2.2.1 c x := by
  unfold c_X4_endMonth c_X4_endMonth_b0
  refine w_lp (σ := cT) (L := fun m k a => c_X4_endMonth_l2 E N m k a g) (n := N.2.1) (by omega) (Inv := fun j a => emI s N.1 N.2.2.1 mo j 0 a) (fun m j a hj ha k => ?_) (fun m a ha => ?_) N.2.1 0 E.1 s (by omega) (by omega) ⟨rfl, rfl, rfl, fun c x => ?_⟩
  · show Ww (c_X4_endMonth_l2 E N (m + 1) (Int32.ofNat j) a g) _
    obtain ⟨a1, a2, a3, a4⟩ := ha
    have hSA : SA a N.1 N.2.2.1 (Int32.ofNat j) 100 = SA s N.1 N.2.2.1 (Int32.ofNat j) 100 := SA_cg fun q hq => ⟨by rw [a2], by
      rw [a4]
      unfold EML
      rw [if_neg (by omega), if_neg (by omega), if_neg (by omega)]⟩
    unfold c_X4_endMonth_l2
    rw [if_neg (le_ofn (by omega) hj), cGet_of hj (by omega), b1_some, x_SA hE h16, b2_some, a2, hmo, csL_of hm (by decide), b1_some]
    refine w_lp (σ := cT) (L := fun m2 k2 b => c_X4_endMonth_l45 E N (c_X4_endMonth_l2 E N m) m2 (Int32.ofNat j) k2 b g) (n := 8) (by decide) (Inv := fun q b => b.1 = s.1 ∧ b.2.1 = s.2.1 ∧ b.2.2.2 = s.2.2.2 ∧ ∀ c x, b.2.2.1 c x = if c = N.1 + 190 + j ∧ x < q then 0 else (uL a (N.1 + 160 + j) mo (SA a N.1 N.2.2.1 (Int32.ofNat j) 100)).2.2.1 c x) (fun m2 q b hq hb k2 => ?_) (fun m2 b hb => ?_) 8 0 E.1 _ rfl (by omega) ⟨a1, a2, a3, fun c x => (if_neg (by omega)).symm⟩
    · show Ww (c_X4_endMonth_l45 E N (c_X4_endMonth_l2 E N m) (m2 + 1) (Int32.ofNat j) (Int32.ofNat q) b g) _
      unfold c_X4_endMonth_l45
      rw [if_neg (show ¬ (8 : Int32) ≤ Int32.ofNat q from le_ofn (n := 8) (by decide) hq), cGet_of (show j < 8 by omega) (by decide), b1_some, csL_of hq (by decide), b1_some, i32_s]
      refine k2 _ ⟨hb.1, hb.2.1, hb.2.2.1, fun c x => ?_⟩
      by_cases e : c = N.1 + 190 + j ∧ x = q
      · rw [e.1, e.2, uL_s, if_pos ⟨rfl, by omega⟩]
      · rw [uL_ne _ _ (by omega), hb.2.2.2]
        by_cases e2 : c = N.1 + 190 + j ∧ x < q
        · rw [if_pos e2, if_pos ⟨e2.1, by omega⟩]
        · rw [if_neg e2, if_neg (by omega)]
    · show Ww (c_X4_endMonth_l45 E N (c_X4_endMonth_l2 E N m) (m2 + 1) (Int32.ofNat j) (Int32.ofNat 8) b g) _
      unfold c_X4_endMonth_l45
      rw [if_pos (show (8 : Int32) ≤ Int32.ofNat 8 from Int32.le_refl _), i32_s]
      refine k b ⟨hb.1, hb.2.1, hb.2.2.1, fun c x => ?_⟩
      rw [hb.2.2.2]
      by_cases e1 : c = N.1 + 190 + j ∧ x < 8
      · rw [if_pos e1]
        unfold EML
        rw [if_neg (by omega), if_pos (by omega)]
      · rw [if_neg e1]
        by_cases e2 : c = N.1 + 160 + j ∧ x = mo
        · rw [e2.1, e2.2, uL_s]
          unfold EML
          rw [if_pos ⟨by omega, by omega, rfl⟩, show N.1 + 160 + j - (N.1 + 160) = j by omega]
          exact hSA
        · rw [uL_ne _ _ (by omega), a4]
          unfold EML
          exact ite_cg (by omega) rfl (ite_cg (by omega) rfl rfl)
  · show Ww (c_X4_endMonth_l2 E N (m + 1) (Int32.ofNat N.2.1) a g) _
    unfold c_X4_endMonth_l2
    rw [if_pos (Int32.le_refl _)]
    refine w_lp (σ := cT) (L := fun m k a => c_X4_endMonth_l74 E N m k a g) (n := N.2.2.1) (by omega) (Inv := fun j a => emI s N.1 N.2.2.1 mo N.2.1 j a) (fun m q b hq hb k => ?_) (fun m b hb => ?_) N.2.2.1 0 E.1 a (by omega) (by omega) ha
    · show Ww (c_X4_endMonth_l74 E N (m + 1) (Int32.ofNat q) b g) _
      unfold c_X4_endMonth_l74
      rw [if_neg (le_ofn (by omega) hq), cGet_of hq (by omega), b1_some, i32_s]
      refine k _ ⟨hb.1, hb.2.1, hb.2.2.1, fun c x => ?_⟩
      by_cases e : c = N.1 + 170 + q ∧ x = 2
      · rw [e.1, e.2, uL_s]
        unfold EML
        rw [if_neg (by omega), if_neg (by omega), if_pos (by omega)]
      · rw [uL_ne _ _ (by omega), hb.2.2.2]
        unfold EML
        by_cases c1 : N.1 + 160 ≤ c ∧ c < N.1 + 160 + N.2.1 ∧ x = mo
        · rw [if_pos c1, if_pos c1]
        · rw [if_neg c1, if_neg c1]
          by_cases c2 : N.1 + 190 ≤ c ∧ c < N.1 + 190 + N.2.1 ∧ x < 8
          · rw [if_pos c2, if_pos c2]
          · rw [if_neg c2, if_neg c2]
            by_cases c3 : N.1 + 170 ≤ c ∧ c < N.1 + 170 + q ∧ x = 2
            · rw [if_pos c3, if_pos (by omega)]
            · rw [if_neg c3, if_neg (by omega)]
    · show Ww (c_X4_endMonth_l74 E N (m + 1) (Int32.ofNat N.2.2.1) b g) _
      unfold c_X4_endMonth_l74
      rw [if_pos (Int32.le_refl _), w_some]
      refine ⟨rfl, hb.1, hb.2.2.1, fun c x => ?_, hb.2.2.2⟩
      show (uI b (N.1 + 10) 5 (b.2.1 (N.1 + 10) 5 + 1)).2.1 c x = _
      rw [hb.2.1, hmo, i32_s, uI_app, hb.2.1]
  · unfold EML
    rw [if_neg (by omega), if_neg (by omega), if_neg (by omega)]
theorem cRow_of {c e j : Nat} (hj : j < 60) (h : s.2.2.2 c j = some e) (he : s.1 e = (3, 7)) : cRow s c (Int32.ofNat j) = some e := by
  unfold cRow
  rw [nat_clamp (by omega), if_pos (fun q => q.elim (i32_nneg (by omega)) (by omega)), h]
  exact if_pos he
theorem x_bk {i e : Nat} (he : s.1 e = (3, 7)) (hne : e ≠ N.1 + 130 + i) : c_X4_book E N i e s g = some ((), (bkS s N.1 i e, g)) := by
  have h5 : ∀ a : cT, cdL a e 7 (5 : Int32) = some (a.2.2.1 e 5) := fun a => cdL_of (j := 5) (by decide) (by decide)
  have h1 : ∀ a : cT, cdL a e 7 (1 : Int32) = some (a.2.2.1 e 1) := fun a => cdL_of (j := 1) (by decide) (by decide)
  have fin : ∀ v, c_X4_book_b28 N i e v s g = some ((), (uL (uL (uI s (N.1 + 130 + i) 7 v) (N.1 + 130 + i) 8 (s.2.2.1 (N.1 + 130 + i) 8 + s.2.2.1 e 5)) (N.1 + 130 + i) 9 (s.2.2.1 (N.1 + 130 + i) 9 + s.2.2.1 e 1), g)) := fun v => by
    unfold c_X4_book_b28
    rw [h5, b1_some, h1, b1_some, uL_ne _ _ (Or.inl hne), uL_ne (c1 := N.1 + 130 + i) (k1 := 9) _ _ (Or.inr (by decide))]
    rfl
  unfold c_X4_book bkS
  rw [x_isAc, b2_some]
  by_cases c : s.2.1 (N.1 + 130 + i) 5 = 0
  · rw [bi_t c, if_neg (by decide), if_pos he, if_pos c, fin, fin]
    by_cases q : s.2.2.1 (N.1 + 130 + i) 8 ≤ 0
    · rw [if_pos q, if_pos q]
    · rw [if_neg q, if_neg q]
  · rw [bi_f c, if_pos rfl, if_neg c]
theorem x_tr (i : Nat) : c_X4_transfer E N i s g = some ((), (trS s N.1 i, g)) := by
  unfold c_X4_transfer c_X4_transfer_b0 c_X4_transfer_b35 trS
  by_cases c : s.2.1 (N.1 + 140 + i) 0 = 2
  · rw [if_pos c, if_pos c]
    by_cases q : s.2.1 2 7 ≤ s.2.1 (N.1 + 10) 5 - s.2.1 (N.1 + 140 + i) 1
    · rw [if_pos q, if_pos q]
      have n1 : N.1 + 130 + i ≠ N.1 + 140 + i := by omega
      rw [uI_ne s (c1 := N.1 + 140 + i) (k1 := 2) _ (Or.inr (by decide)), uI_ne (c1 := N.1 + 130 + i) (k1 := 6) _ _ (Or.inr (by decide)), uI_ne (c1 := N.1 + 130 + i) (k1 := 6) _ _ (Or.inl n1)]
      rfl
    · rw [if_neg q, if_neg q]
  · rw [if_neg c, if_neg c]
theorem x_l146 (h8 : N.2.1 ≤ 8) {mo g0 : Nat} (hE : 1000 ≤ E.1) (hm : mo < 60) (hX : N.1 + 200 ≤ XT) (hmo : s.2.1 (N.1 + 10) 5 = Int32.ofNat mo) (hS : ∀ i, i < N.2.1 → s.2.2.2 (N.1 + 150 + i) mo = some (XT + (g0 + i)) ∧ s.1 (XT + (g0 + i)) = (3, 7)) {Q : Unit × (cT × zH) → Prop} (hQ : Ww (c_X4_endMonth E N (CC s N.1 g0 N.2.1) g) Q) : Ww (c_close_l146 E N E.1 (0 : Int32) s g) Q := by
  refine w_lp (σ := cT) (L := fun m k a => c_close_l146 E N m k a g) (n := N.2.1) (by omega) (Inv := fun j a => a = CC s N.1 g0 j) (fun m j a hj ha k => ?_) (fun m a ha => ?_) N.2.1 0 E.1 s (by omega) (by omega) rfl
  · show Ww (c_close_l146 E N (m + 1) (Int32.ofNat j) a g) _
    have e1 : (trS a N.1 j).2.1 (N.1 + 10) 5 = Int32.ofNat mo := by
      rw [(trS_o a (by omega) (by omega)).1, ha, (CC_o j (fun q hq => ⟨by omega, by omega, by omega⟩)).1, hmo]
    have e2 : (trS a N.1 j).2.2.2 (N.1 + 150 + j) mo = some (XT + (g0 + j)) := by
      rw [trS_R, ha, CC_R]; exact (hS j hj).1
    have e3 : (trS a N.1 j).1 (XT + (g0 + j)) = (3, 7) := by
      rw [trS_S, ha, CC_S]; exact (hS j hj).2
    unfold c_close_l146
    rw [if_neg (le_ofn (by omega) hj), cGet_of hj (by omega), b1_some, x_tr, b2_some, e1, cRow_of hm e2 e3, b1_some]
    rw [show csL (trS a N.1 j) (XT + (g0 + j)) 7 (6 : Int32) ((trS a N.1 j).2.2.1 (N.1 + 130 + j) 8) = some _ from csL_of (j := 6) (by decide) (by decide), b1_some, i32_s]
    exact k _ (by rw [ha]; rfl)
  · show Ww (c_close_l146 E N (m + 1) (Int32.ofNat N.2.1) a g) _
    unfold c_close_l146
    rw [if_pos (Int32.le_refl _), ha]
    rw [w_bnd2]
    exact w_mono hQ fun z hz => w_some.mpr hz
/-- the fund's share of the advertising is laid to what was spent -/
def adS (s : cT) (o nf g0 : Nat) : cT := uL (BK s o g0 nf) (o + 20) 0 (s.2.2.1 (o + 20) 0 + (sml (fun i => s.2.2.1 (XT + (g0 + i)) 1) nf * (s.2.1 9 0).toInt64 + 5000) / 10000)
theorem x_l53 (h8 : N.2.1 ≤ 8) {mo g0 : Nat} (hE : 1000 ≤ E.1) (hm : mo < 60) (hX : N.1 + 200 ≤ XT) (h2 : 200 ≤ N.1) (hmo : s.2.1 (N.1 + 10) 5 = Int32.ofNat mo) (hS : ∀ i, i < N.2.1 → s.2.2.2 (N.1 + 150 + i) mo = some (XT + (g0 + i)) ∧ s.1 (XT + (g0 + i)) = (3, 7)) {Q : Unit × (cT × zH) → Prop} (hQ : Ww (c_X4_endMonth E N (CC (adS s N.1 N.2.1 g0) N.1 g0 N.2.1) g) Q) : Ww (c_close_l53 E N E.1 (0 : Int64) (0 : Int32) s g) Q := by
  refine w_lp (σ := Int64 × cT) (L := fun m k a => c_close_l53 E N m a.1 k a.2 g) (n := N.2.1) (by omega) (Inv := fun j a => a = (sml (fun i => s.2.2.1 (XT + (g0 + i)) 1) j, BK s N.1 g0 j)) (fun m j a hj ha k => ?_) (fun m a ha => ?_) N.2.1 0 E.1 (0, s) (by omega) (by omega) rfl
  · show Ww (c_close_l53 E N (m + 1) a.1 (Int32.ofNat j) a.2 g) _
    subst ha
    have e1 : (BK s N.1 g0 j).2.1 (N.1 + 10) 5 = Int32.ofNat mo := by
      rw [(BK_o j (fun q hq => by omega)).1, hmo]
    have e2 : (BK s N.1 g0 j).2.2.2 (N.1 + 150 + j) mo = some (XT + (g0 + j)) := by rw [BK_R]; exact (hS j hj).1
    have e3 : (BK s N.1 g0 j).1 (XT + (g0 + j)) = (3, 7) := by rw [BK_S]; exact (hS j hj).2
    have e4 : (bkS (BK s N.1 g0 j) N.1 j (XT + (g0 + j))).1 (XT + (g0 + j)) = (3, 7) := by rw [bkS_S]; exact e3
    have e5 : (bkS (BK s N.1 g0 j) N.1 j (XT + (g0 + j))).2.2.1 (XT + (g0 + j)) 1 = s.2.2.1 (XT + (g0 + j)) 1 := by
      rw [(bkS_o _ (by omega)).2, (BK_o j (fun q hq => by omega)).2]
    unfold c_close_l53
    rw [if_neg (le_ofn (by omega) hj), cGet_of hj (by omega), b1_some, e1, cRow_of hm e2 e3, b1_some, x_bk e3 (by omega), b2_some, if_pos e4]
    rw [show cdL (bkS (BK s N.1 g0 j) N.1 j (XT + (g0 + j))) (XT + (g0 + j)) 7 (1 : Int32) = some _ from cdL_of (j := 1) (by decide) (by decide), b1_some, i32_s, e5]
    exact k (_, _) rfl
  · show Ww (c_close_l53 E N (m + 1) a.1 (Int32.ofNat N.2.1) a.2 g) _
    subst ha
    have e6 : (BK s N.1 g0 N.2.1).2.2.1 (N.1 + 20) = s.2.2.1 (N.1 + 20) := (BK_o _ (fun q hq => by omega)).2
    have e7 : (BK s N.1 g0 N.2.1).2.1 9 = s.2.1 9 := (BK_o _ (fun q hq => by omega)).1
    have e8 : ∀ (a : cT) (v : Int64), csL a (N.1 + 20) 3 (0 : Int32) v = some (uL a (N.1 + 20) 0 v) := fun a v => csL_of (j := 0) (by decide) (by decide)
    unfold c_close_l53
    rw [if_pos (Int32.le_refl _)]
    rw [show cdL (BK s N.1 g0 N.2.1) (N.1 + 20) 3 (0 : Int32) = some _ from cdL_of (j := 0) (by decide) (by decide), b1_some, x_rated, b2_some, e8, b1_some, e6, e7]
    refine x_l146 h8 hE hm hX ?_ (fun i hi => ⟨?_, ?_⟩) hQ
    · show (BK s N.1 g0 N.2.1).2.1 (N.1 + 10) 5 = _
      rw [(BK_o _ (fun q hq => by omega)).1, hmo]
    · show (BK s N.1 g0 N.2.1).2.2.2 _ _ = _
      rw [BK_R]; exact (hS i hi).1
    · show (BK s N.1 g0 N.2.1).1 _ = _
      rw [BK_S]; exact (hS i hi).2
end LC
