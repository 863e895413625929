/-! snapshots -/
set_option maxRecDepth 100000
section RC
variable {s s1 : cT} {o u nf no mo np n : Nat} {t : Nat → Int64}
theorem RB_copy (h : RB s u nf no mo t) (c : bkC s s1 o u nf no mo) (hx : rX s u nf mo) (hrow : ∀ e, XT ≤ e → s.1 e = (3, 7) → s1.1 e = (3, 7) ∧ s1.2.2.1 e = s.2.2.1 e) : RB s1 o nf no mo t ∧ rX s1 o nf mo := by
  obtain ⟨⟨a1, a2, a3, a4⟩, hF, hO, hC, hSp, hD, hRe, hIv⟩ := h
  obtain ⟨c1, c2, c3, c4, c5, c6⟩ := c
  refine ⟨⟨⟨a1, by rw [c6]; exact a2, a3, a4⟩, fun j hj => ?_, fun k hk => ?_, fun c hc => by rw [c3 c hc]; exact hC c hc, fun k hk => by rw [c5 k hk]; exact hSp k hk, fun f hf g hg => by rw [c4 f g hf hg]; exact hD f hf g hg, fun f hf m hm => by rw [(c1 f hf).2.2.2.2.2 m hm]; exact hRe f hf m hm, fun f hf m hm => ?_⟩, fun i m e hi hm he => ?_⟩
  · obtain ⟨d1, d2, d3, d4, d5, d6⟩ := c1 j hj
    have k := hF j hj
    unfold frR at k ⊢
    rw [d1 3 (by decide) (by decide), d1 4 (by decide) (by decide), d1 5 (by decide) (by decide), d1 6 (by decide) (by decide), d1 7 (by decide) (by decide), d2 8 (by decide) (by decide), d2 9 (by decide) (by decide), d2 10 (by decide) (by decide), d3 0 (by decide), d3 1 (by decide), d3 2 (by decide), d3 3 (by decide), d3 4 (by decide), d3 5 (by decide), d4]
    exact k
  · obtain ⟨d1, d2, d3⟩ := c2 k hk
    have q := hO k hk
    unfold ouR at q ⊢
    rw [d1, d2, d3]
    exact q
  · obtain ⟨e, e1, e2, e3⟩ := hIv f hf m hm
    have k := hrow e (hx f m e hf hm e1) e2
    exact ⟨e, ((c1 f hf).2.2.2.2.1 m hm).trans e1, k.1, fun q hq => by rw [k.2]; exact e3 q hq⟩
  · rw [(c1 i hi).2.2.2.2.1 m hm] at he
    exact hx i m e hi hm he
end RC
/-- a block copied -/
def blk (f : Nat → Int64) (i j : Nat) : Nat → Int64 := fun y => if 5054 * j ≤ y ∧ y < 5054 * j + 5054 then f (5054 * i + (y - 5054 * j)) else f y
theorem y_copyB {E : zE} {t : twS} (hE : 20000 ≤ E.1) {i j : Nat} (hi : i < 4) (hj : j < 4) (hne : i ≠ j) : t_X6_copyBlock E (Int32.ofNat i) (Int32.ofNat j) t = some ((), uSt t (blk t.1 i j)) := by
  rw [← w_eq]
  unfold t_X6_copyBlock t_X6_copyBlock_b0
  refine w_lp (σ := Nat → Int64) (L := fun m k a => t_X6_copyBlock_l2 E m (Int32.ofNat i) (Int32.ofNat j) k (uSt t a)) (n := 5054) (by decide) (Inv := fun k a => ∀ y, a y = if 5054 * j ≤ y ∧ y < 5054 * j + k then t.1 (5054 * i + (y - 5054 * j)) else t.1 y) (fun m k a hk ha kk => ?_) (fun m a ha => ?_) 5054 0 E.1 t.1 rfl (by omega) (fun y => (if_neg (by omega)).symm)
  · show Ww (t_X6_copyBlock_l2 E (m + 1) (Int32.ofNat i) (Int32.ofNat j) (Int32.ofNat k) (uSt t a)) _
    have e1 : tdL (uSt t a) 1 ((5054 : Int32) * Int32.ofNat i + Int32.ofNat k) = some (a (5054 * i + k)) := by
      show tdL (uSt t a) 1 (Int32.ofNat 5054 * Int32.ofNat i + Int32.ofNat k) = _
      rw [← Int32.ofNat_mul, ← Int32.ofNat_add, y_d (by omega)]
      rfl
    have e2 : ∀ v, tsL (uSt t a) 1 ((5054 : Int32) * Int32.ofNat j + Int32.ofNat k) v = some (uSt t (va_up a (5054 * j + k) v)) := fun v => by
      show tsL (uSt t a) 1 (Int32.ofNat 5054 * Int32.ofNat j + Int32.ofNat k) v = _
      rw [← Int32.ofNat_mul, ← Int32.ofNat_add, y_s (by omega)]
      rfl
    unfold t_X6_copyBlock_l2
    rw [if_neg (show ¬ (5054 : Int32) ≤ Int32.ofNat k from le_ofn (n := 5054) (by decide) hk), e1, b1_some, e2, b1_some, i32_s]
    refine kk _ (fun y => ?_)
    by_cases w : y = 5054 * j + k
    · rw [w, cu_same, if_pos (by omega), ha, if_neg (by omega), show 5054 * j + k - 5054 * j = k by omega]
    · rw [cu_ne _ _ w, ha]
      exact ite_cg (by omega) rfl rfl
  · show Ww (t_X6_copyBlock_l2 E (m + 1) (Int32.ofNat i) (Int32.ofNat j) (Int32.ofNat 5054) (uSt t a)) _
    unfold t_X6_copyBlock_l2
    rw [if_pos (show (5054 : Int32) ≤ Int32.ofNat 5054 from Int32.le_refl _), w_some]
    exact congrArg (fun f => ((), uSt t f)) (funext ha)
theorem blk_lo {f : Nat → Int64} {i j y : Nat} (hj : 0 < j) (hy : y < 5054) : blk f i j y = f y := if_neg (by omega)
section CS
variable {p : cP} {s : cT} {g : zH}
theorem c_sB (hp : okP p s) {c e n : Nat} {j : Int32} (hc : s.1 c = (8, n)) (he : s.1 e = (1, 4)) (hj : ¬ (j < 0 ∨ n ≤ j.toNatClampNeg)) : sB (cH p s g) (p.1 c) j (p.1 e) = some (cH p (uR s c j.toNatClampNeg (some e)) g) := by
  have hz : (s.1 c).1 ≠ 0 := by rw [hc]; exact Nat.succ_ne_zero _
  have hze : (s.1 e).1 ≠ 0 := by rw [he]; exact Nat.succ_ne_zero _
  have hput := cH_put (g := g) (s1 := uR s c j.toNatClampNeg (some e)) hp hz rfl (fun d hd => cC_off rfl rfl rfl (cu_ne _ _ hd))
  rw [cC_arr (s := uR s c j.toNatClampNeg (some e)) (t := 6) (n := n) hc] at hput
  have e1 : cA p.1 (uR s c j.toNatClampNeg (some e)) c 6 = .inr (.inr (va_up (fun i => (s.2.2.2 c i).map p.1) j.toNatClampNeg (some (p.1 e)))) := congrArg (fun x => Sum.inr (Sum.inr x)) (cA_R p.1 s c j.toNatClampNeg (some e))
  rw [e1] at hput
  unfold sB
  rw [cH_at hp hz, cH_at hp hze, cC_arr (t := 6) hc, cC_obj he]
  exact (if_pos ⟨rfl, rfl, hj⟩).trans (congrArg some hput)
end CS
