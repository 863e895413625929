/-! helpers of the component's functions on tables -/
set_option maxRecDepth 100000
theorem kb1 {α β : Type} {o : Option α} {v : α} {F : α → Option β} {r : Option β} {P : Prop} (h : o = some v) (k : F v = r ∧ P) : o.bind F = r ∧ P := ⟨tb1 h k.1, k.2⟩
theorem kbc {α β γ : Type} {o : Option (α × β)} {a : α} {b : β} {F : α → β → Option γ} {r : Option γ} {P : Prop} (h : o = some (a, b)) (k : F a b = r ∧ P) : bnd2 o F = r ∧ P := ⟨tbc h k.1, k.2⟩
theorem kif_t {β : Type} {c : Prop} {d : Decidable c} {A B r : Option β} {P : Prop} (hc : c) (k : A = r ∧ P) : (if c then A else B) = r ∧ P := ⟨(if_pos hc).trans k.1, k.2⟩
theorem kif_f {β : Type} {c : Prop} {d : Decidable c} {A B r : Option β} {P : Prop} (hc : ¬ c) (k : B = r ∧ P) : (if c then A else B) = r ∧ P := ⟨(if_neg hc).trans k.1, k.2⟩
theorem kel0_l {α β γ : Type} {F : α → γ} {G : β → γ} {x : α} {r : γ} {P : Prop} (k : F x = r ∧ P) : Sum.elim F G (.inl x) = r ∧ P := k
theorem kel0_r {α β γ : Type} {F : α → γ} {G : β → γ} {x : β} {r : γ} {P : Prop} (k : G x = r ∧ P) : Sum.elim F G (.inr x) = r ∧ P := k
theorem kel_l {α β γ δ : Type} {u : δ → α} {F : α → γ} {G : β → γ} {x : δ} {r : γ} {P : Prop} (k : F (u x) = r ∧ P) : Sum.elim F G (Sum.map u id (.inl x)) = r ∧ P := k
theorem kel_r {α β γ δ : Type} {u : δ → α} {F : α → γ} {G : β → γ} {x : β} {r : γ} {P : Prop} (k : G x = r ∧ P) : Sum.elim F G (Sum.map u id (.inr x)) = r ∧ P := k
def cdI (s : cT) (c n : Nat) (j : Int32) : Option Int32 := if ¬ (j < 0 ∨ n ≤ j.toNatClampNeg) then some (s.2.1 c j.toNatClampNeg) else none
def cdL (s : cT) (c n : Nat) (j : Int32) : Option Int64 := if ¬ (j < 0 ∨ n ≤ j.toNatClampNeg) then some (s.2.2.1 c j.toNatClampNeg) else none
def csI (s : cT) (c n : Nat) (j v : Int32) : Option cT := if ¬ (j < 0 ∨ n ≤ j.toNatClampNeg) then some (uI s c j.toNatClampNeg v) else none
def csL (s : cT) (c n : Nat) (j : Int32) (v : Int64) : Option cT := if ¬ (j < 0 ∨ n ≤ j.toNatClampNeg) then some (uL s c j.toNatClampNeg v) else none
def cGet (n : Nat) (k : Int32) : Option Nat := if ¬ (k < 0 ∨ n ≤ k.toNatClampNeg) then some k.toNatClampNeg else none
theorem z_ite {α : Type} {c : Prop} {d : Decidable c} {v x : α} (h : (if c then some v else none) = some x) : c ∧ v = x := by
  by_cases hc : c
  · rw [if_pos hc] at h
    exact ⟨hc, Option.some.inj h⟩
  · rw [if_neg hc] at h
    cases h
theorem cdI_spec {s : cT} {c n : Nat} {j x : Int32} (h : cdI s c n j = some x) : ¬ (j < 0 ∨ n ≤ j.toNatClampNeg) ∧ s.2.1 c j.toNatClampNeg = x := z_ite h
theorem cdL_spec {s : cT} {c n : Nat} {j : Int32} {x : Int64} (h : cdL s c n j = some x) : ¬ (j < 0 ∨ n ≤ j.toNatClampNeg) ∧ s.2.2.1 c j.toNatClampNeg = x := z_ite h
theorem csI_spec {s x : cT} {c n : Nat} {j v : Int32} (h : csI s c n j v = some x) : ¬ (j < 0 ∨ n ≤ j.toNatClampNeg) ∧ uI s c j.toNatClampNeg v = x := z_ite h
theorem csL_spec {s x : cT} {c n : Nat} {j : Int32} {v : Int64} (h : csL s c n j v = some x) : ¬ (j < 0 ∨ n ≤ j.toNatClampNeg) ∧ uL s c j.toNatClampNeg v = x := z_ite h
theorem cGet_lt {n : Nat} {k : Int32} {i : Nat} (h : cGet n k = some i) : i < n := by
  obtain ⟨h1, h2⟩ := z_ite h
  omega
theorem cGet_eq {n : Nat} {k : Int32} {i : Nat} (h : cGet n k = some i) : k = Int32.ofNat i ∧ ¬ (k < 0 ∨ n ≤ k.toNatClampNeg) ∧ k.toNatClampNeg = i := by
  obtain ⟨h1, h2⟩ := z_ite h
  refine ⟨?_, h1, h2⟩
  have h3 : ¬ k < 0 := fun q => h1 (Or.inl q)
  have h4 : (0 : Int) ≤ k.toInt := by
    have := Int32.not_lt.mp h3
    simpa using Int32.le_iff_toInt_le.mp this
  have h5 : k.toInt < 2 ^ 31 := Int32.toInt_lt k
  have h6 : (k.toInt.toNat : Int) = k.toInt := by omega
  have h7 : k.toInt.toNat = i := h2
  apply Int32.toInt_inj.mp
  rw [Int32.toInt_ofNat_of_lt (by omega)]
  omega
section CHL
variable {p : cP} {s : cT} {g : zH} {N : iN}
theorem r_ckt {a : Nat} (ha : p.2 a = none) (ci : Nat) : ckt (cH p s g) a ci = ckt g a ci := by unfold ckt; rw [cH_raw ha]
theorem gle_nA {t q : Nat} {x : Int32} {d : zS} {g1 : zH} (e : nA g t x d = some (q, g1)) : g.2.1 ≤ g1.2.1 := by obtain ⟨-, -, rfl⟩ := znA e; exact Nat.le_succ _
theorem gle_nO {ci n q : Nat} {fs : List Value} {g1 : zH} (e : nO g ci n fs = some (q, g1)) : g.2.1 ≤ g1.2.1 := by obtain ⟨-, -, rfl⟩ := znO e; exact Nat.le_succ _
theorem gle_sI {a t : Nat} {j x : Int32} {g1 : zH} (e : sI g a t j x = some g1) : g.2.1 ≤ g1.2.1 := by obtain ⟨n, f, -, -, rfl⟩ := zsI e; exact Nat.le_refl _
theorem gle_sL {a : Nat} {j : Int32} {x : Int64} {g1 : zH} (e : sL g a j x = some g1) : g.2.1 ≤ g1.2.1 := by obtain ⟨n, f, -, -, rfl⟩ := zsL e; exact Nat.le_refl _
theorem gle_pF {a ci k : Nat} {v : Value} {g1 : zH} (e : pF g a ci k v = some g1) : g.2.1 ≤ g1.2.1 := by
  unfold pF at e
  split at e
  · split at e
    · cases e; exact Nat.le_refl _
    · cases e
  · cases e
theorem hq_nA (h : iH p s g N) {t q : Nat} {x : Int32} {d : zS} {g1 : zH} (e : nA g t x d = some (q, g1)) : p.2 q = none := by obtain ⟨-, rfl, -⟩ := znA e; exact h.2.1 _ (Nat.le_refl _)
theorem hq_nO (h : iH p s g N) {ci n q : Nat} {fs : List Value} {g1 : zH} (e : nO g ci n fs = some (q, g1)) : p.2 q = none := by obtain ⟨-, rfl, -⟩ := znO e; exact h.2.1 _ (Nat.le_refl _)
theorem k_nA (h : iH p s g N) {t q : Nat} {x : Int32} {d : zS} {g1 : zH} (e : nA g t x d = some (q, g1)) : nA (cH p s g) t x d = some (q, cH p s g1) := by rw [r_nA (h.2.1 _ (Nat.le_refl _)), e]; rfl
theorem k_nO (h : iH p s g N) {ci n q : Nat} {fs : List Value} {g1 : zH} (e : nO g ci n fs = some (q, g1)) : nO (cH p s g) ci n fs = some (q, cH p s g1) := by rw [r_nO (h.2.1 _ (Nat.le_refl _)), e]; rfl
theorem a_FL_G (h : iH p s g N) (E : zE) {k : Int32} {i : Nat} (e : cGet N.2.1 k = some i) : f_J2_get E (p.1 (N.1 + 11)) k (cH p s g) = some (p.1 (N.1 + 130 + i), cH p s g) := by rw [(cGet_eq e).1]; exact a_FL_g h E (cGet_lt e)
theorem a_OL_G (h : iH p s g N) (E : zE) {k : Int32} {i : Nat} (e : cGet N.2.2.1 k = some i) : f_J2_get E (p.1 (N.1 + 13)) k (cH p s g) = some (p.1 (N.1 + 170 + i), cH p s g) := by rw [(cGet_eq e).1]; exact a_OL_g h E (cGet_lt e)
theorem a_PL_G (h : iH p s g N) (E : zE) {k : Int32} {i : Nat} (e : cGet N.2.2.2.1 k = some i) : f_J2_get E (p.1 3) k (cH p s g) = some (p.1 (30 + i), cH p s g) := by rw [(cGet_eq e).1]; exact a_PL_g h E (cGet_lt e)
theorem a_TL_G (h : iH p s g N) {i : Nat} (hi : i < N.2.2.2.1) (E : zE) {k : Int32} {j : Nat} (e : cGet (N.2.2.2.2 i) k = some j) : f_J2_get E (p.1 (50 + i)) k (cH p s g) = some (p.1 (70 + 8 * i + j), cH p s g) := by rw [(cGet_eq e).1]; exact a_TL_g h hi E (cGet_lt e)
theorem a_del_G (h : iH p s g N) {k : Int32} {i : Nat} (e : cGet 8 k = some i) : dR (cH p s g) (p.1 (N.1 + 19)) 5 k = some (p.1 (N.1 + 190 + i)) := a_del_d h (cGet_eq e).2.1 (by rw [(cGet_eq e).2.2]; exact (h.2.2.2.1.2.2.2.2.2.2.2.2.2.2.2.2.2.2.2.1 i (cGet_lt e)).1)
end CHL
/-! copies of ints between presented arrays -/
def uA (s : cT) (c : Nat) (f : Nat → Int32) : cT := (s.1, (va_up s.2.1 c f, s.2.2))
def ccpI (s : cT) (a n0 b n1 : Nat) (sp dp n : Int32) : Option cT := if ¬ sp < 0 ∧ ¬ dp < 0 ∧ ¬ n < 0 ∧ sp.toNatClampNeg + n.toNatClampNeg ≤ n0 ∧ dp.toNatClampNeg + n.toNatClampNeg ≤ n1 then some (uA s b (va_cpy (s.2.1 a) (s.2.1 b) sp.toNatClampNeg dp.toNatClampNeg n.toNatClampNeg)) else none
theorem c_cpI {p : cP} {s s1 : cT} {g : zH} (hp : okP p s) {a b t n0 n1 : Nat} (ha : s.1 a = (t + 2, n0)) (hb : s.1 b = (t + 2, n1)) (ht : t = 0 ∨ t = 2 ∨ t = 3) {sp dp n : Int32} (hc : ccpI s a n0 b n1 sp dp n = some s1) : cpA (cH p s g) (p.1 a) sp (p.1 b) dp n = some (cH p s1 g) := by
  obtain ⟨⟨h1, h2, h3, h4, h5⟩, rfl⟩ := z_ite hc
  have za : (s.1 a).1 ≠ 0 := by rw [ha]; exact Nat.succ_ne_zero _
  have zb : (s.1 b).1 ≠ 0 := by rw [hb]; exact Nat.succ_ne_zero _
  have ea : cA p.1 s a t = .inl (s.2.1 a) := by rcases ht with rfl | rfl | rfl <;> rfl
  have eb : cA p.1 s b t = .inl (s.2.1 b) := by rcases ht with rfl | rfl | rfl <;> rfl
  have hput := cH_put (g := g) (s1 := uA s b (va_cpy (s.2.1 a) (s.2.1 b) sp.toNatClampNeg dp.toNatClampNeg n.toNatClampNeg)) hp zb rfl (fun d hd => cC_off rfl (cu_ne _ _ hd) rfl rfl)
  rw [cC_arr (s := uA s b (va_cpy (s.2.1 a) (s.2.1 b) sp.toNatClampNeg dp.toNatClampNeg n.toNatClampNeg)) (t := t) (n := n1) hb] at hput
  have ec : cA p.1 (uA s b (va_cpy (s.2.1 a) (s.2.1 b) sp.toNatClampNeg dp.toNatClampNeg n.toNatClampNeg)) b t = .inl (va_cpy (s.2.1 a) (s.2.1 b) sp.toNatClampNeg dp.toNatClampNeg n.toNatClampNeg) := by
    rcases ht with rfl | rfl | rfl <;> exact congrArg Sum.inl (cu_same _ _ _)
  rw [ec] at hput
  unfold cpA
  rw [cH_at hp za, cH_at hp zb, cC_arr ha, cC_arr hb, ea, eb]
  show (if t = t ∧ ¬ sp < 0 ∧ ¬ dp < 0 ∧ ¬ n < 0 ∧ sp.toNatClampNeg + n.toNatClampNeg ≤ n0 ∧ dp.toNatClampNeg + n.toNatClampNeg ≤ n1 ∧ (List.range n.toNatClampNeg).all (fun i => okV (cH p s g) t (zv (.inl (s.2.1 a)) (sp.toNatClampNeg + i))) = true then _ else none) = _
  rw [if_pos ⟨rfl, h1, h2, h3, h4, h5, List.all_eq_true.mpr fun i _ => rfl⟩]
  show some (zup (cH p s g) (p.1 b) (true, .inl (t, n1, .inl (va_cpy (s.2.1 a) (s.2.1 b) sp.toNatClampNeg dp.toNatClampNeg n.toNatClampNeg)))) = _
  rw [hput]
theorem iH_uA {p : cP} {s : cT} {g : zH} {N : iN} (h : iH p s g N) {d : Nat} (hd : nlc N d) (f : Nat → Int32) : iH p (uA s d f) g N := by
  obtain ⟨h1, h2, h3, h4, h5, h6⟩ := h
  obtain ⟨b1, b2, b3, b4, b5, b6, b7, b8, b9, b10, b11, b12⟩ := h4
  obtain ⟨r1, r2, r3, r4, r5, r6, r7, r8, r9, r10, r11, r12⟩ := h5
  have key : ∀ {c arr n : Nat} {el : Nat → Nat}, lst s c arr n el → d ≠ c → lst (uA s d f) c arr n el := fun hl hn => ⟨hl.1, hl.2.1, (congrFun (cu_ne s.2.1 f (Ne.symm hn)) 2).trans hl.2.2.1, hl.2.2.2⟩
  refine ⟨h1, h2, h3, ⟨b1, b2, b3, b4, b5, b6, b7, b8, b9, key b10 hd.1, key b11 hd.2.1, b12⟩, ⟨r1, r2, r3, r4, r5, r6, r7, r8, r9, r10, key r11 hd.2.2.1, fun i hi => ?_⟩, h6⟩
  obtain ⟨t1, t2, t3, t4, t5, t6, t7⟩ := r12 i hi
  exact ⟨t1, t2, t3, t4, t5, key t6 (hd.2.2.2 i (Nat.lt_of_lt_of_le hi r10)), t7⟩
