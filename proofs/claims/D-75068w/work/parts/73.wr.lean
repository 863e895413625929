/-! what an operation must keep; writes -/
set_option maxRecDepth 100000
def okS (N : iN) (s s1 : cT) : Prop := s1.1 = s.1 ∧ s1.2.2.2 = s.2.2.2 ∧ ∀ c, (c < N.1 + 10 ∨ N.1 + 200 ≤ c) → c ≠ 22 → s1.2.1 c = s.2.1 c ∧ s1.2.2.1 c = s.2.2.1 c
/-- places of a block that no simple operation writes: counts, rules, plans, names -/
def cst (x : Nat) : Prop := 1 ≤ x ∧ x ≤ 10 ∨ 14 ≤ x ∧ x < 58 ∨ ∃ i, i < 8 ∧ x = 58 + 16 * i
def okT (t t1 : twS) : Prop := (∀ x, 5054 ≤ x ∨ cst x → t1.1 x = t.1 x) ∧ (∀ k, k ≠ 2 → tSc t1 k = tSc t k) ∧ (∀ i, i = 2 ∨ 6 ≤ i → t1.2.2.1 i = t.2.2.1 i) ∧ t1.2.2.2.2 = t.2.2.2.2
theorem okS_rfl (N : iN) (s : cT) : okS N s s := ⟨rfl, rfl, fun _ _ _ => ⟨rfl, rfl⟩⟩
theorem okS_tr {N : iN} {s s1 s2 : cT} (h : okS N s s1) (h1 : okS N s1 s2) : okS N s s2 := ⟨h1.1.trans h.1, h1.2.1.trans h.2.1, fun c hc hd => ⟨(h1.2.2 c hc hd).1.trans (h.2.2 c hc hd).1, (h1.2.2 c hc hd).2.trans (h.2.2 c hc hd).2⟩⟩
theorem okS_uL {N : iN} {s s1 : cT} (h : okS N s s1) {c : Nat} (hc : N.1 + 10 ≤ c ∧ c < N.1 + 200) (k : Nat) (v : Int64) : okS N s (uL s1 c k v) := okS_tr h ⟨rfl, rfl, fun d hd _ => ⟨rfl, cu_ne s1.2.2.1 _ (by omega)⟩⟩
theorem okS_uI {N : iN} {s s1 : cT} (h : okS N s s1) {c : Nat} (hc : N.1 + 10 ≤ c ∧ c < N.1 + 200) (k : Nat) (v : Int32) : okS N s (uI s1 c k v) := okS_tr h ⟨rfl, rfl, fun d hd _ => ⟨cu_ne s1.2.1 _ (by omega), rfl⟩⟩
theorem okS_uA {N : iN} {s s1 : cT} (h : okS N s s1) {c : Nat} (hc : N.1 + 10 ≤ c ∧ c < N.1 + 200 ∨ c = 22) (f : Nat → Int32) : okS N s (uA s1 c f) := okS_tr h ⟨rfl, rfl, fun d hd hd2 => ⟨cu_ne s1.2.1 _ (by omega), rfl⟩⟩
theorem okT_rfl (t : twS) : okT t t := ⟨fun _ _ => rfl, fun _ _ => rfl, fun _ _ => rfl, rfl⟩
theorem okT_tr {t t1 t2 : twS} (h : okT t t1) (h1 : okT t1 t2) : okT t t2 := ⟨fun x hx => (h1.1 x hx).trans (h.1 x hx), fun k hk => (h1.2.1 k hk).trans (h.2.1 k hk), fun i hi => (h1.2.2.1 i hi).trans (h.2.2.1 i hi), h1.2.2.2.trans h.2.2.2⟩
theorem okT_thr {t t1 : twS} (h : okT t t1) (v : Int32) : okT t (uSc t1 2 v) := okT_tr h ⟨fun _ _ => rfl, fun _ hk => cu_ne _ _ hk, fun _ _ => rfl, rfl⟩
theorem okT_st {t t1 : twS} (h : okT t t1) {x : Nat} (hx : x < 5054 ∧ ¬ cst x) (v : Int64) : okT t (uSt t1 (va_up t1.1 x v)) := okT_tr h ⟨fun y hy => cu_ne _ _ (fun e => by subst e; rcases hy with hy | hy; omega; exact hx.2 hy), fun _ _ => rfl, fun _ _ => rfl, rfl⟩
theorem okT_ar {t t1 : twS} (h : okT t t1) {i : Nat} (hi : i ≠ 2 ∧ i < 6) (f : Nat → Int32) : okT t (uAr t1 i f) := okT_tr h ⟨fun _ _ => rfl, fun _ _ => rfl, fun j hj => cu_ne _ _ (by omega), rfl⟩
theorem okT_am {t t1 : twS} (h : okT t t1) (f : Nat → Int64) : okT t (uAm t1 f) := okT_tr h ⟨fun _ _ => rfl, fun _ _ => rfl, fun _ _ => rfl, rfl⟩
theorem ncst_fr {i x : Nat} (hi : i < 8) (hx : 1 ≤ x ∧ x < 16) : 58 + 16 * i + x < 5054 ∧ ¬ cst (58 + 16 * i + x) := ⟨by omega, fun h => by
  rcases h with h | h | ⟨j, hj, h⟩ <;> omega⟩
theorem ncst_of {x : Nat} (hx : (11 ≤ x ∧ x < 14 ∨ x = 0) ∨ 186 ≤ x ∧ x < 5054) : x < 5054 ∧ ¬ cst x := ⟨by omega, fun h => by
  rcases h with h | h | ⟨j, hj, h⟩ <;> omega⟩
/-- the answer of a method, and the twin's -/
def Rs {α : Type} (ec : Nat → Int32) (r : α ⊕ (Nat × Nat)) (b : α) (k : Int32) : Prop := match r with
  | .inl x => k = 0 ∧ x = b
  | .inr q => k = ec q.1 ∧ k ≠ 0 ∧ (q.1 = 20 ∨ q.1 = 21 ∨ q.1 = 22)
def ec1 (c : Nat) : Int32 := if c = 20 then 1 else 0
def ec2 (c : Nat) : Int32 := if c = 20 then 1 else if c = 21 then 2 else 0
def ec3 (c : Nat) : Int32 := if c = 20 then 1 else if c = 21 then 2 else 3
def ecA (c : Nat) : Int32 := if c = 21 then 1 else 0
def ecS (c : Nat) : Int32 := if c = 22 then 1 else 0
/-- what holds behind an operation -/
def Po (N : iN) (mo n : Nat) (s : cT) (t : twS) (g : zH) (s1 : cT) (t1 : twS) (g1 : zH) : Prop := RB s1 N.1 N.2.1 N.2.2.1 mo t1.1 ∧ IV t1.1 N.2.1 N.2.2.1 N.2.2.2.1 mo (n + 1) ∧ okS N s s1 ∧ okT t t1 ∧ gx g g1 300 3000
/-- what holds ahead of it -/
def Pr (E : zE) (N : iN) (mo n : Nat) (s : cT) (t : twS) (g : zH) : Prop := RB s N.1 N.2.1 N.2.2.1 mo t.1 ∧ IV t.1 N.2.1 N.2.2.1 N.2.2.2.1 mo n ∧ RR s N.2.2.2.1 N.2.2.2.2 t.1 ∧ IR t.1 N.2.2.2.1 ∧ 20000 ≤ E.1 ∧ rm g 300 3000 ∧ (∀ i, i < N.2.1 → s.1 (N.1 + 130 + i) = (1, 10) ∧ s.1 (N.1 + 140 + i) = (1, 11) ∧ s.1 (N.1 + 160 + i) = (3, 60)) ∧ (∀ k, k < N.2.2.1 → s.1 (N.1 + 170 + k) = (1, 13)) ∧ s.1 (N.1 + 20) = (3, 3) ∧ (∀ f, f < 8 → s.1 (N.1 + 190 + f) = (3, 8)) ∧ n ≤ 100000 ∧ 200 ≤ N.1
theorem frI_n {t : Nat → Int64} {b np mo n n1 : Nat} (h : frI t b np mo n) (hn : n ≤ n1) : frI t b np mo n1 := by
  obtain ⟨h1, h2, h3, h4⟩ := h
  exact ⟨h1, h2, ⟨by have := h3.1; omega, by have := h3.2; omega⟩, h4⟩
theorem IV_n {t : Nat → Int64} {nf no np mo n n1 : Nat} (h : IV t nf no np mo n) (hn : n ≤ n1) : IV t nf no np mo n1 := ⟨h.1, fun i hi => frI_n (h.2.1 i hi) hn, h.2.2⟩
theorem frR_cg {s s1 : cT} {t t1 : Nat → Int64} {c d b : Nat} (h : frR s t c d b) (hc : s1.2.1 c = s.2.1 c ∧ s1.2.2.1 c = s.2.2.1 c) (hd : s1.2.1 d = s.2.1 d ∧ s1.2.2.1 d = s.2.2.1 d) (ht : ∀ x, x < 16 → t1 (b + x) = t (b + x)) : frR s1 t1 c d b := by
  unfold frR at h ⊢
  rw [hc.1, hc.2, hd.1, hd.2, ht 1 (by decide), ht 2 (by decide), ht 3 (by decide), ht 4 (by decide), ht 5 (by decide), ht 6 (by decide), ht 7 (by decide), ht 8 (by decide), ht 9 (by decide), ht 10 (by decide), ht 11 (by decide), ht 12 (by decide), ht 13 (by decide), ht 14 (by decide), ht 15 (by decide)]
  exact h
theorem frI_cg {t t1 : Nat → Int64} {b np mo n : Nat} (h : frI t b np mo n) (ht : ∀ x, x < 16 → t1 (b + x) = t (b + x)) : frI t1 b np mo n := by
  unfold frI at h ⊢
  rw [ht 1 (by decide), ht 3 (by decide), ht 4 (by decide), ht 5 (by decide), ht 6 (by decide), ht 7 (by decide), ht 9 (by decide), ht 11 (by decide), ht 12 (by decide), ht 13 (by decide), ht 14 (by decide), ht 15 (by decide)]
  exact h
theorem ouR_cg {s s1 : cT} {t t1 : Nat → Int64} {c b : Nat} (h : ouR s t c b) (hc : s1.2.1 c = s.2.1 c ∧ s1.2.2.1 c = s.2.2.1 c) (ht : ∀ x, x < 4 → t1 (b + x) = t (b + x)) : ouR s1 t1 c b := by
  unfold ouR at h ⊢
  rw [hc.1, hc.2, ht 0 (by decide), ht 1 (by decide), ht 2 (by decide), ht 3 (by decide)]
  exact h
section WR
variable {s s1 : cT} {o nf no mo : Nat} {t t1 : Nat → Int64}
/-- a franchisee is written -/
theorem RB_fr (h : RB s o nf no mo t) (hb : nf ≤ 8 ∧ no ≤ 16) {i : Nat} (hi : i < nf) (hsh : s.1 (o + 130 + i) = (1, 10) ∧ s.1 (o + 140 + i) = (1, 11)) (ht : ∀ y, y < 58 + 16 * i ∨ 74 + 16 * i ≤ y → t1 y = t y) (h0 : s1.1 = s.1) (hR : s1.2.2.2 = s.2.2.2) (hs : ∀ c, c ≠ o + 130 + i → c ≠ o + 140 + i → s1.2.1 c = s.2.1 c ∧ s1.2.2.1 c = s.2.2.1 c) (hf : frR s1 t1 (o + 130 + i) (o + 140 + i) (58 + 16 * i)) : RB s1 o nf no mo t1 := by
  obtain ⟨⟨a1, a2, a3, a4⟩, hF, hO, hC, hS, hD, hRe, hI⟩ := h
  refine ⟨⟨by rw [ht 0 (by omega)]; exact a1, by rw [(hs (o + 10) (by omega) (by omega)).1]; exact a2, by rw [ht 2 (by omega)]; exact a3, by rw [ht 3 (by omega)]; exact a4⟩, fun j hj => ?_, fun k hk => ouR_cg (hO k hk) (hs _ (by omega) (by omega)) (fun x hx => ht _ (by omega)), fun c hc => ?_, fun k hk => ?_, fun f hf g hg => ?_, fun f hf m hm => ?_, fun f hf m hm => ?_⟩
  · by_cases e : j = i
    · subst e; exact hf
    · exact frR_cg (hF j hj) (hs _ (by omega) (by omega)) (hs _ (by omega) (by omega)) (fun x hx => ht _ (by omega))
  · rw [ht _ (by omega), (hs (o + 16) (by omega) (by omega)).1]; exact hC c hc
  · rw [ht _ (by omega), (hs (o + 20) (by omega) (by omega)).2]; exact hS k hk
  · rw [ht _ (by omega), (hs (o + 190 + f) (by omega) (by omega)).2]; exact hD f hf g hg
  · rw [ht _ (by omega), (hs (o + 160 + f) (by omega) (by omega)).2]; exact hRe f hf m hm
  · obtain ⟨e, e1, e2, e3⟩ := hI f hf m hm
    refine ⟨e, by rw [hR]; exact e1, by rw [h0]; exact e2, fun q hq => ?_⟩
    rw [ht _ (by omega), (hs e (fun n => by rw [n, hsh.1] at e2; cases e2) (fun n => by rw [n, hsh.2] at e2; cases e2)).2]
    exact e3 q hq
theorem IV_fr {np n n1 : Nat} (h : IV t nf no np mo n) {i : Nat} (hi : i < nf) (ht : ∀ y, y < 58 + 16 * i ∨ 74 + 16 * i ≤ y → t1 y = t y) (hn : n ≤ n1) (hf : frI t1 (58 + 16 * i) np mo n1) : IV t1 nf no np mo n1 := by
  obtain ⟨a, hF, hO, hC, hR, hD⟩ := h
  refine ⟨a, fun j hj => ?_, fun k hk => ?_, fun c hc => ?_, fun f hf m hm => ?_, fun f hf g hg hz => ?_⟩
  · by_cases e : j = i
    · subst e; exact hf
    · exact frI_cg (frI_n (hF j hj) hn) (fun x hx => ht _ (by omega))
  · rw [ht _ (by omega), ht _ (by omega)]; exact hO k hk
  · rw [ht _ (by omega)]; exact hC c hc
  · rw [ht _ (by omega)]
    refine ⟨(hR f hf m hm).1, fun q hq => ?_⟩
    rw [ht _ (by omega)]
    exact (hR f hf m hm).2 q hq
  · rw [ht _ (by omega)]; exact hD f hf g hg hz
/-- an outlet is written -/
theorem RB_ou (h : RB s o nf no mo t) (hb : nf ≤ 8 ∧ no ≤ 16) {i : Nat} (hi : i < no) (hsh : s.1 (o + 170 + i) = (1, 13)) (ht : ∀ y, y < 186 + 4 * i ∨ 190 + 4 * i ≤ y → t1 y = t y) (h0 : s1.1 = s.1) (hR : s1.2.2.2 = s.2.2.2) (hs : ∀ c, c ≠ o + 170 + i → s1.2.1 c = s.2.1 c ∧ s1.2.2.1 c = s.2.2.1 c) (hf : ouR s1 t1 (o + 170 + i) (186 + 4 * i)) : RB s1 o nf no mo t1 := by
  obtain ⟨⟨a1, a2, a3, a4⟩, hF, hO, hC, hS, hD, hRe, hI⟩ := h
  refine ⟨⟨by rw [ht 0 (by omega)]; exact a1, by rw [(hs (o + 10) (by omega)).1]; exact a2, by rw [ht 2 (by omega)]; exact a3, by rw [ht 3 (by omega)]; exact a4⟩, fun j hj => frR_cg (hF j hj) (hs _ (by omega)) (hs _ (by omega)) (fun x hx => ht _ (by omega)), fun k hk => ?_, fun c hc => ?_, fun k hk => ?_, fun f hf g hg => ?_, fun f hf m hm => ?_, fun f hf m hm => ?_⟩
  · by_cases e : k = i
    · subst e; exact hf
    · exact ouR_cg (hO k hk) (hs _ (by omega)) (fun x hx => ht _ (by omega))
  · rw [ht _ (by omega), (hs (o + 16) (by omega)).1]; exact hC c hc
  · rw [ht _ (by omega), (hs (o + 20) (by omega)).2]; exact hS k hk
  · rw [ht _ (by omega), (hs (o + 190 + f) (by omega)).2]; exact hD f hf g hg
  · rw [ht _ (by omega), (hs (o + 160 + f) (by omega)).2]; exact hRe f hf m hm
  · obtain ⟨e, e1, e2, e3⟩ := hI f hf m hm
    refine ⟨e, by rw [hR]; exact e1, by rw [h0]; exact e2, fun q hq => ?_⟩
    rw [ht _ (by omega), (hs e (fun n => by rw [n, hsh] at e2; cases e2)).2]
    exact e3 q hq
theorem IV_ou {np n n1 : Nat} (h : IV t nf no np mo n) {i : Nat} (hi : i < no) (ht : ∀ y, y < 186 + 4 * i ∨ 190 + 4 * i ≤ y → t1 y = t y) (hn : n ≤ n1) (hf : btw (t1 (186 + 4 * i + 0)) (-1) (nf - 1) ∧ btw (t1 (186 + 4 * i + 3)) 0 10000000) : IV t1 nf no np mo n1 := by
  obtain ⟨⟨a1, a2, a3, a4⟩, hF, hO, hC, hR, hD⟩ := h
  refine ⟨⟨a1, a2, a3, a4⟩, fun j hj => frI_cg (frI_n (hF j hj) hn) (fun x hx => ht _ (by omega)), fun k hk => ?_, fun c hc => ?_, fun f hf m hm => ?_, fun f hf g hg hz => ?_⟩
  · by_cases e : k = i
    · subst e; exact hf
    · rw [ht _ (by omega), ht _ (by omega)]; exact hO k hk
  · rw [ht _ (by omega)]; exact hC c hc
  · rw [ht _ (by omega)]
    refine ⟨(hR f hf m hm).1, fun q hq => ?_⟩
    rw [ht _ (by omega)]
    exact (hR f hf m hm).2 q hq
  · rw [ht _ (by omega)]; exact hD f hf g hg hz
/-- what was spent is written -/
theorem RB_sp (h : RB s o nf no mo t) (hb : nf ≤ 8 ∧ no ≤ 16) (hsh : s.1 (o + 20) = (3, 3)) (ht : ∀ y, y < 11 ∨ 14 ≤ y → t1 y = t y) (h0 : s1.1 = s.1) (hR : s1.2.2.2 = s.2.2.2) (hI1 : s1.2.1 = s.2.1) (hs : ∀ c, c ≠ o + 20 → s1.2.2.1 c = s.2.2.1 c) (hf : ∀ k, k < 3 → t1 (11 + k) = s1.2.2.1 (o + 20) k) : RB s1 o nf no mo t1 := by
  obtain ⟨⟨a1, a2, a3, a4⟩, hF, hO, hC, hS, hD, hRe, hI⟩ := h
  have hs2 : ∀ c, c ≠ o + 20 → s1.2.1 c = s.2.1 c ∧ s1.2.2.1 c = s.2.2.1 c := fun c hc => ⟨by rw [hI1], hs c hc⟩
  refine ⟨⟨by rw [ht 0 (by omega)]; exact a1, by rw [hI1]; exact a2, by rw [ht 2 (by omega)]; exact a3, by rw [ht 3 (by omega)]; exact a4⟩, fun j hj => frR_cg (hF j hj) (hs2 _ (by omega)) (hs2 _ (by omega)) (fun x hx => ht _ (by omega)), fun k hk => ouR_cg (hO k hk) (hs2 _ (by omega)) (fun x hx => ht _ (by omega)), fun c hc => ?_, hf, fun f hf g hg => ?_, fun f hf m hm => ?_, fun f hf m hm => ?_⟩
  · rw [ht _ (by omega), hI1]; exact hC c hc
  · rw [ht _ (by omega), hs (o + 190 + f) (by omega)]; exact hD f hf g hg
  · rw [ht _ (by omega), hs (o + 160 + f) (by omega)]; exact hRe f hf m hm
  · obtain ⟨e, e1, e2, e3⟩ := hI f hf m hm
    refine ⟨e, by rw [hR]; exact e1, by rw [h0]; exact e2, fun q hq => ?_⟩
    rw [ht _ (by omega), hs e (fun n => by rw [n, hsh] at e2; cases e2)]
    exact e3 q hq
theorem IV_cg {np n n1 : Nat} (h : IV t nf no np mo n) (ht : ∀ y, 14 ≤ y → t1 y = t y) (hn : n ≤ n1) : IV t1 nf no np mo n1 := by
  obtain ⟨a, hF, hO, hC, hR, hD⟩ := h
  refine ⟨a, fun j hj => frI_cg (frI_n (hF j hj) hn) (fun x hx => ht _ (by omega)), fun k hk => ?_, fun c hc => ?_, fun f hf m hm => ?_, fun f hf g hg hz => ?_⟩
  · rw [ht _ (by omega), ht _ (by omega)]; exact hO k hk
  · rw [ht _ (by omega)]; exact hC c hc
  · rw [ht _ (by omega)]
    refine ⟨(hR f hf m hm).1, fun q hq => ?_⟩
    rw [ht _ (by omega)]
    exact (hR f hf m hm).2 q hq
  · rw [ht _ (by omega)]; exact hD f hf g hg hz
end WR
