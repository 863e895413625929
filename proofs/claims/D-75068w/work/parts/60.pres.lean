/-! PRESENTED HEAPS: objects under codes, their contents in tables (shapes, ints, longs, references by code), the rest as it is -/
set_option maxRecDepth 100000
abbrev cT : Type := (Nat → Nat × Nat) × ((Nat → Nat → Int32) × ((Nat → Nat → Int64) × (Nat → Nat → Option Nat)))
abbrev cP : Type := (Nat → Nat) × (Nat → Option Nat)
/-- what a class's fields hold: 0 an int, 1 a long, 2 a reference -/
def vT (ci : Nat) : List Nat := match ci with
  | 0 => [2, 2, 2, 2, 2, 2, 2, 0, 0, 0]
  | 2 => [2, 2, 2, 2, 2, 1, 1, 0, 0, 0]
  | 3 => [0]
  | 4 => [2, 2, 2, 2, 2, 0, 2]
  | 5 => [2, 2, 2]
  | 6 => [0, 2, 2, 0, 0, 0, 0, 2, 2]
  | 7 => [2, 2, 2, 2, 2, 0, 0, 0]
  | 8 => [2, 2]
  | 9 => [1, 0]
  | 10 => [2, 2, 2, 0, 0, 0, 0, 0, 1, 1, 1]
  | 11 => [0, 0, 0, 0, 0, 0, 1]
  | 12 => [0, 0, 0, 0]
  | 13 => [0, 0, 1]
  | 14 => [0, 0, 0, 0, 1]
  | 15 => [0, 2, 0]
  | 16 => [0, 0, 2, 2]
  | 17 => [2, 2, 2]
  | 18 => [2, 0, 0, 0]
  | 19 => [2, 0, 0, 0]
  | _ => []
def cV (ad : Nat → Nat) (s : cT) (c k ty : Nat) : Value := match ty with
  | 0 => .int (s.2.1 c k)
  | 1 => .long (s.2.2.1 c k)
  | _ => va_rf ((s.2.2.2 c k).map ad)
def cA (ad : Nat → Nat) (s : cT) (c t : Nat) : zS := match t with
  | 1 => .inr (.inl (s.2.2.1 c))
  | 4 => .inr (.inr fun j => (s.2.2.2 c j).map ad)
  | 5 => .inr (.inr fun j => (s.2.2.2 c j).map ad)
  | 6 => .inr (.inr fun j => (s.2.2.2 c j).map ad)
  | _ => .inl (s.2.1 c)
/-- shape (1, ci): an object of class ci; (2 + t, n): an array of kind t, n long; (0, _): nothing -/
def cC (ad : Nat → Nat) (s : cT) (c : Nat) : zC := match (s.1 c).1 with
  | 0 => (true, .inr (99, []))
  | 1 => (true, .inr ((s.1 c).2, (vT (s.1 c).2).mapIdx fun k ty => cV ad s c k ty))
  | t + 2 => (true, .inl (t, (s.1 c).2, cA ad s c t))
def cH (p : cP) (s : cT) (g : zH) : zH := (fun a => match p.2 a with
  | some c => if (s.1 c).1 = 0 then g.1 a else some (cC p.1 s c)
  | none => g.1 a, g.2)
def okP (p : cP) (s : cT) : Prop := (∀ c, (s.1 c).1 ≠ 0 → p.2 (p.1 c) = some c) ∧ ∀ a c, p.2 a = some c → p.1 c = a
theorem cH_at {p : cP} {s : cT} {g : zH} (hp : okP p s) {c : Nat} (hc : (s.1 c).1 ≠ 0) : (cH p s g).1 (p.1 c) = some (cC p.1 s c) := by
  show (match p.2 (p.1 c) with
    | some d => if (s.1 d).1 = 0 then g.1 (p.1 c) else some (cC p.1 s d)
    | none => g.1 (p.1 c)) = _
  rw [hp.1 c hc]
  exact if_neg hc
theorem cH_raw {p : cP} {s : cT} {g : zH} {a : Nat} (ha : p.2 a = none) : (cH p s g).1 a = g.1 a := by
  show (match p.2 a with
    | some c => if (s.1 c).1 = 0 then g.1 a else some (cC p.1 s c)
    | none => g.1 a) = _
  rw [ha]
theorem cC_obj {ad : Nat → Nat} {s : cT} {c ci : Nat} (hc : s.1 c = (1, ci)) : cC ad s c = (true, .inr (ci, (vT ci).mapIdx fun k ty => cV ad s c k ty)) := by
  unfold cC
  rw [hc]
theorem cC_arr {ad : Nat → Nat} {s : cT} {c t n : Nat} (hc : s.1 c = (t + 2, n)) : cC ad s c = (true, .inl (t, n, cA ad s c t)) := by
  unfold cC
  rw [hc]
theorem cH_put {p : cP} {s s1 : cT} {g : zH} (hp : okP p s) {c : Nat} (hc : (s.1 c).1 ≠ 0) (hs : s1.1 = s.1) (ho : ∀ d, d ≠ c → cC p.1 s1 d = cC p.1 s d) : zup (cH p s g) (p.1 c) (cC p.1 s1 c) = cH p s1 g := by
  refine Prod.ext ?_ rfl
  funext a
  show va_up (cH p s g).1 (p.1 c) (some (cC p.1 s1 c)) a = (match p.2 a with
    | some c => if (s1.1 c).1 = 0 then g.1 a else some (cC p.1 s1 c)
    | none => g.1 a)
  unfold va_up
  by_cases h1 : a = p.1 c
  · rw [if_pos h1, h1, hp.1 c hc]
    show _ = if (s1.1 c).1 = 0 then _ else _
    rw [hs, if_neg hc]
  · rw [if_neg h1]
    show (match p.2 a with
      | some c => if (s.1 c).1 = 0 then g.1 a else some (cC p.1 s c)
      | none => g.1 a) = _
    cases h2 : p.2 a with
    | none => rfl
    | some d =>
      have hd : d ≠ c := fun h => h1 (by rw [← h]; exact (hp.2 a d h2).symm)
      show (if (s.1 d).1 = 0 then g.1 a else some (cC p.1 s d)) = if (s1.1 d).1 = 0 then g.1 a else some (cC p.1 s1 d)
      rw [ho d hd, hs]
def uI (s : cT) (c k : Nat) (v : Int32) : cT := (s.1, (va_up s.2.1 c (va_up (s.2.1 c) k v), s.2.2))
def uL (s : cT) (c k : Nat) (v : Int64) : cT := (s.1, (s.2.1, (va_up s.2.2.1 c (va_up (s.2.2.1 c) k v), s.2.2.2)))
def uR (s : cT) (c k : Nat) (v : Option Nat) : cT := (s.1, (s.2.1, (s.2.2.1, va_up s.2.2.2 c (va_up (s.2.2.2 c) k v))))
theorem cu_same {α : Type} (f : Nat → α) (k : Nat) (v : α) : va_up f k v k = v := if_pos rfl
theorem cu_ne {α : Type} (f : Nat → α) {k j : Nat} (v : α) (h : j ≠ k) : va_up f k v j = f j := if_neg h
theorem cC_off {ad : Nat → Nat} {s s1 : cT} {d : Nat} (h0 : s1.1 = s.1) (h1 : s1.2.1 d = s.2.1 d) (h2 : s1.2.2.1 d = s.2.2.1 d) (h3 : s1.2.2.2 d = s.2.2.2 d) : cC ad s1 d = cC ad s d := by
  unfold cC cV cA
  rw [h0, h1, h2, h3]
section CP
variable {p : cP} {s : cT} {g : zH}
theorem c_gF (hp : okP p s) {c ci : Nat} (hc : s.1 c = (1, ci)) (k : Nat) : gF (cH p s g) (p.1 c) ci k = ((vT ci)[k]?).map fun ty => cV p.1 s c k ty := by
  unfold gF
  rw [cH_at hp (by rw [hc]; exact Nat.succ_ne_zero _), cC_obj hc]
  show (if ci = ci then ((vT ci).mapIdx fun k ty => cV p.1 s c k ty)[k]? else none) = _
  rw [if_pos rfl, List.getElem?_mapIdx]
theorem c_gI (hp : okP p s) {c ci k : Nat} (hc : s.1 c = (1, ci)) (hk : (vT ci)[k]? = some 0) : gI (cH p s g) (p.1 c) ci k = some (s.2.1 c k) := by
  unfold gI
  rw [c_gF hp hc, hk]
  rfl
theorem c_gL (hp : okP p s) {c ci k : Nat} (hc : s.1 c = (1, ci)) (hk : (vT ci)[k]? = some 1) : gL (cH p s g) (p.1 c) ci k = some (s.2.2.1 c k) := by
  unfold gL
  rw [c_gF hp hc, hk]
  rfl
theorem c_gR (hp : okP p s) {c ci k d : Nat} (hc : s.1 c = (1, ci)) (hk : (vT ci)[k]? = some 2) (hd : s.2.2.2 c k = some d) : gR (cH p s g) (p.1 c) ci k = some (p.1 d) := by
  unfold gR
  rw [c_gF hp hc, hk]
  have e : cV p.1 s c k 2 = .ref (p.1 d) := by
    show va_rf ((s.2.2.2 c k).map p.1) = _
    rw [hd]
    rfl
  show (match some (cV p.1 s c k 2) with
    | some (.ref x) => some x
    | _ => none) = _
  rw [e]
theorem c_gQ (hp : okP p s) {c ci k : Nat} (hc : s.1 c = (1, ci)) (hk : (vT ci)[k]? = some 2) : gQ (cH p s g) (p.1 c) ci k = some ((s.2.2.2 c k).map p.1) := by
  unfold gQ
  rw [c_gF hp hc, hk]
  have e : cV p.1 s c k 2 = va_rf ((s.2.2.2 c k).map p.1) := rfl
  show (match some (cV p.1 s c k 2) with
    | some (.ref x) => some (some x)
    | some .null => some none
    | _ => none) = _
  rw [e]
  cases s.2.2.2 c k <;> rfl
theorem c_cko (hp : okP p s) {c ci : Nat} (hc : s.1 c = (1, ci)) : cko (cH p s g) (p.1 c) ci = some () := by
  unfold cko isO
  rw [cH_at hp (by rw [hc]; exact Nat.succ_ne_zero _), cC_obj hc]
  simp
theorem c_set {ci k : Nat} {ty : Nat} (hk : (vT ci)[k]? = some ty) {s1 : cT} {c : Nat} {ad : Nat → Nat} (ho : ∀ j tj, j ≠ k → cV ad s1 c j tj = cV ad s c j tj) : ((vT ci).mapIdx fun k ty => cV ad s c k ty).set k (cV ad s1 c k ty) = (vT ci).mapIdx fun k ty => cV ad s1 c k ty := by
  apply List.ext_getElem?
  intro j
  rw [List.getElem?_set, List.getElem?_mapIdx, List.getElem?_mapIdx, List.length_mapIdx]
  by_cases h : k = j
  · subst h
    have hl := (List.getElem?_eq_some_iff.mp hk).1
    rw [if_pos rfl, if_pos hl, hk]
    rfl
  · rw [if_neg h]
    cases h2 : (vT ci)[j]? with
    | none => rfl
    | some tj => exact congrArg some (ho j tj (fun e => h e.symm)).symm
theorem c_pF (hp : okP p s) {c ci k ty : Nat} (hc : s.1 c = (1, ci)) (hk : (vT ci)[k]? = some ty) {s1 : cT} (hs : s1.1 = s.1) (h1 : ∀ d, d ≠ c → s1.2.1 d = s.2.1 d ∧ s1.2.2.1 d = s.2.2.1 d ∧ s1.2.2.2 d = s.2.2.2 d) (h2 : ∀ j tj, j ≠ k → cV p.1 s1 c j tj = cV p.1 s c j tj) : pF (cH p s g) (p.1 c) ci k (cV p.1 s1 c k ty) = some (cH p s1 g) := by
  have hl := (List.getElem?_eq_some_iff.mp hk).1
  unfold pF
  rw [cH_at hp (by rw [hc]; exact Nat.succ_ne_zero _), cC_obj hc]
  show (if ci = ci ∧ k < ((vT ci).mapIdx fun k ty => cV p.1 s c k ty).length then _ else none) = _
  rw [if_pos ⟨rfl, by rw [List.length_mapIdx]; exact hl⟩, c_set hk h2]
  refine congrArg some (Eq.trans ?_ (cH_put (s1 := s1) hp (c := c) (by rw [hc]; exact Nat.succ_ne_zero _) hs fun d hd => cC_off hs (h1 d hd).1 (h1 d hd).2.1 (h1 d hd).2.2))
  rw [cC_obj (s := s1) (by rw [hs]; exact hc)]
theorem c_pI (hp : okP p s) {c ci k : Nat} {v : Int32} (hc : s.1 c = (1, ci)) (hk : (vT ci)[k]? = some 0) : pF (cH p s g) (p.1 c) ci k (.int v) = some (cH p (uI s c k v) g) := by
  have h := c_pF (g := g) hp hc hk (s1 := uI s c k v) rfl (fun d hd => ⟨cu_ne _ _ hd, rfl, rfl⟩) (fun j tj hj => by
    unfold cV
    split
    · show Value.int (va_up s.2.1 c (va_up (s.2.1 c) k v) c j) = _
      rw [cu_same, cu_ne _ _ hj]
    · rfl
    · rfl)
  have e : cV p.1 (uI s c k v) c k 0 = .int v := by
    show Value.int (va_up s.2.1 c (va_up (s.2.1 c) k v) c k) = _
    rw [cu_same, cu_same]
  rw [e] at h
  exact h
theorem c_pL (hp : okP p s) {c ci k : Nat} {v : Int64} (hc : s.1 c = (1, ci)) (hk : (vT ci)[k]? = some 1) : pF (cH p s g) (p.1 c) ci k (.long v) = some (cH p (uL s c k v) g) := by
  have h := c_pF (g := g) hp hc hk (s1 := uL s c k v) rfl (fun d hd => ⟨rfl, cu_ne _ _ hd, rfl⟩) (fun j tj hj => by
    unfold cV
    split
    · rfl
    · show Value.long (va_up s.2.2.1 c (va_up (s.2.2.1 c) k v) c j) = _
      rw [cu_same, cu_ne _ _ hj]
    · rfl)
  have e : cV p.1 (uL s c k v) c k 1 = .long v := by
    show Value.long (va_up s.2.2.1 c (va_up (s.2.2.1 c) k v) c k) = _
    rw [cu_same, cu_same]
  rw [e] at h
  exact h
theorem c_pQ (hp : okP p s) {c ci k : Nat} {v : Option Nat} (hc : s.1 c = (1, ci)) (hk : (vT ci)[k]? = some 2) : pF (cH p s g) (p.1 c) ci k (va_rf (v.map p.1)) = some (cH p (uR s c k v) g) := by
  have h := c_pF (g := g) hp hc hk (s1 := uR s c k v) rfl (fun d hd => ⟨rfl, rfl, cu_ne _ _ hd⟩) (fun j tj hj => by
    unfold cV
    split
    · rfl
    · rfl
    · show va_rf ((va_up s.2.2.2 c (va_up (s.2.2.2 c) k v) c j).map p.1) = _
      rw [cu_same, cu_ne _ _ hj])
  have e : cV p.1 (uR s c k v) c k 2 = va_rf (v.map p.1) := by
    show va_rf ((va_up s.2.2.2 c (va_up (s.2.2.2 c) k v) c k).map p.1) = _
    rw [cu_same, cu_same]
  rw [e] at h
  exact h
theorem c_pR (hp : okP p s) {c ci k d : Nat} (hc : s.1 c = (1, ci)) (hk : (vT ci)[k]? = some 2) : pF (cH p s g) (p.1 c) ci k (.ref (p.1 d)) = some (cH p (uR s c k (some d)) g) := c_pQ (v := some d) hp hc hk
theorem c_pN (hp : okP p s) {c ci k : Nat} (hc : s.1 c = (1, ci)) (hk : (vT ci)[k]? = some 2) : pF (cH p s g) (p.1 c) ci k .null = some (cH p (uR s c k none) g) := c_pQ (v := none) hp hc hk
theorem c_len (hp : okP p s) {c t n : Nat} (hc : s.1 c = (t + 2, n)) : lenA (cH p s g) (p.1 c) = some (Int32.ofNat n) := by
  unfold lenA
  rw [cH_at hp (by rw [hc]; exact Nat.succ_ne_zero _), cC_arr hc]
theorem c_dI (hp : okP p s) {c t n : Nat} {j : Int32} (hc : s.1 c = (t + 2, n)) (ht : t = 0 ∨ t = 2 ∨ t = 3) (hj : ¬ (j < 0 ∨ n ≤ j.toNatClampNeg)) : dI (cH p s g) (p.1 c) t j = some (s.2.1 c j.toNatClampNeg) := by
  unfold dI
  rw [cH_at hp (by rw [hc]; exact Nat.succ_ne_zero _), cC_arr hc]
  rcases ht with rfl | rfl | rfl <;> exact if_pos ⟨rfl, hj⟩
theorem c_dL (hp : okP p s) {c n : Nat} {j : Int32} (hc : s.1 c = (3, n)) (hj : ¬ (j < 0 ∨ n ≤ j.toNatClampNeg)) : dL (cH p s g) (p.1 c) j = some (s.2.2.1 c j.toNatClampNeg) := by
  unfold dL
  rw [cH_at hp (by rw [hc]; exact Nat.succ_ne_zero _), cC_arr (t := 1) hc]
  exact if_pos ⟨rfl, hj⟩
theorem c_dQ (hp : okP p s) {c t n : Nat} {j : Int32} (hc : s.1 c = (t + 2, n)) (ht : t = 4 ∨ t = 5 ∨ t = 6) (hj : ¬ (j < 0 ∨ n ≤ j.toNatClampNeg)) : dQ (cH p s g) (p.1 c) t j = some ((s.2.2.2 c j.toNatClampNeg).map p.1) := by
  unfold dQ
  rw [cH_at hp (by rw [hc]; exact Nat.succ_ne_zero _), cC_arr hc]
  rcases ht with rfl | rfl | rfl <;> exact if_pos ⟨rfl, hj⟩
theorem c_dR (hp : okP p s) {c t n d : Nat} {j : Int32} (hc : s.1 c = (t + 2, n)) (ht : t = 4 ∨ t = 5 ∨ t = 6) (hj : ¬ (j < 0 ∨ n ≤ j.toNatClampNeg)) (hd : s.2.2.2 c j.toNatClampNeg = some d) : dR (cH p s g) (p.1 c) t j = some (p.1 d) := by
  unfold dR
  rw [c_dQ hp hc ht hj, hd]
  rfl
theorem c_sI (hp : okP p s) {c t n : Nat} {j v : Int32} (hc : s.1 c = (t + 2, n)) (ht : t = 0 ∨ t = 2 ∨ t = 3) (hj : ¬ (j < 0 ∨ n ≤ j.toNatClampNeg)) : sI (cH p s g) (p.1 c) t j v = some (cH p (uI s c j.toNatClampNeg v) g) := by
  have hz : (s.1 c).1 ≠ 0 := by rw [hc]; exact Nat.succ_ne_zero _
  have hput := cH_put (g := g) (s1 := uI s c j.toNatClampNeg v) hp hz rfl (fun d hd => cC_off rfl (cu_ne _ _ hd) rfl rfl)
  rw [cC_arr (s := uI s c j.toNatClampNeg v) (t := t) (n := n) hc] at hput
  have e : cA p.1 (uI s c j.toNatClampNeg v) c t = .inl (va_up (s.2.1 c) j.toNatClampNeg v) := by
    rcases ht with rfl | rfl | rfl <;> exact congrArg Sum.inl (cu_same _ _ _)
  rw [e] at hput
  unfold sI
  rw [cH_at hp hz, cC_arr hc]
  rcases ht with rfl | rfl | rfl <;> exact (if_pos ⟨rfl, hj⟩).trans (congrArg some hput)
theorem c_sL (hp : okP p s) {c n : Nat} {j : Int32} {v : Int64} (hc : s.1 c = (3, n)) (hj : ¬ (j < 0 ∨ n ≤ j.toNatClampNeg)) : sL (cH p s g) (p.1 c) j v = some (cH p (uL s c j.toNatClampNeg v) g) := by
  have hz : (s.1 c).1 ≠ 0 := by rw [hc]; exact Nat.succ_ne_zero _
  have hput := cH_put (g := g) (s1 := uL s c j.toNatClampNeg v) hp hz rfl (fun d hd => cC_off rfl rfl (cu_ne _ _ hd) rfl)
  rw [cC_arr (s := uL s c j.toNatClampNeg v) (t := 1) (n := n) hc] at hput
  have e : cA p.1 (uL s c j.toNatClampNeg v) c 1 = .inr (.inl (va_up (s.2.2.1 c) j.toNatClampNeg v)) := congrArg (fun x => Sum.inr (Sum.inl x)) (cu_same _ _ _)
  rw [e] at hput
  unfold sL
  rw [cH_at hp hz, cC_arr (t := 1) hc]
  exact (if_pos ⟨rfl, hj⟩).trans (congrArg some hput)
/-! what lies outside -/
theorem r_gF {a : Nat} (ha : p.2 a = none) (ci k : Nat) : gF (cH p s g) a ci k = gF g a ci k := by unfold gF; rw [cH_raw ha]
theorem r_gI {a : Nat} (ha : p.2 a = none) (ci k : Nat) : gI (cH p s g) a ci k = gI g a ci k := by unfold gI; rw [r_gF ha]
theorem r_gL {a : Nat} (ha : p.2 a = none) (ci k : Nat) : gL (cH p s g) a ci k = gL g a ci k := by unfold gL; rw [r_gF ha]
theorem r_gR {a : Nat} (ha : p.2 a = none) (ci k : Nat) : gR (cH p s g) a ci k = gR g a ci k := by unfold gR; rw [r_gF ha]
theorem r_gQ {a : Nat} (ha : p.2 a = none) (ci k : Nat) : gQ (cH p s g) a ci k = gQ g a ci k := by unfold gQ; rw [r_gF ha]
theorem r_len {a : Nat} (ha : p.2 a = none) : lenA (cH p s g) a = lenA g a := by unfold lenA; rw [cH_raw ha]
theorem r_dI {a : Nat} (ha : p.2 a = none) (t : Nat) (j : Int32) : dI (cH p s g) a t j = dI g a t j := by unfold dI; rw [cH_raw ha]
theorem r_dL {a : Nat} (ha : p.2 a = none) (j : Int32) : dL (cH p s g) a j = dL g a j := by unfold dL; rw [cH_raw ha]
theorem r_dQ {a : Nat} (ha : p.2 a = none) (t : Nat) (j : Int32) : dQ (cH p s g) a t j = dQ g a t j := by unfold dQ; rw [cH_raw ha]
theorem r_dR {a : Nat} (ha : p.2 a = none) (t : Nat) (j : Int32) : dR (cH p s g) a t j = dR g a t j := by unfold dR; rw [r_dQ ha]
theorem r_cko {a : Nat} (ha : p.2 a = none) (ci : Nat) : cko (cH p s g) a ci = cko g a ci := by unfold cko isO; rw [cH_raw ha]
theorem r_up {a : Nat} (ha : p.2 a = none) (x : zC) : zup (cH p s g) a x = cH p s (zup g a x) := by
  refine Prod.ext ?_ rfl
  funext b
  show va_up (cH p s g).1 a (some x) b = (match p.2 b with
    | some c => if (s.1 c).1 = 0 then (zup g a x).1 b else some (cC p.1 s c)
    | none => (zup g a x).1 b)
  unfold va_up
  by_cases h : b = a
  · rw [if_pos h, h, ha]
    exact (cu_same g.1 a (some x)).symm
  · have e : (zup g a x).1 b = g.1 b := cu_ne g.1 (some x) h
    rw [if_neg h, e]
    rfl
theorem r_pF {a : Nat} (ha : p.2 a = none) (ci k : Nat) (v : Value) : pF (cH p s g) a ci k v = (pF g a ci k v).map (cH p s) := by
  unfold pF
  rw [cH_raw ha]
  split
  · rw [r_up ha]
    split <;> rfl
  · rfl
theorem r_sI {a : Nat} (ha : p.2 a = none) (t : Nat) (j v : Int32) : sI (cH p s g) a t j v = (sI g a t j v).map (cH p s) := by
  unfold sI
  rw [cH_raw ha]
  split
  · rw [r_up ha]
    split <;> rfl
  · rfl
theorem r_sL {a : Nat} (ha : p.2 a = none) (j : Int32) (v : Int64) : sL (cH p s g) a j v = (sL g a j v).map (cH p s) := by
  unfold sL
  rw [cH_raw ha]
  split
  · rw [r_up ha]
    split <;> rfl
  · rfl
theorem r_add (ha : p.2 g.2.1 = none) (x : zC) (n : Nat) : zadd (cH p s g) x n = cH p s (zadd g x n) := by
  refine Prod.ext ?_ rfl
  have h := congrArg Prod.fst (r_up (s := s) (g := g) ha x)
  show va_up (cH p s g).1 g.2.1 (some x) = _
  exact h
theorem r_nA (ha : p.2 g.2.1 = none) (t : Nat) (x : Int32) (d : zS) : nA (cH p s g) t x d = (nA g t x d).map fun z => (z.1, cH p s z.2) := by
  unfold nA
  rw [r_add ha]
  show (if ¬ x < 0 ∧ x.toNatClampNeg ≤ 67108864 ∧ 1 ≤ g.2.2.1 ∧ x.toNatClampNeg ≤ g.2.2.2 then some (g.2.1, _) else none) = _
  split <;> rfl
theorem r_nO (ha : p.2 g.2.1 = none) (ci n : Nat) (fs : List Value) : nO (cH p s g) ci n fs = (nO g ci n fs).map fun z => (z.1, cH p s z.2) := by
  unfold nO
  rw [r_add ha]
  show (if 1 ≤ g.2.2.1 ∧ n ≤ g.2.2.2 then some (g.2.1, _) else none) = _
  split <;> rfl
end CP
