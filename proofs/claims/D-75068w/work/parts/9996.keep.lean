/-! presented heaps with what goes along (Kp); new objects get their codes at once; lists grow -/
set_option maxRecDepth 100000
/-- references go to objects that are there, or lie raw -/
def cl (s : cT) : Prop := ∀ d k e, (s.1 d).1 ≠ 0 → s.2.2.2 d k = some e → (s.1 e).1 ≠ 0 ∨ XT ≤ e
/-- an array of Objects has one owner -/
def uq (s : cT) : Prop := ∀ r d k d1 k1, (s.1 r).1 = 6 → (s.1 d).1 ≠ 0 → (s.1 d1).1 ≠ 0 → s.2.2.2 d k = some r → s.2.2.2 d1 k1 = some r → d = d1 ∧ k = k1
/-- dynamic codes: rows, or raw -/
def xr (s : cT) : Prop := ∀ c, XT ≤ c → ((s.1 c).1 = 0 ∨ (s.1 c).1 = 3) ∧ ∀ k, s.2.2.2 c k = none
def Kp (p : cP) (s : cT) (g : zH) : Prop := okP p s ∧ okG p g ∧ px p ∧ (∀ a c, p.2 a = some c → (s.1 c).1 ≠ 0) ∧ cl s ∧ uq s ∧ xr s
theorem Kp_g {p : cP} {s : cT} {g g1 : zH} (h : Kp p s g) (hg : g.2.1 ≤ g1.2.1) : Kp p s g1 := ⟨h.1, fun a ha => h.2.1 a (by omega), h.2.2⟩
theorem Kp_t {p : cP} {s s1 : cT} {g : zH} (h : Kp p s g) (h0 : s1.1 = s.1) (hR : s1.2.2.2 = s.2.2.2) : Kp p s1 g := by
  obtain ⟨a1, a2, a3, a4, a5, a6, a7⟩ := h
  refine ⟨⟨fun c hc => a1.1 c (by rw [← h0]; exact hc), a1.2⟩, a2, a3, fun a c ha => by rw [h0]; exact a4 a c ha, ?_, ?_, ?_⟩
  · unfold cl; rw [h0, hR]; exact a5
  · unfold uq; rw [h0, hR]; exact a6
  · unfold xr; rw [h0, hR]; exact a7
theorem Kp_uI {p : cP} {s : cT} {g : zH} (h : Kp p s g) (c k : Nat) (v : Int32) : Kp p (uI s c k v) g := Kp_t h rfl rfl
theorem Kp_uL {p : cP} {s : cT} {g : zH} (h : Kp p s g) (c k : Nat) (v : Int64) : Kp p (uL s c k v) g := Kp_t h rfl rfl
theorem Kp_uR {p : cP} {s : cT} {g : zH} (h : Kp p s g) {c : Nat} (hc : c < XT) (k : Nat) {v : Option Nat} (hv : ∀ e, v = some e → ((s.1 e).1 ≠ 0 ∨ XT ≤ e) ∧ ((s.1 e).1 = 6 → ∀ d q, (s.1 d).1 ≠ 0 → s.2.2.2 d q ≠ some e)) : Kp p (uR s c k v) g := by
  obtain ⟨a1, a2, a3, a4, a5, a6, a7⟩ := h
  have app : ∀ d q, (uR s c k v).2.2.2 d q = if d = c ∧ q = k then v else s.2.2.2 d q := fun d q => by
    by_cases e : d = c ∧ q = k
    · rw [if_pos e, e.1, e.2, uR_s]
    · rw [if_neg e, uR_ne _ _ (by omega)]
  refine ⟨a1, a2, a3, a4, fun d q e hd hq => ?_, fun r d q d1 q1 hr hd hd1 hq hq1 => ?_, fun d hd => ⟨(a7 d hd).1, fun q => ?_⟩⟩
  · rw [app] at hq
    by_cases w : d = c ∧ q = k
    · rw [if_pos w] at hq; exact (hv e hq).1
    · rw [if_neg w] at hq; exact a5 d q e hd hq
  · rw [app] at hq hq1
    by_cases w : d = c ∧ q = k
    · rw [if_pos w] at hq
      by_cases w1 : d1 = c ∧ q1 = k
      · exact ⟨w.1.trans w1.1.symm, w.2.trans w1.2.symm⟩
      · rw [if_neg w1] at hq1
        exact absurd hq1 ((hv r hq).2 hr d1 q1 hd1)
    · rw [if_neg w] at hq
      by_cases w1 : d1 = c ∧ q1 = k
      · rw [if_pos w1] at hq1
        exact absurd hq ((hv r hq1).2 hr d q hd)
      · rw [if_neg w1] at hq1
        exact a6 r d q d1 q1 hr hd hd1 hq hq1
  · rw [app, if_neg (by omega)]
    exact (a7 d hd).2 q
/-- codes that are free are not referred to -/
theorem Kp_fr {p : cP} {s : cT} {g : zH} (h : Kp p s g) {c : Nat} (hc : (s.1 c).1 = 0) (hx : c < XT) : (∀ a, p.2 a ≠ some c) ∧ ∀ d k, (s.1 d).1 ≠ 0 → s.2.2.2 d k ≠ some c := ⟨fun a ha => h.2.2.2.1 a c ha hc, fun d k hd hk => (h.2.2.2.2.1 d k c hd hk).elim (fun q => q hc) (by omega)⟩
/-- a raw cell gets a free code -/
theorem K_adopt {p : cP} {s s1 : cT} {g : zH} (h : Kp p s g) {c v : Nat} (hv : p.2 v = none) (hl : v < g.2.1) (hc : (s.1 c).1 = 0) (hx : c < XT) (h1 : ∀ d, d ≠ c → s1.1 d = s.1 d ∧ s1.2.1 d = s.2.1 d ∧ s1.2.2.1 d = s.2.2.1 d ∧ s1.2.2.2 d = s.2.2.2 d) (h2 : (s1.1 c).1 ≠ 0) (h3 : ∀ k e, s1.2.2.2 c k = some e → ((s.1 e).1 ≠ 0 ∨ XT ≤ e) ∧ (s.1 e).1 ≠ 6) (hg : g.1 v = some (cC (va_up p.1 c v) s1 c)) : cH (pA p c v) s1 g = cH p s g ∧ Kp (pA p c v) s1 g := by
  obtain ⟨f1, f2⟩ := Kp_fr h hc hx
  have k := cH_adopt (s1 := s1) (g := g) h.1 hv f1 h1 hc (Or.inr f2) hg
  obtain ⟨a1, a2, a3, a4, a5, a6, a7⟩ := h
  have sh : ∀ e, (s.1 e).1 ≠ 0 → (s1.1 e).1 ≠ 0 := fun e he => by
    by_cases w : e = c
    · rw [w]; exact h2
    · rw [(h1 e w).1]; exact he
  refine ⟨k.1, k.2, fun a ha => ?_, fun a => ?_, fun a d ha => ?_, fun d q e hd hq => ?_, fun r d q d1 q1 hr hd hd1 hq hq1 => ?_, fun d hd => ?_⟩
  · show va_up p.2 v (some c) a = none
    rw [show va_up p.2 v (some c) a = p.2 a from cu_ne p.2 _ (by omega)]
    exact a2 a ha
  · show va_up p.1 c v (XT + a) = a
    rw [show va_up p.1 c v (XT + a) = p.1 (XT + a) from cu_ne p.1 _ (by omega)]
    exact a3 a
  · have ha : va_up p.2 v (some c) a = some d := ha
    by_cases w : a = v
    · rw [w, show va_up p.2 v (some c) v = some c from cu_same _ _ _] at ha
      cases ha
      exact h2
    · rw [show va_up p.2 v (some c) a = p.2 a from cu_ne p.2 _ w] at ha
      exact sh d (a4 a d ha)
  · by_cases w : d = c
    · rw [w] at hq
      exact (h3 q e hq).1.imp (sh e) id
    · rw [(h1 d w).2.2.2] at hq
      rw [(h1 d w).1] at hd
      exact (a5 d q e hd hq).imp (sh e) id
  · have no : ∀ d q, d = c → s1.2.2.2 d q = some r → (s1.1 r).1 = 6 → False := fun d q w hq hr => by
      rw [w] at hq
      have k3 := h3 q r hq
      by_cases w2 : r = c
      · rw [w2] at k3
        exact k3.1.elim (fun q => q hc) (by omega)
      · rw [(h1 r w2).1] at hr
        exact k3.2 hr
    by_cases w : d = c
    · exact (no d q w hq hr).elim
    · by_cases w1 : d1 = c
      · exact (no d1 q1 w1 hq1 hr).elim
      · rw [(h1 d w).1] at hd
        rw [(h1 d1 w1).1] at hd1
        rw [(h1 d w).2.2.2] at hq
        rw [(h1 d1 w1).2.2.2] at hq1
        have w2 : r ≠ c := fun e => f2 d q hd (by rw [hq, e])
        rw [(h1 r w2).1] at hr
        exact a6 r d q d1 q1 hr hd hd1 hq hq1
  · have w : d ≠ c := by omega
    rw [(h1 d w).1, (h1 d w).2.2.2]
    exact a7 d hd
/-- a code is given to what was just made -/
def sNw (s : cT) (c : Nat) (sh : Nat × Nat) : cT := (va_up s.1 c sh, (va_up s.2.1 c (fun _ => 0), (va_up s.2.2.1 c (fun _ => 0), va_up s.2.2.2 c (fun _ => none))))
theorem sNw_o (s : cT) {c d : Nat} (h : d ≠ c) (sh : Nat × Nat) : (sNw s c sh).1 d = s.1 d ∧ (sNw s c sh).2.1 d = s.2.1 d ∧ (sNw s c sh).2.2.1 d = s.2.2.1 d ∧ (sNw s c sh).2.2.2 d = s.2.2.2 d := ⟨cu_ne s.1 _ h, cu_ne s.2.1 _ h, cu_ne s.2.2.1 _ h, cu_ne s.2.2.2 _ h⟩
theorem sNw_s (s : cT) (c : Nat) (sh : Nat × Nat) : (sNw s c sh).1 c = sh ∧ (sNw s c sh).2.1 c = (fun _ => 0) ∧ (sNw s c sh).2.2.1 c = (fun _ => 0) ∧ (sNw s c sh).2.2.2 c = (fun _ => none) := ⟨cu_same _ _ _, cu_same _ _ _, cu_same _ _ _, cu_same _ _ _⟩
theorem K_new {p : cP} {s : cT} {g : zH} (h : Kp p s g) {c : Nat} {sh : Nat × Nat} (h2 : sh.1 ≠ 0) (hc : (s.1 c).1 = 0) (hx : c < XT) {x : zC} (n : Nat) (hg : x = cC (va_up p.1 c g.2.1) (sNw s c sh) c) : zadd (cH p s g) x n = cH (pA p c g.2.1) (sNw s c sh) (zadd g x n) ∧ Kp (pA p c g.2.1) (sNw s c sh) (zadd g x n) := by
  have hv := h.2.1 g.2.1 (Nat.le_refl _)
  have k := K_adopt (g := zadd g x n) (s1 := sNw s c sh) (Kp_g h (Nat.le_succ _)) (c := c) hv (Nat.lt_succ_self _) hc hx (fun d hd => sNw_o s hd sh) (by rw [(sNw_s s c sh).1]; exact h2) (fun q e he => by rw [(sNw_s s c sh).2.2.2] at he; cases he) ((cu_same _ _ _).trans (congrArg some hg))
  exact ⟨(r_add hv x n).trans k.1.symm, k.2⟩
/-- fields as they are at first -/
def dft (ci : Nat) : List Value := (vT ci).map fun ty => match ty with
  | 0 => .int 0
  | 1 => .long 0
  | _ => .null
theorem cC_new {ad : Nat → Nat} (s : cT) (c ci : Nat) : cC ad (sNw s c (1, ci)) c = (true, .inr (ci, dft ci)) := by
  obtain ⟨e0, e1, e2, e3⟩ := sNw_s s c (1, ci)
  rw [cC_obj e0]
  refine congrArg (fun x => (true, Sum.inr (ci, x))) ?_
  unfold dft
  apply List.ext_getElem?
  intro j
  rw [List.getElem?_mapIdx, List.getElem?_map]
  cases (vT ci)[j]? with
  | none => rfl
  | some ty =>
    refine congrArg some ?_
    unfold cV
    rw [e1, e2, e3]
    rcases ty with _ | _ | ty <;> rfl
section KN
variable {p : cP} {s : cT} {g : zH}
theorem K_nO (h : Kp p s g) {c ci n : Nat} {fs : List Value} (hr : rm g 1 n) (hc : (s.1 c).1 = 0) (hx : c < XT) (hf : fs = dft ci) : nO (cH p s g) ci n fs = some (g.2.1, cH (pA p c g.2.1) (sNw s c (1, ci)) (zadd g (true, .inr (ci, fs)) n)) ∧ Kp (pA p c g.2.1) (sNw s c (1, ci)) (zadd g (true, .inr (ci, fs)) n) := by
  have k := K_new h (c := c) (sh := (1, ci)) (Nat.succ_ne_zero 0) hc hx (x := (true, .inr (ci, fs))) n (by rw [cC_new, hf])
  refine ⟨?_, k.2⟩
  unfold nO
  show (if 1 ≤ g.2.2.1 ∧ n ≤ g.2.2.2 then some (g.2.1, zadd (cH p s g) (true, .inr (ci, fs)) n) else none) = _
  rw [if_pos ⟨hr.1, hr.2⟩, k.1]
/-- arrays -/
def d0 (t : Nat) : zS := match t with
  | 1 => .inr (.inl fun _ => 0)
  | 4 => .inr (.inr fun _ => none)
  | 5 => .inr (.inr fun _ => none)
  | 6 => .inr (.inr fun _ => none)
  | _ => .inl fun _ => 0
theorem cC_newA {ad : Nat → Nat} (s : cT) (c t n : Nat) : cC ad (sNw s c (t + 2, n)) c = (true, .inl (t, n, d0 t)) := by
  obtain ⟨e0, e1, e2, e3⟩ := sNw_s s c (t + 2, n)
  rw [cC_arr e0]
  refine congrArg (fun x => (true, Sum.inl (t, n, x))) ?_
  unfold cA d0
  rw [e1, e2, e3]
  rcases t with _ | _ | _ | _ | _ | _ | _ | t <;> rfl
theorem K_nA (h : Kp p s g) {c t n : Nat} {x : Int32} {d : zS} (hr : rm g 1 n) (hn : n < 100000) (hxn : x = Int32.ofNat n) (hd : d = d0 t) (hc : (s.1 c).1 = 0) (hx : c < XT) : nA (cH p s g) t x d = some (g.2.1, cH (pA p c g.2.1) (sNw s c (t + 2, n)) (zadd g (true, .inl (t, n, d)) n)) ∧ Kp (pA p c g.2.1) (sNw s c (t + 2, n)) (zadd g (true, .inl (t, n, d)) n) := by
  have k := K_new h (c := c) (sh := (t + 2, n)) (Nat.succ_ne_zero _) hc hx (x := (true, .inl (t, n, d))) n (by rw [cC_newA, hd])
  refine ⟨?_, k.2⟩
  unfold nA
  show (if ¬ x < 0 ∧ x.toNatClampNeg ≤ 67108864 ∧ 1 ≤ g.2.2.1 ∧ x.toNatClampNeg ≤ g.2.2.2 then some (g.2.1, zadd (cH p s g) (true, .inl (t, x.toNatClampNeg, d)) x.toNatClampNeg) else none) = _
  rw [hxn, nat_clamp (by omega), if_pos ⟨i32_nneg (by omega), by omega, hr.1, hr.2⟩, k.1]
end KN
/-- a heap is presented if every presented cell is as the tables say -/
theorem cH_eq {p : cP} {s : cT} {H : zH} (h : ∀ b d, p.2 b = some d → (s.1 d).1 ≠ 0 → H.1 b = some (cC p.1 s d)) : cH p s H = H := by
  refine Prod.ext (funext fun b => ?_) rfl
  show (match p.2 b with
    | some c => if (s.1 c).1 = 0 then H.1 b else some (cC p.1 s c)
    | none => H.1 b) = H.1 b
  cases hb : p.2 b with
  | none => rfl
  | some d =>
    by_cases e : (s.1 d).1 = 0
    · exact if_pos e
    · exact (if_neg e).trans (h b d hb e).symm
/-- a list's array is replaced by the one that lies raw at v -/
def pM (p : cP) (r v : Nat) : cP := (va_up p.1 r v, fun b => if b = v then some r else if b = p.1 r then none else p.2 b)
def sM (s : cT) (c r n : Nat) (T : Nat → Option Nat) : cT := (va_up s.1 r (6, n), (s.2.1, (s.2.2.1, va_up (uR s c 1 (some r)).2.2.2 r T)))
theorem K_map {p : cP} {s : cT} {g : zH} (h : Kp p s g) {c r v n m : Nat} {T : Nat → Option Nat} (hc : s.1 c = (1, 15)) (hcx : c < XT) (hr : s.1 r = (6, m)) (hrx : r < XT) (hR : s.2.2.2 c 1 = some (XT + v)) (hun : ∀ d k, (s.1 d).1 ≠ 0 → s.2.2.2 d k ≠ some r) (hv : p.2 v = none) (hl : v < g.2.1) (hg : g.1 v = some (true, .inl (4, n, .inr (.inr fun i => (T i).map p.1)))) (hT : ∀ i e, T i = some e → ((s.1 e).1 ≠ 0 ∨ XT ≤ e) ∧ (s.1 e).1 ≠ 6) : cH (pM p r v) (sM s c r n T) (cH p s g) = cH p s g ∧ Kp (pM p r v) (sM s c r n T) (cH p s g) := by
  obtain ⟨a1, a2, a3, a4, a5, a6, a7⟩ := h
  have ncr : c ≠ r := fun e => by rw [e, hr] at hc; cases hc
  have hrz : (s.1 r).1 ≠ 0 := by rw [hr]; exact Nat.succ_ne_zero _
  have hcz : (s.1 c).1 ≠ 0 := by rw [hc]; exact Nat.succ_ne_zero _
  have hvr : v ≠ p.1 r := fun e => by rw [e, a1.1 r hrz] at hv; cases hv
  have so : ∀ d, d ≠ r → (sM s c r n T).1 d = s.1 d ∧ (sM s c r n T).2.2.2 d = (uR s c 1 (some r)).2.2.2 d := fun d hd => ⟨cu_ne s.1 _ hd, cu_ne (uR s c 1 (some r)).2.2.2 _ hd⟩
  have ss : (sM s c r n T).1 r = (6, n) ∧ (sM s c r n T).2.2.2 r = T := ⟨cu_same _ _ _, cu_same _ _ _⟩
  have po : ∀ d, d ≠ r → (pM p r v).1 d = p.1 d := fun d hd => cu_ne p.1 _ hd
  have ps : (pM p r v).1 r = v := cu_same _ _ _
  have shz : ∀ d, (sM s c r n T).1 d = s.1 d ∨ d = r := fun d => by
    by_cases w : d = r
    · exact Or.inr w
    · exact Or.inl (so d w).1
  have sz : ∀ d, ((sM s c r n T).1 d).1 ≠ 0 ↔ (s.1 d).1 ≠ 0 := fun d => by
    by_cases w : d = r
    · rw [w, ss.1, hr]
    · rw [(so d w).1]
  have s6 : ∀ d, ((sM s c r n T).1 d).1 = 6 ↔ (s.1 d).1 = 6 := fun d => by
    by_cases w : d = r
    · rw [w, ss.1, hr]
    · rw [(so d w).1]
  have rf : ∀ d k, d ≠ r → ¬ (d = c ∧ k = 1) → (sM s c r n T).2.2.2 d k = s.2.2.2 d k := fun d k w w2 => by rw [(so d w).2, uR_ne _ _ (by omega)]
  have rc : (sM s c r n T).2.2.2 c 1 = some r := by rw [(so c ncr).2, uR_s]
  have p2 : ∀ b d, (pM p r v).2 b = some d → b = v ∧ d = r ∨ b ≠ v ∧ d ≠ r ∧ p.2 b = some d := fun b d hb => by
    have hb : (if b = v then some r else if b = p.1 r then none else p.2 b) = some d := hb
    by_cases w : b = v
    · rw [if_pos w] at hb; cases hb; exact Or.inl ⟨w, rfl⟩
    · rw [if_neg w] at hb
      by_cases w2 : b = p.1 r
      · rw [if_pos w2] at hb; cases hb
      · rw [if_neg w2] at hb
        exact Or.inr ⟨w, fun e => w2 (by rw [← a1.2 b d hb, e]), hb⟩
  have mp : ∀ d k, d ≠ r → (s.1 d).1 ≠ 0 → ((sM s c r n T).2.2.2 d k).map (pM p r v).1 = (s.2.2.2 d k).map p.1 := fun d k w hd => by
    by_cases w2 : d = c ∧ k = 1
    · rw [w2.1, w2.2, rc, hR]
      exact congrArg some (ps.trans (a3 v).symm)
    · rw [rf d k w w2]
      cases hk : s.2.2.2 d k with
      | none => rfl
      | some e => exact congrArg some (po e (fun q => hun d k hd (by rw [hk, q])))
  refine ⟨cH_eq fun b d hb hd => ?_, ⟨⟨fun d hd => ?_, fun b d hb => ?_⟩, fun b hb => ?_, fun a => ?_, fun b d hb => ?_, fun d k e hd hk => ?_, fun q d k d1 k1 hq hd hd1 hk hk1 => ?_, fun d hd => ?_⟩⟩
  · rcases p2 b d hb with ⟨e1, e2⟩ | ⟨w, w2, w3⟩
    · rw [e1, e2, cH_raw hv, hg, cC_arr ss.1]
      refine congrArg (fun x => some (true, Sum.inl (4, n, x))) ?_
      show _ = Sum.inr (Sum.inr fun j => ((sM s c r n T).2.2.2 r j).map (pM p r v).1)
      rw [ss.2]
      refine congrArg (fun x => Sum.inr (Sum.inr x)) (funext fun i => ?_)
      cases hi : T i with
      | none => rfl
      | some e => exact congrArg some (po e (fun q => (hT i e hi).2 (by rw [q, hr]))).symm
    · have hz := a4 b d w3
      rw [← a1.2 b d w3, cH_at a1 hz]
      exact congrArg some (cC_cg (so d w2).1.symm rfl rfl fun k => (mp d k w2 hz).symm)
  · rw [sz] at hd
    show (if (pM p r v).1 d = v then some r else if (pM p r v).1 d = p.1 r then none else p.2 ((pM p r v).1 d)) = some d
    by_cases w : d = r
    · rw [w, ps, if_pos rfl]
    · rw [po d w, if_neg (fun e => by rw [← e, a1.1 d hd] at hv; cases hv), if_neg (fun e => w (by have q := a1.1 d hd; rw [e, a1.1 r hrz] at q; exact (Option.some.inj q).symm))]
      exact a1.1 d hd
  · rcases p2 b d hb with ⟨e1, e2⟩ | ⟨w, w2, w3⟩
    · rw [e1, e2]; exact ps
    · rw [po d w2]; exact a1.2 b d w3
  · show (if b = v then some r else if b = p.1 r then none else p.2 b) = none
    have hb : g.2.1 ≤ b := hb
    rw [if_neg (by omega)]
    split
    · rfl
    · exact a2 b hb
  · rw [po _ (by omega)]; exact a3 a
  · rw [sz]
    rcases p2 b d hb with ⟨e1, e2⟩ | ⟨w, w2, w3⟩
    · rw [e2]; exact hrz
    · exact a4 b d w3
  · rw [sz] at hd ⊢
    by_cases w : d = r
    · rw [w, ss.2] at hk
      exact (hT k e hk).1
    · by_cases w2 : d = c ∧ k = 1
      · rw [w2.1, w2.2, rc] at hk
        cases hk
        exact Or.inl hrz
      · rw [rf d k w w2] at hk
        exact a5 d k e hd hk
  · rw [sz] at hd hd1
    rw [s6] at hq
    have key : ∀ d k, (s.1 d).1 ≠ 0 → (sM s c r n T).2.2.2 d k = some q → (d = c ∧ k = 1 ∧ q = r) ∨ s.2.2.2 d k = some q ∧ d ≠ r := fun d k hd hk => by
      by_cases w : d = r
      · rw [w, ss.2] at hk
        exact absurd hq (hT k q hk).2
      · by_cases w2 : d = c ∧ k = 1
        · rw [w2.1, w2.2, rc] at hk
          exact Or.inl ⟨w2.1, w2.2, (Option.some.inj hk).symm⟩
        · rw [rf d k w w2] at hk
          exact Or.inr ⟨hk, w⟩
    rcases key d k hd hk with ⟨q1, q2, q3⟩ | ⟨q1, q2⟩
    · rcases key d1 k1 hd1 hk1 with ⟨r1, r2, r3⟩ | ⟨r1, r2⟩
      · exact ⟨q1.trans r1.symm, q2.trans r2.symm⟩
      · rw [q3] at r1
        exact absurd r1 (hun d1 k1 hd1)
    · rcases key d1 k1 hd1 hk1 with ⟨r1, r2, r3⟩ | ⟨r1, r2⟩
      · rw [r3] at q1
        exact absurd q1 (hun d k hd)
      · exact a6 q d k d1 k1 hq hd hd1 q1 r1
  · have w : d ≠ r := by omega
    rw [(so d w).1]
    refine ⟨(a7 d hd).1, fun k => ?_⟩
    rw [rf d k w (by omega)]
    exact (a7 d hd).2 k
