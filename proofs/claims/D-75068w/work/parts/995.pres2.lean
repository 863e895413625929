/-! presented heaps, more: new codes, other names of codes, codes dropped; references laid into arrays -/
set_option maxRecDepth 100000
theorem cC_cg {ad ad1 : Nat → Nat} {s s1 : cT} {c c1 : Nat} (h0 : s1.1 c1 = s.1 c) (h1 : s1.2.1 c1 = s.2.1 c) (h2 : s1.2.2.1 c1 = s.2.2.1 c) (h3 : ∀ k, (s1.2.2.2 c1 k).map ad1 = (s.2.2.2 c k).map ad) : cC ad1 s1 c1 = cC ad s c := by
  have hV : ∀ k ty, cV ad1 s1 c1 k ty = cV ad s c k ty := fun k ty => by
    unfold cV
    rw [h1, h2, h3]
  have hA : ∀ t, cA ad1 s1 c1 t = cA ad s c t := fun t => by
    unfold cA
    rw [h1, h2]
    have e : (fun j => (s1.2.2.2 c1 j).map ad1) = fun j => (s.2.2.2 c j).map ad := funext h3
    rw [e]
  have hV2 : (fun k ty => cV ad1 s1 c1 k ty) = fun k ty => cV ad s c k ty := funext fun k => funext fun ty => hV k ty
  unfold cC
  rw [h0, hV2]
  split
  · rfl
  · rfl
  · rename_i t _
    rw [hA t]
/-- what g holds at presented places does not matter -/
theorem cH_idem (p : cP) (s : cT) (g : zH) : cH p s (cH p s g) = cH p s g := by
  refine Prod.ext ?_ rfl
  funext a
  show (match p.2 a with
    | some c => if (s.1 c).1 = 0 then (match p.2 a with
      | some c => if (s.1 c).1 = 0 then g.1 a else some (cC p.1 s c)
      | none => g.1 a) else some (cC p.1 s c)
    | none => (match p.2 a with
      | some c => if (s.1 c).1 = 0 then g.1 a else some (cC p.1 s c)
      | none => g.1 a)) = match p.2 a with
    | some c => if (s.1 c).1 = 0 then g.1 a else some (cC p.1 s c)
    | none => g.1 a
  cases p.2 a with
  | none => rfl
  | some c =>
    by_cases h : (s.1 c).1 = 0
    · show (if (s.1 c).1 = 0 then (if (s.1 c).1 = 0 then g.1 a else some (cC p.1 s c)) else some (cC p.1 s c)) = _
      rw [if_pos h]
    · show (if (s.1 c).1 = 0 then (if (s.1 c).1 = 0 then g.1 a else some (cC p.1 s c)) else some (cC p.1 s c)) = (if (s.1 c).1 = 0 then g.1 a else some (cC p.1 s c))
      rw [if_neg h, if_neg h]
/-- a cell at v gets the code c -/
def pA (p : cP) (c v : Nat) : cP := (va_up p.1 c v, va_up p.2 v (some c))
theorem cH_adopt {p : cP} {s s1 : cT} {g : zH} {c v : Nat} (hp : okP p s) (hv : p.2 v = none) (hc : ∀ a, p.2 a ≠ some c) (hs : ∀ d, d ≠ c → s1.1 d = s.1 d ∧ s1.2.1 d = s.2.1 d ∧ s1.2.2.1 d = s.2.2.1 d ∧ s1.2.2.2 d = s.2.2.2 d) (h0 : (s.1 c).1 = 0) (hr : p.1 c = v ∨ ∀ d k, (s.1 d).1 ≠ 0 → s.2.2.2 d k ≠ some c) (hg : g.1 v = some (cC (va_up p.1 c v) s1 c)) : cH (pA p c v) s1 g = cH p s g ∧ okP (pA p c v) s1 := by
  have hne : ∀ d, d ≠ c → va_up p.1 c v d = p.1 d := fun d hd => cu_ne p.1 _ hd
  have hnv : ∀ a, a ≠ v → va_up p.2 v (some c) a = p.2 a := fun a ha => cu_ne p.2 _ ha
  refine ⟨Prod.ext (funext fun a => ?_) rfl, ⟨fun d hd => ?_, fun a d ha => ?_⟩⟩
  · show (match va_up p.2 v (some c) a with
      | some d => if (s1.1 d).1 = 0 then g.1 a else some (cC (va_up p.1 c v) s1 d)
      | none => g.1 a) = match p.2 a with
      | some d => if (s.1 d).1 = 0 then g.1 a else some (cC p.1 s d)
      | none => g.1 a
    by_cases e : a = v
    · subst e
      rw [show va_up p.2 a (some c) a = some c from cu_same _ _ _, hv]
      show (if (s1.1 c).1 = 0 then g.1 a else some (cC (va_up p.1 c a) s1 c)) = g.1 a
      by_cases h : (s1.1 c).1 = 0
      · rw [if_pos h]
      · rw [if_neg h, hg]
    · rw [hnv a e]
      cases hq : p.2 a with
      | none => rfl
      | some d =>
        have hd : d ≠ c := fun n => hc a (by rw [hq, n])
        obtain ⟨e0, e1, e2, e3⟩ := hs d hd
        show (if (s1.1 d).1 = 0 then g.1 a else some (cC (va_up p.1 c v) s1 d)) = (if (s.1 d).1 = 0 then g.1 a else some (cC p.1 s d))
        rw [e0]
        by_cases h : (s.1 d).1 = 0
        · rw [if_pos h, if_pos h]
        · rw [if_neg h, if_neg h]
          refine congrArg some (cC_cg e0 e1 e2 fun k => ?_)
          rw [e3]
          cases hk : s.2.2.2 d k with
          | none => rfl
          | some f =>
            show some (va_up p.1 c v f) = some (p.1 f)
            by_cases hf : f = c
            · subst hf
              rcases hr with hr | hr
              · rw [show va_up p.1 f v f = v from cu_same _ _ _, hr]
              · exact absurd hk (hr d k h)
            · rw [hne f hf]
  · show va_up p.2 v (some c) (va_up p.1 c v d) = some d
    by_cases e : d = c
    · subst e
      rw [show va_up p.1 d v d = v from cu_same _ _ _]
      exact cu_same _ _ _
    · rw [hne d e]
      have h := hp.1 d (by rw [← (hs d e).1]; exact hd)
      rw [hnv _ (fun n => by rw [n, hv] at h; cases h)]
      exact h
  · have ha : va_up p.2 v (some c) a = some d := ha
    show va_up p.1 c v d = a
    by_cases e : a = v
    · subst e
      rw [show va_up p.2 a (some c) a = some c from cu_same _ _ _] at ha
      cases ha
      exact cu_same _ _ _
    · rw [hnv a e] at ha
      rw [hne d (fun n => hc a (by rw [ha, n]))]
      exact hp.2 a d ha
/-- codes get other names -/
def pS (σ : Nat → Nat) (p : cP) : cP := (fun c => p.1 (σ c), fun a => (p.2 a).map σ)
def sS (σ : Nat → Nat) (s : cT) : cT := (fun c => s.1 (σ c), (fun c => s.2.1 (σ c), (fun c => s.2.2.1 (σ c), fun c k => (s.2.2.2 (σ c) k).map σ)))
theorem cH_ren {σ : Nat → Nat} (hσ : ∀ c, σ (σ c) = c) {p : cP} {s : cT} {g : zH} (hp : okP p s) : cH (pS σ p) (sS σ s) g = cH p s g ∧ okP (pS σ p) (sS σ s) := by
  refine ⟨Prod.ext (funext fun a => ?_) rfl, ⟨fun d hd => ?_, fun a d ha => ?_⟩⟩
  · show (match (p.2 a).map σ with
      | some d => if (s.1 (σ d)).1 = 0 then g.1 a else some (cC (pS σ p).1 (sS σ s) d)
      | none => g.1 a) = match p.2 a with
      | some d => if (s.1 d).1 = 0 then g.1 a else some (cC p.1 s d)
      | none => g.1 a
    cases p.2 a with
    | none => rfl
    | some c =>
      show (if (s.1 (σ (σ c))).1 = 0 then g.1 a else some (cC (pS σ p).1 (sS σ s) (σ c))) = (if (s.1 c).1 = 0 then g.1 a else some (cC p.1 s c))
      have e : cC (pS σ p).1 (sS σ s) (σ c) = cC p.1 s c := by
        refine cC_cg (congrArg s.1 (hσ c)) (congrArg s.2.1 (hσ c)) (congrArg s.2.2.1 (hσ c)) fun k => ?_
        show ((s.2.2.2 (σ (σ c)) k).map σ).map (fun c => p.1 (σ c)) = _
        rw [hσ]
        cases s.2.2.2 c k with
        | none => rfl
        | some f => exact congrArg some (congrArg p.1 (hσ f))
      rw [hσ, e]
  · show (p.2 (p.1 (σ d))).map σ = some d
    rw [hp.1 (σ d) hd]
    exact congrArg some (hσ d)
  · have ha : (p.2 a).map σ = some d := ha
    show p.1 (σ d) = a
    cases hq : p.2 a with
    | none => rw [hq] at ha; cases ha
    | some c =>
      rw [hq] at ha
      have e : σ c = d := Option.some.inj ha
      rw [← e, hσ]
      exact hp.2 a c hq
/-- codes are dropped: their cells stay as they are -/
def pD (D : Nat → Prop) [DecidablePred D] (p : cP) : cP := (p.1, fun a => (p.2 a).bind fun c => if D c then none else some c)
def sD (D : Nat → Prop) [DecidablePred D] (s : cT) : cT := (fun c => if D c then (0, 0) else s.1 c, s.2)
theorem cH_drop (D : Nat → Prop) [DecidablePred D] {p : cP} {s : cT} {g : zH} (hp : okP p s) : cH (pD D p) (sD D s) (cH p s g) = cH p s g ∧ okP (pD D p) (sD D s) := by
  have hi := cH_idem p s g
  have hi2 : ∀ a, (match p.2 a with
    | some c => if (s.1 c).1 = 0 then (cH p s g).1 a else some (cC p.1 s c)
    | none => (cH p s g).1 a) = (cH p s g).1 a := fun a => congrFun (congrArg Prod.fst hi) a
  refine ⟨Prod.ext (funext fun a => ?_) rfl, ⟨fun d hd => ?_, fun a d ha => ?_⟩⟩
  · show (match (p.2 a).bind fun c => if D c then none else some c with
      | some d => if (if D d then ((0 : Nat), (0 : Nat)) else s.1 d).1 = 0 then (cH p s g).1 a else some (cC p.1 (sD D s) d)
      | none => (cH p s g).1 a) = (cH p s g).1 a
    have h2 := hi2 a
    cases hq : p.2 a with
    | none => rfl
    | some c =>
      rw [hq] at h2
      show (match (if D c then none else some c : Option Nat) with
        | some d => if (if D d then ((0 : Nat), (0 : Nat)) else s.1 d).1 = 0 then (cH p s g).1 a else some (cC p.1 (sD D s) d)
        | none => (cH p s g).1 a) = (cH p s g).1 a
      by_cases hD : D c
      · rw [if_pos hD]
      · rw [if_neg hD]
        show (if (if D c then ((0 : Nat), (0 : Nat)) else s.1 c).1 = 0 then (cH p s g).1 a else some (cC p.1 (sD D s) c)) = (cH p s g).1 a
        rw [if_neg hD]
        have e : cC p.1 (sD D s) c = cC p.1 s c := cC_cg (if_neg hD) rfl rfl fun _ => rfl
        rw [e]
        exact h2
  · have hd : (if D d then ((0 : Nat), (0 : Nat)) else s.1 d).1 ≠ 0 := hd
    by_cases hD : D d
    · rw [if_pos hD] at hd; exact absurd rfl hd
    · rw [if_neg hD] at hd
      show (p.2 (p.1 d)).bind (fun c => if D c then none else some c) = some d
      rw [hp.1 d hd]
      exact if_neg hD
  · have ha : (p.2 a).bind (fun c => if D c then none else some c) = some d := ha
    cases hq : p.2 a with
    | none => rw [hq] at ha; cases ha
    | some c =>
      rw [hq] at ha
      have ha : (if D c then none else some c) = some d := ha
      by_cases hD : D c
      · rw [if_pos hD] at ha; cases ha
      · rw [if_neg hD] at ha
        rw [← Option.some.inj ha]
        exact hp.2 a c hq
section RA
variable {p : cP} {s : cT} {g : zH}
theorem cA_R (ad : Nat → Nat) (s : cT) (c j : Nat) (v : Option Nat) : (fun i => ((uR s c j v).2.2.2 c i).map ad) = va_up (fun i => (s.2.2.2 c i).map ad) j (v.map ad) := by
  funext i
  show (va_up s.2.2.2 c (va_up (s.2.2.2 c) j v) c i).map ad = _
  rw [show va_up s.2.2.2 c (va_up (s.2.2.2 c) j v) c = va_up (s.2.2.2 c) j v from cu_same _ _ _]
  by_cases h : i = j
  · subst h
    rw [show va_up (s.2.2.2 c) i v i = v from cu_same _ _ _]
    exact (cu_same _ _ _).symm
  · rw [show va_up (s.2.2.2 c) j v i = s.2.2.2 c i from cu_ne _ _ h]
    exact (cu_ne (fun i => (s.2.2.2 c i).map ad) _ h).symm
/-- a presented array of longs is laid into a presented array of such -/
theorem c_sA (hp : okP p s) {c e n m : Nat} {j : Int32} (hc : s.1 c = (7, n)) (he : s.1 e = (3, m)) (hj : ¬ (j < 0 ∨ n ≤ j.toNatClampNeg)) : sA (cH p s g) (p.1 c) j (p.1 e) = some (cH p (uR s c j.toNatClampNeg (some e)) g) := by
  have hz : (s.1 c).1 ≠ 0 := by rw [hc]; exact Nat.succ_ne_zero _
  have hze : (s.1 e).1 ≠ 0 := by rw [he]; exact Nat.succ_ne_zero _
  have hput := cH_put (g := g) (s1 := uR s c j.toNatClampNeg (some e)) hp hz rfl (fun d hd => cC_off rfl rfl rfl (cu_ne _ _ hd))
  rw [cC_arr (s := uR s c j.toNatClampNeg (some e)) (t := 5) (n := n) hc] at hput
  have e1 : cA p.1 (uR s c j.toNatClampNeg (some e)) c 5 = .inr (.inr (va_up (fun i => (s.2.2.2 c i).map p.1) j.toNatClampNeg (some (p.1 e)))) := congrArg (fun x => Sum.inr (Sum.inr x)) (cA_R p.1 s c j.toNatClampNeg (some e))
  rw [e1] at hput
  unfold sA
  rw [cH_at hp hz, cH_at hp hze, cC_arr (t := 5) hc, cC_arr (t := 1) he]
  exact (if_pos ⟨rfl, rfl, hj⟩).trans (congrArg some hput)
end RA
