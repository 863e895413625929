/-! closing a month, walked: the rows of an invoice get the codes XT + address -/
set_option maxRecDepth 100000
def XT : Nat := 1000000
/-- codes from XT on are addresses -/
def px (p : cP) : Prop := ∀ a, p.1 (XT + a) = a
def adL (s : cT) (v : Nat) (f : Nat → Int64) : cT := (va_up s.1 (XT + v) (3, 7), (s.2.1, (va_up s.2.2.1 (XT + v) f, s.2.2.2)))
def lRow (g : zH) (v : Nat) : Option (Nat → Int64) := match g.1 v with
  | some (b, .inl (t, n, .inr (.inl f))) => if b = true ∧ t = 1 ∧ n = 7 then some f else none
  | _ => none
theorem lRow_spec {g : zH} {v : Nat} {f : Nat → Int64} (h : lRow g v = some f) : g.1 v = some (true, .inl (1, 7, .inr (.inl f))) := by
  unfold lRow at h
  split at h
  · rename_i b t n f1 hh
    obtain ⟨⟨e1, e2, e3⟩, e4⟩ := z_ite h
    rw [hh, e1, e2, e3, e4]
  · cases h
theorem lst_cg {s s1 : cT} {c arr n : Nat} {el : Nat → Nat} (h : lst s c arr n el) (h0 : s1.1 c = s.1 c) (h1 : s1.2.1 c = s.2.1 c) (h2 : s1.2.2.2 c = s.2.2.2 c) (h3 : s1.1 arr = s.1 arr) (h4 : s1.2.2.2 arr = s.2.2.2 arr) : lst s1 c arr n el := by
  obtain ⟨a1, a2, a3, a4, cap, a5, a6, a7⟩ := h
  exact ⟨h0.trans a1, (congrFun h2 1).trans a2, (congrFun h1 2).trans a3, a4, cap, h3.trans a5, a6, fun i hi => (congrFun h4 i).trans (a7 i hi)⟩
theorem iH_cg {p p1 : cP} {s s1 : cT} {g g1 : zH} {N : iN} (h : iH p s g N) (hp : okP p1 s1) (hg : okG p1 g1) (hS : ∀ c, c < N.1 + 200 → s1.1 c = s.1 c) (hI : ∀ c, c < N.1 + 200 → s1.2.1 c = s.2.1 c) (hR : ∀ c, c < N.1 + 150 → c ≠ 21 → s1.2.2.2 c = s.2.2.2 c) : iH p1 s1 g1 N := by
  obtain ⟨-, -, hX, hB, hRu, hN⟩ := h
  have R : ∀ c k, c < N.1 + 150 → c ≠ 21 → s1.2.2.2 c k = s.2.2.2 c k := fun c k hc h21 => congrFun (hR c hc h21) k
  refine ⟨hp, hg, ?_, ?_, ?_, hN⟩
  · obtain ⟨a1, a2, a3, a4, a5, a6, a7, a8, a9, a10, a11⟩ := hX
    exact ⟨(hS _ (by omega)).trans a1, (R _ _ (by omega) (by omega)).trans a2, (R _ _ (by omega) (by omega)).trans a3, (R _ _ (by omega) (by omega)).trans a4, (R _ _ (by omega) (by omega)).trans a5, (R _ _ (by omega) (by omega)).trans a6, (R _ _ (by omega) (by omega)).trans a7, (R _ _ (by omega) (by omega)).trans a8, (hS _ (by omega)).trans a9, (hS _ (by omega)).trans a10, (hS _ (by omega)).trans a11⟩
  · obtain ⟨a1, a2, a3, a4, a5, a6, a7, a8, a9, a10, a11, a12, a13, a14, a15, a16, a17⟩ := hB
    refine ⟨(hS _ (by omega)).trans a1, (R _ _ (by omega) (by omega)).trans a2, (R _ _ (by omega) (by omega)).trans a3, (R _ _ (by omega) (by omega)).trans a4, (R _ _ (by omega) (by omega)).trans a5, (R _ _ (by omega) (by omega)).trans a6, (R _ _ (by omega) (by omega)).trans a7, a8, a9, lst_cg a10 (hS _ (by omega)) (hI _ (by omega)) (hR _ (by omega) (by omega)) (hS _ (by omega)) (hR _ (by omega) (by omega)), lst_cg a11 (hS _ (by omega)) (hI _ (by omega)) (hR _ (by omega) (by omega)) (hS _ (by omega)) (hR _ (by omega) (by omega)), ?_, fun i hi => ?_, fun k hk => (hS _ (by omega)).trans (a14 k hk), (hS _ (by omega)).trans a15, fun f hf => ⟨(R _ _ (by omega) (by omega)).trans (a16 f hf).1, (hS _ (by omega)).trans (a16 f hf).2⟩, (hS _ (by omega)).trans a17⟩
    · obtain ⟨b1, b2, b3, b4, b5, b6, b7⟩ := a12
      exact ⟨(hS _ (by omega)).trans b1, (R _ _ (by omega) (by omega)).trans b2, (R _ _ (by omega) (by omega)).trans b3, (R _ _ (by omega) (by omega)).trans b4, (hS _ (by omega)).trans b5, (hS _ (by omega)).trans b6, (hS _ (by omega)).trans b7⟩
    · obtain ⟨b1, b2, b3, b4, b5, b6, b7⟩ := a13 i hi
      exact ⟨(hS _ (by omega)).trans b1, (R _ _ (by omega) (by omega)).trans b2, (R _ _ (by omega) (by omega)).trans b3, (R _ _ (by omega) (by omega)).trans b4, (hS _ (by omega)).trans b5, (hS _ (by omega)).trans b6, (hS _ (by omega)).trans b7⟩
  · obtain ⟨a1, a2, a3, a4, a5, a6, a7, a8, a9, a10, a11, a12⟩ := hRu
    refine ⟨(hS _ (by omega)).trans a1, (R _ _ (by omega) (by omega)).trans a2, (R _ _ (by omega) (by omega)).trans a3, (R _ _ (by omega) (by omega)).trans a4, (R _ _ (by omega) (by omega)).trans a5, (R _ _ (by omega) (by omega)).trans a6, (hS _ (by omega)).trans a7, (hS _ (by omega)).trans a8, (hS _ (by omega)).trans a9, a10, lst_cg a11 (hS _ (by omega)) (hI _ (by omega)) (hR _ (by omega) (by omega)) (hS _ (by omega)) (hR _ (by omega) (by omega)), fun i hi => ?_⟩
    obtain ⟨b1, b2, b3, b4, b5, b6, b7⟩ := a12 i hi
    exact ⟨(hS _ (by omega)).trans b1, (R _ _ (by omega) (by omega)).trans b2, (R _ _ (by omega) (by omega)).trans b3, (hS _ (by omega)).trans b4, b5, lst_cg b6 (hS _ (by omega)) (hI _ (by omega)) (hR _ (by omega) (by omega)) (hS _ (by omega)) (hR _ (by omega) (by omega)), fun j hj => (hS _ (by omega)).trans (b7 j hj)⟩
section CL
variable {p : cP} {N : iN} {s9 : cT} {g9 : zH}
/-- a row gets its code -/
theorem iH_adL {s : cT} {g : zH} (h : iH p s g N) (hx : px p) (hN : N.1 + 200 ≤ XT) {v : Nat} {f : Nat → Int64} (hv : p.2 v = none) (hl : v < g.2.1) (hg : g.1 v = some (true, .inl (1, 7, .inr (.inl f)))) : cH (p.1, va_up p.2 v (some (XT + v))) (adL s v f) g = cH p s g ∧ iH (p.1, va_up p.2 v (some (XT + v))) (adL s v f) g N := by
  have hc : ∀ a, p.2 a ≠ some (XT + v) := fun a ha => by
    have e := h.1.2 a _ ha
    rw [hx v] at e
    rw [← e, hv] at ha
    cases ha
  have h0 : (s.1 (XT + v)).1 = 0 := Decidable.by_contra fun n => hc _ (h.1.1 _ n)
  have he : va_up p.1 (XT + v) v = p.1 := funext fun a => by
    by_cases e : a = XT + v
    · subst e
      rw [show va_up p.1 (XT + v) v (XT + v) = v from cu_same _ _ _]
      exact (hx v).symm
    · exact cu_ne p.1 _ e
  have ho : ∀ d, d ≠ XT + v → (adL s v f).1 d = s.1 d ∧ (adL s v f).2.1 d = s.2.1 d ∧ (adL s v f).2.2.1 d = s.2.2.1 d ∧ (adL s v f).2.2.2 d = s.2.2.2 d := fun d hd => ⟨cu_ne s.1 _ hd, rfl, cu_ne s.2.2.1 _ hd, rfl⟩
  have hsh : (adL s v f).1 (XT + v) = (1 + 2, 7) := cu_same _ _ _
  have hk := cH_adopt (s1 := adL s v f) (g := g) h.1 hv hc ho h0 (Or.inl (hx v)) (by
    rw [hg, cC_arr hsh]
    refine congrArg (fun x => some (true, Sum.inl (1, 7, x))) ?_
    exact congrArg (fun x => Sum.inr (Sum.inl x)) (cu_same s.2.2.1 (XT + v) f).symm)
  unfold pA at hk
  rw [he] at hk
  refine ⟨hk.1, iH_cg h hk.2 (fun a ha => ?_) (fun c hc2 => (ho c (by omega)).1) (fun c hc2 => rfl) (fun c hc2 _ => rfl)⟩
  show va_up p.2 v (some (XT + v)) a = none
  rw [show va_up p.2 v (some (XT + v)) a = p.2 a from cu_ne p.2 _ (by omega)]
  exact h.2.1 a ha
/-- a reference is laid into an invoice's list -/
theorem iH_uR {s : cT} {g : zH} (h : iH p s g N) {i j : Nat} {e : Option Nat} (hi : i < N.2.1) : iH p (uR s (N.1 + 150 + i) j e) g N :=
  iH_cg h h.1 h.2.1 (fun _ _ => rfl) (fun _ _ => rfl) (fun c hc _ => cu_ne s.2.2.2 _ (by omega))
end CL
