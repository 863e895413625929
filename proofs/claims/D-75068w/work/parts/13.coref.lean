/-! ROWS: text, casts, class objects, arrays of references, copies -/
set_option maxRecDepth 100000
theorem zObjs : ∀ (ci : Nat) (r : vw_C), zCl[ci]? = some r → Cond.castable r.1 "java/lang/Object" ∈ lw_tbl := by
  intro ci r h
  match ci, h with
  | 0, h => cases h; exact q3256
  | 1, h => cases h; exact q3265
  | 2, h => cases h; exact q3257
  | 3, h => cases h; exact q3262
  | 4, h => cases h; exact q3255
  | 5, h => cases h; exact q3263
  | 6, h => cases h; exact q3266
  | 7, h => cases h; exact q3268
  | 8, h => cases h; exact q3269
  | 9, h => cases h; exact q3270
  | 10, h => cases h; exact q3274
  | 11, h => cases h; exact q3275
  | 12, h => cases h; exact q3276
  | 13, h => cases h; exact q3277
  | 14, h => cases h; exact q3278
  | 15, h => cases h; exact q3258
  | 16, h => cases h; exact q3264
  | 17, h => cases h; exact q3271
  | 18, h => cases h; exact q3260
  | 19, h => cases h; exact q3261
  | 20, h => cases h; exact q3272
  | 21, h => cases h; exact q3259
  | 22, h => cases h; exact q3280
  | 23, h => cases h; exact q3273
  | n + 24, h => simp [zCl] at h
def zvp (n : Nat) (f : zS) : vp_A := match f with
  | .inl g => (n, .inl g)
  | .inr (.inl g) => (n, .inr (.inl g))
  | .inr (.inr g) => (n, .inr (.inr (.inr (.inr g))))
theorem zvp_cell (cA : ClassId) (n : Nat) (f : zS) : vp_cell cA (zvp n f) = arrV cA n (zv f) := by
  cases f with
  | inl g => rfl
  | inr f => cases f <;> rfl
/-- null is laid into an array of references -/
def sN (h : zH) (a t : Nat) (j : Int32) : Option zH := match h.1 a with
  | some (true, .inl (t', n, .inr (.inr f))) => if t' = t ∧ ¬ (j < 0 ∨ n ≤ j.toNatClampNeg) then some (zup h a (true, .inl (t, n, .inr (.inr (va_up f j.toNatClampNeg none))))) else none
  | _ => none
/-- the books are laid into an array of books -/
def sB (h : zH) (a : Nat) (j : Int32) (v : Nat) : Option zH := match h.1 a, h.1 v with
  | some (true, .inl (t', n, .inr (.inr f))), some (_, .inr (c, _)) => if c = 4 ∧ t' = 6 ∧ ¬ (j < 0 ∨ n ≤ j.toNatClampNeg) then some (zup h a (true, .inl (6, n, .inr (.inr (va_up f j.toNatClampNeg (some v)))))) else none
  | _, _ => none
/-- an array of longs is laid into an array of such arrays -/
def sA (h : zH) (a : Nat) (j : Int32) (v : Nat) : Option zH := match h.1 a, h.1 v with
  | some (true, .inl (t', n, .inr (.inr f))), some (true, .inl (t, _, _)) => if t = 1 ∧ t' = 5 ∧ ¬ (j < 0 ∨ n ≤ j.toNatClampNeg) then some (zup h a (true, .inl (5, n, .inr (.inr (va_up f j.toNatClampNeg (some v)))))) else none
  | _, _ => none
theorem zsN {h h1 : zH} {a t : Nat} {j : Int32} (hv : sN h a t j = some h1) : ∃ n f, h.1 a = some (true, .inl (t, n, .inr (.inr f))) ∧ ¬ (j < 0 ∨ n ≤ j.toNatClampNeg) ∧ h1 = zup h a (true, .inl (t, n, .inr (.inr (va_up f j.toNatClampNeg none)))) := by
  unfold sN at hv
  split at hv
  · rename_i t' n f hh
    split at hv
    · rename_i hc
      obtain ⟨hc, hk⟩ := hc
      subst hc
      cases hv
      exact ⟨n, f, hh, hk, rfl⟩
    · cases hv
  · cases hv
theorem zsB {h h1 : zH} {a v : Nat} {j : Int32} (hv : sB h a j v = some h1) : ∃ n f b fs, h.1 a = some (true, .inl (6, n, .inr (.inr f))) ∧ h.1 v = some (b, .inr (4, fs)) ∧ ¬ (j < 0 ∨ n ≤ j.toNatClampNeg) ∧ h1 = zup h a (true, .inl (6, n, .inr (.inr (va_up f j.toNatClampNeg (some v))))) := by
  unfold sB at hv
  split at hv
  · rename_i t' n f b c fs hh hv9
    split at hv
    · rename_i hc
      obtain ⟨hc0, hc, hk⟩ := hc
      subst hc hc0
      cases hv
      exact ⟨n, f, b, fs, hh, hv9, hk, rfl⟩
    · cases hv
  · cases hv
theorem zsA {h h1 : zH} {a v : Nat} {j : Int32} (hv : sA h a j v = some h1) : ∃ n f x, h.1 a = some (true, .inl (5, n, .inr (.inr f))) ∧ h.1 v = some (true, .inl (1, x)) ∧ ¬ (j < 0 ∨ n ≤ j.toNatClampNeg) ∧ h1 = zup h a (true, .inl (5, n, .inr (.inr (va_up f j.toNatClampNeg (some v))))) := by
  unfold sA at hv
  split at hv
  · rename_i t' n f t x1 x2 hh hv9
    split at hv
    · rename_i hc
      obtain ⟨hc0, hc, hk⟩ := hc
      subst hc hc0
      cases hv
      exact ⟨n, f, _, hh, hv9, hk, rfl⟩
    · cases hv
  · cases hv
section ZR6
variable {p : Program} {l : Launch} {e : Env} {R : Room} {s : State} {m : MethodId} {args : Array Value} {below : List Frame} {meth : Method} {c : Code} {Q : State → Prop} {D : zD} {B0 nL : Nat} {own : String} {cc : ByteArray} {E : zE} {fr lo : Nat} {ret : Option FieldType} {mn : String} {h h1 : zH} {pc : Nat} {lv : List (Nat × Value)} {rest st st' : List Value}
theorem zr_ldcw (C0 : zCx p l e R s m args below meth c D B0 nL own cc E fr lo ret mn) {idx : Nat} {v : Int32} (hc : Cond.constant own idx v ∈ lw_all) (hd : decode cc pc = .ok (.ldc_w idx, 3)) (kk : zW p l e R s m args below meth c D B0 nL Q h (pc + 3) lv (.int v :: rest)) : zW p l e R s m args below meth c D B0 nL Q h pc lv rest := fun H locs ls cl sl hr hR hS hl => lv_ldcw C0.1 C0.2.1 C0.2.2.2.1 (C0.2.2.2.2.1 _ hc) hd (kk H locs ls cl sl hr hR hS hl)
theorem zr_ldcS (C0 : zCx p l e R s m args below meth c D B0 nL own cc E fr lo ret mn) {i idx : Nat} {tx : String} (hi : zLits[i]? = some (own, idx, tx)) (hd : decode cc pc = .ok (.ldc idx, 2)) (kk : zW p l e R s m args below meth c D B0 nL Q h (pc + 2) lv (.ref (E.2.1 i) :: rest)) : zW p l e R s m args below meth c D B0 nL Q h pc lv rest := by
  obtain ⟨hx, hb, hml, hown, hts, hlk, -, -, -, hG, -⟩ := C0
  exact fun H locs ls cl sl hr hR hS hl => va_ldcS hx hb hown (hG.2.2.2.2.2.1 i _ hi) hd (kk H locs ls cl sl hr hR hS hl)
theorem zr_ldcwS (C0 : zCx p l e R s m args below meth c D B0 nL own cc E fr lo ret mn) {i idx : Nat} {tx : String} (hi : zLits[i]? = some (own, idx, tx)) (hd : decode cc pc = .ok (.ldc_w idx, 3)) (kk : zW p l e R s m args below meth c D B0 nL Q h (pc + 3) lv (.ref (E.2.1 i) :: rest)) : zW p l e R s m args below meth c D B0 nL Q h pc lv rest := by
  obtain ⟨hx, hb, hml, hown, hts, hlk, -, -, -, hG, -⟩ := C0
  have hZ := hG.2.2.2.2.2.1 i _ hi
  intro H locs ls cl sl hr hR hS hl T hT X
  obtain ⟨t, a1, b1⟩ := kk H locs ls cl sl hr hR hS hl T hT X
  exact ⟨t, X.ldcStringW hx hown (text := tx) (a := E.2.1 i) hZ.1 hZ.2 (g := F0 m pc ls rest) rfl (by rw [hb]; exact hd) t a1, b1⟩
theorem zr_cast (C0 : zCx p l e R s m args below meth c D B0 nL own cc E fr lo ret mn) {idx a ci : Nat} {nm : String} {C : String} {T : u_T} {N : Nat} (hc : zCl[ci]? = some (C, T, N)) (hb9 : isO h a ci = true) (hlink : Cond.classLink own idx nm ∈ lw_all) (hcs : Cond.castable C nm ∈ lw_tbl) (hd : decode cc pc = .ok (.checkcast idx, 3)) (kk : zW p l e R s m args below meth c D B0 nL Q h (pc + 3) lv (.ref a :: rest)) : zW p l e R s m args below meth c D B0 nL Q h pc lv (.ref a :: rest) := by
  obtain ⟨hx, hb, hml, hown, hts, hlk, -, -, -, hG, -⟩ := C0
  exact fun H locs ls cl sl hr hR hS hl => va_castY hx hb hown (hts _ hlink) (hG.2.1 _ hcs rfl) (zr_recv hG hr hc hb9) hd (kk H locs ls cl sl hr hR hS hl)
theorem zr_castS (C0 : zCx p l e R s m args below meth c D B0 nL own cc E fr lo ret mn) {idx a ci : Nat} {C : String} {T : u_T} {N : Nat} (hc : zCl[ci]? = some (C, T, N)) (hb9 : isO h a ci = true) (hlink : Cond.classLink own idx C ∈ lw_all) (hd : decode cc pc = .ok (.checkcast idx, 3)) (kk : zW p l e R s m args below meth c D B0 nL Q h (pc + 3) lv (.ref a :: rest)) : zW p l e R s m args below meth c D B0 nL Q h pc lv (.ref a :: rest) := by
  obtain ⟨hx, hb, hml, hown, hts, hlk, -, -, -, hG, -⟩ := C0
  exact fun H locs ls cl sl hr hR hS hl => va_castS hx hb hown (hts _ hlink) (hG.1.1 ci _ hc).2 (zr_recv hG hr hc hb9) hd (kk H locs ls cl sl hr hR hS hl)
theorem zr_instY (C0 : zCx p l e R s m args below meth c D B0 nL own cc E fr lo ret mn) {idx a ci : Nat} {nm : String} {C : String} {T : u_T} {N : Nat} (hc : zCl[ci]? = some (C, T, N)) (hb9 : isO h a ci = true) (hlink : Cond.classLink own idx nm ∈ lw_all) (hcs : Cond.castable C nm ∈ lw_tbl) (hd : decode cc pc = .ok (.instanceof idx, 3)) (kk : zW p l e R s m args below meth c D B0 nL Q h (pc + 3) lv (.int 1 :: rest)) : zW p l e R s m args below meth c D B0 nL Q h pc lv (.ref a :: rest) := by
  obtain ⟨hx, hb, hml, hown, hts, hlk, -, -, -, hG, -⟩ := C0
  exact fun H locs ls cl sl hr hR hS hl => va_instY hx hb hown (hts _ hlink) (hG.2.1 _ hcs rfl) (zr_recv hG hr hc hb9) hd (kk H locs ls cl sl hr hR hS hl)
theorem zr_instS (C0 : zCx p l e R s m args below meth c D B0 nL own cc E fr lo ret mn) {idx a ci : Nat} {C : String} {T : u_T} {N : Nat} (hc : zCl[ci]? = some (C, T, N)) (hb9 : isO h a ci = true) (hlink : Cond.classLink own idx C ∈ lw_all) (hd : decode cc pc = .ok (.instanceof idx, 3)) (kk : zW p l e R s m args below meth c D B0 nL Q h (pc + 3) lv (.int 1 :: rest)) : zW p l e R s m args below meth c D B0 nL Q h pc lv (.ref a :: rest) := by
  obtain ⟨hx, hb, hml, hown, hts, hlk, -, -, -, hG, -⟩ := C0
  exact fun H locs ls cl sl hr hR hS hl => va_instS hx hb hown (hts _ hlink) (hG.1.1 ci _ hc).2 (zr_recv hG hr hc hb9) hd (kk H locs ls cl sl hr hR hS hl)
theorem zr_instN (C0 : zCx p l e R s m args below meth c D B0 nL own cc E fr lo ret mn) {idx a ci : Nat} {nm : String} {C : String} {T : u_T} {N : Nat} (hc : zCl[ci]? = some (C, T, N)) (hb9 : isO h a ci = true) (hlink : Cond.classLink own idx nm ∈ lw_all) (hcs : (C, nm) ∈ zNcs) (hd : decode cc pc = .ok (.instanceof idx, 3)) (kk : zW p l e R s m args below meth c D B0 nL Q h (pc + 3) lv (.int 0 :: rest)) : zW p l e R s m args below meth c D B0 nL Q h pc lv (.ref a :: rest) := by
  obtain ⟨hx, hb, hml, hown, hts, hlk, -, -, -, hG, -⟩ := C0
  exact fun H locs ls cl sl hr hR hS hl => va_instNo hx hb hown (hts _ hlink) (hG.2.2.2.2.1 _ hcs) (zr_recv hG hr hc hb9) hd (kk H locs ls cl sl hr hR hS hl)
/-- an array of kind t lies there -/
def isA (h : zH) (a t : Nat) : Bool := match h.1 a with
  | some (true, .inl (t', _)) => t' == t
  | _ => false
theorem zisA {h : zH} {a t : Nat} (hv : isA h a t = true) : ∃ x, h.1 a = some (true, .inl (t, x)) := by
  unfold isA at hv
  split at hv
  · rename_i t' x hh
    have : t' = t := by simpa using hv
    subst this
    exact ⟨x, hh⟩
  · cases hv
def cka (h : zH) (a t : Nat) : Option Unit := if isA h a t = true then some () else none
theorem zcka {h : zH} {a t : Nat} {u : Unit} (q : cka h a t = some u) : isA h a t = true := by
  unfold cka at q
  split at q
  · assumption
  · cases q
theorem zArrNm {t : Nat} {nm : String} (hG : zG D B0 E s s.heap) (ht : t < 7) (hn : "[" ++ (zty t).toString = nm) : s.vm.findClass nm = some (D.2.2 t) := by
  have h9 : (zTys D.2.2)[t]? = some (D.2.2 t, zty t) := by
    rcases (show t = 0 ∨ t = 1 ∨ t = 2 ∨ t = 3 ∨ t = 4 ∨ t = 5 ∨ t = 6 by omega) with rfl | rfl | rfl | rfl | rfl | rfl | rfl <;> rfl
  have h8 := (hG.1.2 t _ h9).2
  rw [← hn]
  rcases (show t = 0 ∨ t = 1 ∨ t = 2 ∨ t = 3 ∨ t = 4 ∨ t = 5 ∨ t = 6 by omega) with rfl | rfl | rfl | rfl | rfl | rfl | rfl <;> first | exact h8 | exact h8.choose_spec.choose_spec.2.2.2
theorem zr_castA (C0 : zCx p l e R s m args below meth c D B0 nL own cc E fr lo ret mn) {idx a t : Nat} {nm : String} (ht : t < 7) (hb9 : isA h a t = true) (hnm : "[" ++ (zty t).toString = nm) (hlink : Cond.classLink own idx nm ∈ lw_all) (hd : decode cc pc = .ok (.checkcast idx, 3)) (kk : zW p l e R s m args below meth c D B0 nL Q h (pc + 3) lv (.ref a :: rest)) : zW p l e R s m args below meth c D B0 nL Q h pc lv (.ref a :: rest) := by
  obtain ⟨hx, hb, hml, hown, hts, hlk, -, -, -, hG, -⟩ := C0
  intro H locs ls cl sl hr hR hS hl
  obtain ⟨⟨n, f⟩, hh⟩ := zisA hb9
  obtain ⟨cell, q1, q2, q3, -, g1, g2, g3, g5, g4⟩ := hr.2 a true _ hh
  have hcell : cell = vp_cell (D.2.2 t) (zvp n f) := by
    rw [(g4 rfl).1]
    exact (zvp_cell _ n f).symm
  exact va_castA (D := (D.1, D.2.1)) (cl := zCl) (ws := [(a, .inl (D.2.2 t, zvp n f))]) hx hb hown (hts _ hlink) (fun k q hk => by
    have hz : k < 1 := (List.getElem?_eq_some_iff.mp hk).1
    rw [show k = 0 by omega] at hk
    cases hk
    show H[a]? = some _
    exact q1.trans (congrArg some hcell)) 0 rfl (zArrNm hG ht hnm) hd (kk H locs ls cl sl hr hR hS hl)
theorem zr_made_ref {t : Nat} {cA : ClassId} {kA : Class} {comp : ClassId} {x : Int32} {H : Heap} {locs : List Loc} (ht : 4 ≤ t) (ht7 : t < 7) (hB : B0 ≤ s.heap.size) (hG : zG D B0 E s s.heap) (hr : zRel D B0 s h H) (hR : zRoom R s h H) (hS : va_S (fun q => B0 ≤ q) s.heap H locs) (k3 : 1 ≤ h.2.2.1) (k4 : x.toNatClampNeg ≤ h.2.2.2) (f1 : s.vm.findClass ("[" ++ (zty t).toString) = some cA) (f2 : s.vm.classes[cA]? = some kA) (f3 : kA.kind = .array comp (zty t)) :
    zRel D B0 s (zadd h (true, .inl (t, x.toNatClampNeg, .inr (.inr fun _ => none))) x.toNatClampNeg) (H.push ({ cls := cA, slots := Array.replicate x.toNatClampNeg .null, vm := .none } : Cell)) ∧ zRoom R s (zadd h (true, .inl (t, x.toNatClampNeg, .inr (.inr fun _ => none))) x.toNatClampNeg) (H.push ({ cls := cA, slots := Array.replicate x.toNatClampNeg .null, vm := .none } : Cell)) ∧ va_S (fun q => B0 ≤ q) s.heap (H.push ({ cls := cA, slots := Array.replicate x.toNatClampNeg .null, vm := .none } : Cell)) locs := by
  have hcA : cA = D.2.2 t := Option.some.inj (f1.symm.trans (zArrNm hG ht7 rfl))
  have hcell : ({ cls := cA, slots := Array.replicate x.toNatClampNeg .null, vm := .none } : Cell) = arrV (D.2.2 t) x.toNatClampNeg (zv (.inr (.inr fun _ => none))) := by
    rw [arrV_new, hcA]
    rfl
  exact zr_made (n := x.toNatClampNeg) hB hr hR hS k3 k4 (by simp) rfl ⟨⟨(fun k h => by cases h), kA, f2, comp, f3⟩, by simp, fun j hj => by rw [hcell]; exact arrV_read _ _ hj, fun j hj => by rcases (show t = 4 ∨ t = 5 ∨ t = 6 by omega) with rfl | rfl | rfl <;> rfl, fun _ => ⟨hcell, ht7⟩⟩
theorem zr_anewO (C0 : zCx p l e R s m args below meth c D B0 nL own cc E fr lo ret mn) {C : String} {idx t q : Nat} {x : Int32} (ht : 4 ≤ t) (ht7 : t < 7) (hty : zty t = .object C) (hao : Cond.arrayOver (.object C) ∈ lw_tbl) (hlink : Cond.classLink own idx C ∈ lw_all) (hd : decode cc pc = .ok (.anewarray idx, 3)) (hv : nA h t x (.inr (.inr fun _ => none)) = some (q, h1)) (kk : zW p l e R s m args below meth c D B0 nL Q h1 (pc + 3) lv (.ref q :: rest)) : zW p l e R s m args below meth c D B0 nL Q h pc lv (.int x :: rest) := by
  obtain ⟨⟨k1, k2, k3, k4⟩, rfl, rfl⟩ := znA hv
  obtain ⟨hx, hb, hml, hown, hts, hlk, -, -, -, hG, hB, -⟩ := C0
  intro H locs ls cl sl hr hR hS hl
  refine W_tight (W.anew hx hb hown (hts _ hlink) (hG.2.1 _ hao rfl) rfl hd rfl k1 (by omega) (by have := hR.1; have := hS.1; omega) (by have := hR.2; omega) fun cA kA comp f1 f2 f3 f4 => ?_)
  obtain ⟨m1, m2, m3⟩ := zr_made_ref (x := x) ht ht7 hB hG hr hR hS k3 k4 (by rw [hty]; exact f1) f2 (by rw [hty]; exact f3)
  have K := kk _ locs ls (H.size - s.heap.size + 1) (zTot H - zTot s.heap + x.toNatClampNeg) m1 m2 m3 hl
  rw [hr.1] at K
  exact K
theorem zr_anew4 (C0 : zCx p l e R s m args below meth c D B0 nL own cc E fr lo ret mn) {idx q : Nat} {x : Int32} (hlink : Cond.classLink own idx "java/lang/Object" ∈ lw_all) (hd : decode cc pc = .ok (.anewarray idx, 3)) (hv : nA h 4 x (.inr (.inr fun _ => none)) = some (q, h1)) (kk : zW p l e R s m args below meth c D B0 nL Q h1 (pc + 3) lv (.ref q :: rest)) : zW p l e R s m args below meth c D B0 nL Q h pc lv (.int x :: rest) := zr_anewO C0 (by decide) (by decide) rfl q203 hlink hd hv kk
theorem zr_anew6 (C0 : zCx p l e R s m args below meth c D B0 nL own cc E fr lo ret mn) {idx q : Nat} {x : Int32} (hlink : Cond.classLink own idx "FranchiseLedger$Books" ∈ lw_all) (hd : decode cc pc = .ok (.anewarray idx, 3)) (hv : nA h 6 x (.inr (.inr fun _ => none)) = some (q, h1)) (kk : zW p l e R s m args below meth c D B0 nL Q h1 (pc + 3) lv (.ref q :: rest)) : zW p l e R s m args below meth c D B0 nL Q h pc lv (.int x :: rest) := zr_anewO C0 (by decide) (by decide) rfl q662 hlink hd hv kk
theorem zr_anew5 (C0 : zCx p l e R s m args below meth c D B0 nL own cc E fr lo ret mn) {idx q : Nat} {x : Int32} (hlink : Cond.classLink own idx "[J" ∈ lw_all) (hd : decode cc pc = .ok (.anewarray idx, 3)) (hv : nA h 5 x (.inr (.inr fun _ => none)) = some (q, h1)) (kk : zW p l e R s m args below meth c D B0 nL Q h1 (pc + 3) lv (.ref q :: rest)) : zW p l e R s m args below meth c D B0 nL Q h pc lv (.int x :: rest) := by
  obtain ⟨⟨k1, k2, k3, k4⟩, rfl, rfl⟩ := znA hv
  obtain ⟨hx, hb, hml, hown, hts, hlk, -, -, -, hG, hB, -⟩ := C0
  intro H locs ls cl sl hr hR hS hl
  refine W_tight (W.anewA (t := .long) hx hb hown (hts _ hlink) (hG.2.1 _ q629 rfl) rfl hd rfl k1 (by omega) (by have := hR.1; have := hS.1; omega) (by have := hR.2; omega) fun cA kA comp f1 f2 f3 f4 => ?_)
  obtain ⟨m1, m2, m3⟩ := zr_made_ref (t := 5) (x := x) (by decide) (by decide) hB hG hr hR hS k3 k4 f1 f2 f3
  have K := kk _ locs ls (H.size - s.heap.size + 1) (zTot H - zTot s.heap + x.toNatClampNeg) m1 m2 m3 hl
  rw [hr.1] at K
  exact K
theorem zr_aast (C0 : zCx p l e R s m args below meth c D B0 nL own cc E fr lo ret mn) {a v : Nat} {j : Int32} (hd : decode cc pc = .ok (.aastore, 1)) (hv : sR h a j v = some h1) (kk : zW p l e R s m args below meth c D B0 nL Q h1 (pc + 1) lv rest) : zW p l e R s m args below meth c D B0 nL Q h pc lv (.ref v :: .int j :: .ref a :: rest) := by
  obtain ⟨n, f, b, o9, hh, hhv, hj, rfl⟩ := zsR hv
  obtain ⟨hx, hb, hml, hown, hts, hlk, -, -, -, hG, hB, -⟩ := C0
  intro H locs ls cl sl hr hR hS hl
  obtain ⟨cell, q1, q2, q3, -, g1, g2, g3, g5, g4⟩ := hr.2 a true _ hh
  obtain ⟨cv, v1, v2, v3, -, r, w1, w2, -⟩ := hr.2 v b _ hhv
  obtain ⟨kA, comp, r1, r2, r3, -⟩ := (hG.1.2 4 (D.2.2 4, zty 4) rfl).2
  have hcls : cell.cls = D.2.2 4 := by rw [(g4 rfl).1]; rfl
  have hfc := (hG.1.1 o9.1 r w1).2.1
  obtain ⟨kv, hkv, -⟩ := Vm.findClass_spec hfc
  obtain ⟨kc, hkc, -⟩ := Vm.findClass_spec r3
  obtain ⟨c3, c4, hc3, hc4, hasg⟩ := Cond.castable_spec (args := args) (va_Nw.use rfl (hG.2.1 _ (zObjs o9.1 r w1) rfl))
  cases Option.some.inj (hc3.symm.trans hfc)
  cases Option.some.inj (hc4.symm.trans r3)
  refine W.aast hx hb q1 (fun q hq => by rw [hq] at q2; cases q2) q3 (by rw [hcls]; exact r1) r2 rfl hkc ⟨fun q => hj (Or.inl q), by rw [g2]; exact Nat.lt_of_not_le fun q => hj (Or.inr q)⟩ v1 (fun q hq => by rw [hq] at v2; cases v2) (by rw [w2]; exact hkv) (by rw [w2]; exact hasg) rfl rfl hd fun H1 e1 e2 e3 => ?_
  obtain ⟨k1, k2, k3⟩ := zr_ast hr hh hj q1 e1 e2 e3 (f' := .inr (.inr (va_up f j.toNatClampNeg (some v)))) (fun i => by by_cases hi : i = j.toNatClampNeg <;> simp [zv, va_up, hi, va_rf]) rfl
  exact kk H1 _ ls cl sl k1 ⟨by rw [e2]; exact hR.1, by rw [k2]; exact hR.2.1, by rw [k2]; exact hR.2.2⟩ (hS.put e2 e3 k3) hl
theorem zr_aastB (C0 : zCx p l e R s m args below meth c D B0 nL own cc E fr lo ret mn) {a v : Nat} {j : Int32} (hd : decode cc pc = .ok (.aastore, 1)) (hv : sB h a j v = some h1) (kk : zW p l e R s m args below meth c D B0 nL Q h1 (pc + 1) lv rest) : zW p l e R s m args below meth c D B0 nL Q h pc lv (.ref v :: .int j :: .ref a :: rest) := by
  obtain ⟨n, f, b, fs, hh, hhv, hj, rfl⟩ := zsB hv
  obtain ⟨hx, hb, hml, hown, hts, hlk, -, -, -, hG, hB, -⟩ := C0
  intro H locs ls cl sl hr hR hS hl
  obtain ⟨cell, q1, q2, q3, -, g1, g2, g3, g5, g4⟩ := hr.2 a true _ hh
  obtain ⟨cv, v1, v2, v3, -, r, w1, w2, -⟩ := hr.2 v b _ hhv
  cases w1
  obtain ⟨kA, comp, r1, r2, r3, -⟩ := (hG.1.2 6 (D.2.2 6, zty 6) rfl).2
  have hcls : cell.cls = D.2.2 6 := by rw [(g4 rfl).1]; rfl
  have hfc := (hG.1.1 4 _ rfl).2.1
  obtain ⟨kv, hkv, -⟩ := Vm.findClass_spec hfc
  have hcomp : comp = D.1 4 := Option.some.inj (r3.symm.trans hfc)
  refine W.aast hx hb q1 (fun q hq => by rw [hq] at q2; cases q2) q3 (by rw [hcls]; exact r1) r2 rfl (by rw [hcomp]; exact hkv) ⟨fun q => hj (Or.inl q), by rw [g2]; exact Nat.lt_of_not_le fun q => hj (Or.inr q)⟩ v1 (fun q hq => by rw [hq] at v2; cases v2) (by rw [w2]; exact hkv) (by rw [w2, hcomp]; exact va_assign (hG.1.1 4 _ rfl).2) rfl rfl hd fun H1 e1 e2 e3 => ?_
  obtain ⟨k1, k2, k3⟩ := zr_ast hr hh hj q1 e1 e2 e3 (f' := .inr (.inr (va_up f j.toNatClampNeg (some v)))) (fun i => by by_cases hi : i = j.toNatClampNeg <;> simp [zv, va_up, hi, va_rf]) rfl
  exact kk H1 _ ls cl sl k1 ⟨by rw [e2]; exact hR.1, by rw [k2]; exact hR.2.1, by rw [k2]; exact hR.2.2⟩ (hS.put e2 e3 k3) hl
theorem zr_aastN (C0 : zCx p l e R s m args below meth c D B0 nL own cc E fr lo ret mn) {a : Nat} {j : Int32} (hd : decode cc pc = .ok (.aastore, 1)) (hv : sN h a 6 j = some h1) (kk : zW p l e R s m args below meth c D B0 nL Q h1 (pc + 1) lv rest) : zW p l e R s m args below meth c D B0 nL Q h pc lv (.null :: .int j :: .ref a :: rest) := by
  obtain ⟨n, f, hh, hj, rfl⟩ := zsN hv
  obtain ⟨hx, hb, hml, hown, hts, hlk, -, -, -, hG, hB, -⟩ := C0
  intro H locs ls cl sl hr hR hS hl T hT X
  obtain ⟨cell, q1, q2, q3, -, g1, g2, g3, g5, g4⟩ := hr.2 a true _ hh
  have K : ∀ H' : Heap, H'[a]? = some (cell.setSlot j.toNatClampNeg .null) → H'.size = H.size → (∀ q, q ≠ a → H'[q]? = H[q]?) → W p l e R s m args below meth c H' (locs ++ [⟨a, j.toNatClampNeg⟩]) cl sl Q (F0 m (pc + 1) ls rest) := by
    intro H1 e1 e2 e3
    obtain ⟨k1, k2, k3⟩ := zr_ast hr hh hj q1 e1 e2 e3 (f' := .inr (.inr (va_up f j.toNatClampNeg none))) (fun i => by by_cases hi : i = j.toNatClampNeg <;> simp [zv, va_up, hi, va_rf]) rfl
    exact kk H1 _ ls cl sl k1 ⟨by rw [e2]; exact hR.1, by rw [k2]; exact hR.2.1, by rw [k2]; exact hR.2.2⟩ (hS.put e2 e3 k3) hl
  subst hT
  obtain ⟨X', step⟩ := va_aastN0 X hx q1 (show s.isArrayOf cell (.object "FranchiseLedger$Books") from g1) q3 (by rw [g2]; exact hj) (g := F0 m pc ls (.null :: .int j :: .ref a :: rest)) rfl rfl (by rw [hb]; exact hd)
  have ha : a < T.heap.size := (Array.getElem?_eq_some_iff.mp q1).1
  obtain ⟨t, a1, b1⟩ := K (T.heap.setIfInBounds a (cell.setSlot j.toNatClampNeg .null)) (by simp [Array.getElem?_setIfInBounds, ha]) (by simp) (fun q hq => by simp [Array.getElem?_setIfInBounds, Ne.symm hq]) _ rfl X'
  exact ⟨t, step t a1, b1⟩
theorem zself (vm : Vm) {cC : ClassId} {k : Class} {comp : ClassId} {t : FieldType} (hk : vm.classes[cC]? = some k) (hkind : k.kind = .array comp t) : vm.assignable cC cC = true := Vm.assignable_self vm cC
theorem zr_aastA (C0 : zCx p l e R s m args below meth c D B0 nL own cc E fr lo ret mn) {a v : Nat} {j : Int32} (hd : decode cc pc = .ok (.aastore, 1)) (hv : sA h a j v = some h1) (kk : zW p l e R s m args below meth c D B0 nL Q h1 (pc + 1) lv rest) : zW p l e R s m args below meth c D B0 nL Q h pc lv (.ref v :: .int j :: .ref a :: rest) := by
  obtain ⟨n, f, x9, hh, hhv, hj, rfl⟩ := zsA hv
  obtain ⟨hx, hb, hml, hown, hts, hlk, -, -, -, hG, hB, -⟩ := C0
  intro H locs ls cl sl hr hR hS hl
  obtain ⟨cell, q1, q2, q3, -, g1, g2, g3, g5, g4⟩ := hr.2 a true _ hh
  obtain ⟨cv, v1, v2, v3, -, y1, y2, y3, y5, y4⟩ := hr.2 v true _ hhv
  obtain ⟨kA, r1, r2⟩ := hG.2.2.2.2.2.2.2.2.2.2.2.2.2.2.1
  have hcls : cell.cls = D.2.2 5 := by rw [(g4 rfl).1]; rfl
  have hclv : cv.cls = D.2.2 1 := by rw [(y4 rfl).1]; rfl
  obtain ⟨-, kv, hkv, cv9, hkv9⟩ := y1
  refine W.aast hx hb q1 (fun q hq => by rw [hq] at q2; cases q2) q3 (by rw [hcls]; exact r1) r2 rfl (by rw [← hclv]; exact hkv) ⟨fun q => hj (Or.inl q), by rw [g2]; exact Nat.lt_of_not_le fun q => hj (Or.inr q)⟩ v1 (fun q hq => by rw [hq] at v2; cases v2) hkv (by rw [← hclv]; exact zself _ hkv hkv9) rfl rfl hd fun H1 e1 e2 e3 => ?_
  obtain ⟨k1, k2, k3⟩ := zr_ast hr hh hj q1 e1 e2 e3 (f' := .inr (.inr (va_up f j.toNatClampNeg (some v)))) (fun i => by by_cases hi : i = j.toNatClampNeg <;> simp [zv, va_up, hi, va_rf]) rfl
  exact kk H1 _ ls cl sl k1 ⟨by rw [e2]; exact hR.1, by rw [k2]; exact hR.2.1, by rw [k2]; exact hR.2.2⟩ (hS.put e2 e3 k3) hl
end ZR6
