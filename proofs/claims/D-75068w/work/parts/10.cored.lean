/-! ROWS: arrays, new objects -/
set_option maxRecDepth 100000
theorem zlenA {h : zH} {a : Nat} {x : Int32} (hv : lenA h a = some x) : ∃ b t n f, h.1 a = some (b, .inl (t, n, f)) ∧ x = Int32.ofNat n := by
  unfold lenA at hv
  split at hv
  · rename_i b t n f hh
    cases hv
    exact ⟨b, t, n, f, hh, rfl⟩
  · cases hv
theorem zdI {h : zH} {a t : Nat} {j x : Int32} (hv : dI h a t j = some x) : ∃ b n f, h.1 a = some (b, .inl (t, n, .inl f)) ∧ ¬ (j < 0 ∨ n ≤ j.toNatClampNeg) ∧ x = f j.toNatClampNeg := by
  unfold dI at hv
  split at hv
  · rename_i b t' n f hh
    split at hv
    · rename_i hc
      obtain ⟨hc, hk⟩ := hc
      subst hc
      cases hv
      exact ⟨b, n, f, hh, hk, rfl⟩
    · cases hv
  · cases hv
theorem zdL {h : zH} {a : Nat} {j : Int32} {x : Int64} (hv : dL h a j = some x) : ∃ b n f, h.1 a = some (b, .inl (1, n, .inr (.inl f))) ∧ ¬ (j < 0 ∨ n ≤ j.toNatClampNeg) ∧ x = f j.toNatClampNeg := by
  unfold dL at hv
  split at hv
  · rename_i b t' n f hh
    split at hv
    · rename_i hc
      obtain ⟨hc, hk⟩ := hc
      subst hc
      cases hv
      exact ⟨b, n, f, hh, hk, rfl⟩
    · cases hv
  · cases hv
theorem zdQ {h : zH} {a t : Nat} {j : Int32} {x : Option Nat} (hv : dQ h a t j = some x) : ∃ b n f, h.1 a = some (b, .inl (t, n, .inr (.inr f))) ∧ ¬ (j < 0 ∨ n ≤ j.toNatClampNeg) ∧ x = f j.toNatClampNeg := by
  unfold dQ at hv
  split at hv
  · rename_i b t' n f hh
    split at hv
    · rename_i hc
      obtain ⟨hc, hk⟩ := hc
      subst hc
      cases hv
      exact ⟨b, n, f, hh, hk, rfl⟩
    · cases hv
  · cases hv
theorem zdR {h : zH} {a t : Nat} {j : Int32} {x : Nat} (hv : dR h a t j = some x) : dQ h a t j = some (some x) := by
  unfold dR at hv
  split at hv
  · cases hv; assumption
  · cases hv
theorem zsI {h h1 : zH} {a t : Nat} {j x : Int32} (hv : sI h a t j x = some h1) : ∃ n f, h.1 a = some (true, .inl (t, n, .inl f)) ∧ ¬ (j < 0 ∨ n ≤ j.toNatClampNeg) ∧ h1 = zup h a (true, .inl (t, n, .inl (va_up f j.toNatClampNeg x))) := by
  unfold sI at hv
  split at hv
  · rename_i t' n f hh
    split at hv
    · rename_i hc
      obtain ⟨hc, hk⟩ := hc
      subst hc
      cases hv
      exact ⟨n, f, hh, hk, rfl⟩
    · cases hv
  · cases hv
theorem zsL {h h1 : zH} {a : Nat} {j : Int32} {x : Int64} (hv : sL h a j x = some h1) : ∃ n f, h.1 a = some (true, .inl (1, n, .inr (.inl f))) ∧ ¬ (j < 0 ∨ n ≤ j.toNatClampNeg) ∧ h1 = zup h a (true, .inl (1, n, .inr (.inl (va_up f j.toNatClampNeg x)))) := by
  unfold sL at hv
  split at hv
  · rename_i t' n f hh
    split at hv
    · rename_i hc
      obtain ⟨hc, hk⟩ := hc
      subst hc
      cases hv
      exact ⟨n, f, hh, hk, rfl⟩
    · cases hv
  · cases hv
theorem zsR {h h1 : zH} {a v : Nat} {j : Int32} (hv : sR h a j v = some h1) : ∃ n f b o, h.1 a = some (true, .inl (4, n, .inr (.inr f))) ∧ h.1 v = some (b, .inr o) ∧ ¬ (j < 0 ∨ n ≤ j.toNatClampNeg) ∧ h1 = zup h a (true, .inl (4, n, .inr (.inr (va_up f j.toNatClampNeg (some v))))) := by
  unfold sR at hv
  split at hv
  · rename_i t' n f b o hh hv9
    split at hv
    · rename_i hc
      obtain ⟨hc, hk⟩ := hc
      subst hc
      cases hv
      exact ⟨n, f, b, o, hh, hv9, hk, rfl⟩
    · cases hv
  · cases hv
theorem znA {h h1 : zH} {t q : Nat} {x : Int32} {d : zS} (hv : nA h t x d = some (q, h1)) : (¬ x < 0 ∧ x.toNatClampNeg ≤ 67108864 ∧ 1 ≤ h.2.2.1 ∧ x.toNatClampNeg ≤ h.2.2.2) ∧ q = h.2.1 ∧ h1 = zadd h (true, .inl (t, x.toNatClampNeg, d)) x.toNatClampNeg := by
  unfold nA at hv
  split at hv
  · cases hv
    exact ⟨by assumption, rfl, rfl⟩
  · cases hv
theorem znO {h h1 : zH} {ci n q : Nat} {fs : List Value} (hv : nO h ci n fs = some (q, h1)) : (1 ≤ h.2.2.1 ∧ n ≤ h.2.2.2) ∧ q = h.2.1 ∧ h1 = zadd h (true, .inr (ci, fs)) n := by
  unfold nO at hv
  split at hv
  · cases hv
    exact ⟨by assumption, rfl, rfl⟩
  · cases hv
section ZR3
variable {p : Program} {l : Launch} {e : Env} {R : Room} {s : State} {m : MethodId} {args : Array Value} {below : List Frame} {meth : Method} {c : Code} {Q : State → Prop} {D : zD} {B0 nL : Nat} {own : String} {cc : ByteArray} {E : zE} {fr lo : Nat} {ret : Option FieldType} {mn : String} {h : zH} {pc : Nat} {lv : List (Nat × Value)} {rest : List Value}
theorem zr_alen (C0 : zCx p l e R s m args below meth c D B0 nL own cc E fr lo ret mn) {a : Nat} {x : Int32} (hd : decode cc pc = .ok (.arraylength, 1)) (hv : lenA h a = some x) (kk : zW p l e R s m args below meth c D B0 nL Q h (pc + 1) lv (.int x :: rest)) : zW p l e R s m args below meth c D B0 nL Q h pc lv (.ref a :: rest) := by
  intro H locs ls cl sl hr hR hS hl
  obtain ⟨b, t, n, f, hh, rfl⟩ := zlenA hv
  obtain ⟨cell, q1, q2, q3, -, g1, g2, g3, -⟩ := hr.2 a b _ hh
  exact W.alen C0.1 C0.2.1 q1 g1 (by rw [g2]) rfl rfl hd (kk H locs ls cl sl hr hR hS hl)
theorem zr_in {n : Nat} {cell : Cell} {j : Int32} (g2 : cell.slots.size = n) (hj : ¬ (j < 0 ∨ n ≤ j.toNatClampNeg)) : ¬ (j < 0 ∨ cell.slots.size ≤ j.toNatClampNeg) ∧ j.toNatClampNeg < n := by
  rw [g2]
  exact ⟨hj, Nat.lt_of_not_le fun q => hj (Or.inr q)⟩
theorem zr_iald (C0 : zCx p l e R s m args below meth c D B0 nL own cc E fr lo ret mn) {a : Nat} {j x : Int32} (hd : decode cc pc = .ok (.iaload, 1)) (hv : dI h a 0 j = some x) (kk : zW p l e R s m args below meth c D B0 nL Q h (pc + 1) lv (.int x :: rest)) : zW p l e R s m args below meth c D B0 nL Q h pc lv (.int j :: .ref a :: rest) := by
  intro H locs ls cl sl hr hR hS hl
  obtain ⟨b, n, f, hh, hj, rfl⟩ := zdI hv
  obtain ⟨cell, q1, q2, q3, -, g1, g2, g3, -⟩ := hr.2 a b _ hh
  exact W.iald C0.1 C0.2.1 q1 g1 q3 (zr_in g2 hj).1 (g3 _ (zr_in g2 hj).2) rfl rfl hd (kk H locs ls cl sl hr hR hS hl)
theorem zr_bald (C0 : zCx p l e R s m args below meth c D B0 nL own cc E fr lo ret mn) {a : Nat} {j x : Int32} (hd : decode cc pc = .ok (.baload, 1)) (hv : dI h a 2 j = some x) (kk : zW p l e R s m args below meth c D B0 nL Q h (pc + 1) lv (.int x :: rest)) : zW p l e R s m args below meth c D B0 nL Q h pc lv (.int j :: .ref a :: rest) := by
  intro H locs ls cl sl hr hR hS hl
  obtain ⟨b, n, f, hh, hj, rfl⟩ := zdI hv
  obtain ⟨cell, q1, q2, q3, -, g1, g2, g3, -⟩ := hr.2 a b _ hh
  exact W.bald C0.1 C0.2.1 q1 g1 q3 (zr_in g2 hj).1 (g3 _ (zr_in g2 hj).2) rfl rfl hd (kk H locs ls cl sl hr hR hS hl)
theorem zr_zald (C0 : zCx p l e R s m args below meth c D B0 nL own cc E fr lo ret mn) {a : Nat} {j x : Int32} (hd : decode cc pc = .ok (.baload, 1)) (hv : dI h a 3 j = some x) (kk : zW p l e R s m args below meth c D B0 nL Q h (pc + 1) lv (.int x :: rest)) : zW p l e R s m args below meth c D B0 nL Q h pc lv (.int j :: .ref a :: rest) := by
  intro H locs ls cl sl hr hR hS hl
  obtain ⟨b, n, f, hh, hj, rfl⟩ := zdI hv
  obtain ⟨cell, q1, q2, q3, -, g1, g2, g3, -⟩ := hr.2 a b _ hh
  exact W.zald C0.1 C0.2.1 q1 g1 q3 (zr_in g2 hj).1 (g3 _ (zr_in g2 hj).2) rfl rfl hd (kk H locs ls cl sl hr hR hS hl)
theorem zr_lald (C0 : zCx p l e R s m args below meth c D B0 nL own cc E fr lo ret mn) {a : Nat} {j : Int32} {x : Int64} (hd : decode cc pc = .ok (.laload, 1)) (hv : dL h a j = some x) (kk : zW p l e R s m args below meth c D B0 nL Q h (pc + 1) lv (.long x :: rest)) : zW p l e R s m args below meth c D B0 nL Q h pc lv (.int j :: .ref a :: rest) := by
  intro H locs ls cl sl hr hR hS hl
  obtain ⟨b, n, f, hh, hj, rfl⟩ := zdL hv
  obtain ⟨cell, q1, q2, q3, -, g1, g2, g3, -⟩ := hr.2 a b _ hh
  exact W.lald C0.1 C0.2.1 q1 g1 q3 (zr_in g2 hj).1 (g3 _ (zr_in g2 hj).2) rfl rfl hd (kk H locs ls cl sl hr hR hS hl)
theorem zr_aaldQ (C0 : zCx p l e R s m args below meth c D B0 nL own cc E fr lo ret mn) {a t : Nat} {j : Int32} {x : Option Nat} (ht : (zty t).isReference = true) (hd : decode cc pc = .ok (.aaload, 1)) (hv : dQ h a t j = some x) (kk : zW p l e R s m args below meth c D B0 nL Q h (pc + 1) lv (va_rf x :: rest)) : zW p l e R s m args below meth c D B0 nL Q h pc lv (.int j :: .ref a :: rest) := by
  intro H locs ls cl sl hr hR hS hl
  obtain ⟨b, n, f, hh, hj, rfl⟩ := zdQ hv
  obtain ⟨cell, q1, q2, q3, -, g1, g2, g3, -⟩ := hr.2 a b _ hh
  exact W.aald C0.1 C0.2.1 q1 g1 ht q3 (zr_in g2 hj).1 (g3 _ (zr_in g2 hj).2) rfl rfl hd (kk H locs ls cl sl hr hR hS hl)
theorem zr_aald (C0 : zCx p l e R s m args below meth c D B0 nL own cc E fr lo ret mn) {a t x : Nat} {j : Int32} (ht : (zty t).isReference = true) (hd : decode cc pc = .ok (.aaload, 1)) (hv : dR h a t j = some x) (kk : zW p l e R s m args below meth c D B0 nL Q h (pc + 1) lv (.ref x :: rest)) : zW p l e R s m args below meth c D B0 nL Q h pc lv (.int j :: .ref a :: rest) :=
  zr_aaldQ C0 ht hd (zdR hv) kk
/-- a store into an array: what is left to say once the machine has stored -/
theorem zr_ast {H H1 : Heap} {a t n : Nat} {f f' : zS} {cell : Cell} {j : Int32} {v : Value} (hr : zRel D B0 s h H) (hh : h.1 a = some (true, .inl (t, n, f))) (hj : ¬ (j < 0 ∨ n ≤ j.toNatClampNeg)) (q1 : H[a]? = some cell) (e1 : H1[a]? = some (cell.setSlot j.toNatClampNeg v)) (e2 : H1.size = H.size) (e3 : ∀ q, q ≠ a → H1[q]? = H[q]?)
    (hf : ∀ i, zv f' i = if i = j.toNatClampNeg then v else zv f i) (hft : fits (zty t) v = true) : zRel D B0 s (zup h a (true, .inl (t, n, f'))) H1 ∧ zTot H1 = zTot H ∧ B0 ≤ a := by
  obtain ⟨cell', q1', q2, q3, q0, g1, g2, g3, g5, g4⟩ := hr.2 a true _ hh
  cases Option.some.inj (q1.symm.trans q1')
  obtain ⟨q0v, q0a⟩ := q0 rfl
  have hcs : (cell.setSlot j.toNatClampNeg v).slots.size = cell.slots.size := by simp [Cell.setSlot]
  have hlt : j.toNatClampNeg < n := Nat.lt_of_not_le fun q => hj (Or.inr q)
  have hcell : cell.setSlot j.toNatClampNeg v = arrV (D.2.2 t) n (zv f') := by
    rw [(g4 rfl).1]
    show (arrV (D.2.2 t) n (zv f)).setSlot j.toNatClampNeg v = _
    rw [arrV_store]
    congr 1
    funext q
    rw [hf q]
    by_cases hq : q = j.toNatClampNeg <;> simp [updV, hq]
  refine ⟨hr.put e2 e3 ⟨_, e1, q2, q3, fun _ => ⟨q0v, q0a⟩, g1, ?_, fun i hi => ?_, fun i hi => ?_, fun _ => ⟨hcell, (g4 rfl).2⟩⟩, zTot_set q1 e1 hcs e2 e3, q0a⟩
  · rw [hcs]; exact g2
  · rw [hcell]
    exact arrV_read _ _ hi
  · show fits (zty t) (zv f' i) = true
    rw [hf i]
    split
    · exact hft
    · exact g5 i hi
theorem zr_iast (C0 : zCx p l e R s m args below meth c D B0 nL own cc E fr lo ret mn) {a : Nat} {j x : Int32} {h1 : zH} (hd : decode cc pc = .ok (.iastore, 1)) (hv : sI h a 0 j x = some h1) (kk : zW p l e R s m args below meth c D B0 nL Q h1 (pc + 1) lv rest) : zW p l e R s m args below meth c D B0 nL Q h pc lv (.int x :: .int j :: .ref a :: rest) := by
  intro H locs ls cl sl hr hR hS hl
  obtain ⟨n, f, hh, hj, rfl⟩ := zsI hv
  obtain ⟨cell, q1, q2, q3, -, g1, g2, g3, -⟩ := hr.2 a true _ hh
  refine W.iast C0.1 C0.2.1 q1 g1 q3 (zr_in g2 hj).1 rfl rfl hd fun H1 e1 e2 e3 => ?_
  obtain ⟨k1, k2, k3⟩ := zr_ast hr hh hj q1 e1 e2 e3 (f' := .inl (va_up f j.toNatClampNeg x)) (fun i => by by_cases hi : i = j.toNatClampNeg <;> simp [zv, va_up, hi]) rfl
  exact kk H1 _ ls cl sl k1 ⟨by rw [e2]; exact hR.1, by rw [k2]; exact hR.2.1, by rw [k2]; exact hR.2.2⟩ (hS.put e2 e3 k3) hl
theorem zr_bast (C0 : zCx p l e R s m args below meth c D B0 nL own cc E fr lo ret mn) {a : Nat} {j x : Int32} {h1 : zH} (hd : decode cc pc = .ok (.bastore, 1)) (hv : sI h a 2 j (x.toInt8.toInt32) = some h1) (kk : zW p l e R s m args below meth c D B0 nL Q h1 (pc + 1) lv rest) : zW p l e R s m args below meth c D B0 nL Q h pc lv (.int x :: .int j :: .ref a :: rest) := by
  intro H locs ls cl sl hr hR hS hl
  obtain ⟨n, f, hh, hj, rfl⟩ := zsI hv
  obtain ⟨cell, q1, q2, q3, -, g1, g2, g3, -⟩ := hr.2 a true _ hh
  refine W.bast C0.1 C0.2.1 q1 g1 q3 (zr_in g2 hj).1 rfl rfl hd fun H1 e1 e2 e3 => ?_
  obtain ⟨k1, k2, k3⟩ := zr_ast hr hh hj q1 e1 e2 e3 (f' := .inl (va_up f j.toNatClampNeg x.toInt8.toInt32)) (fun i => by by_cases hi : i = j.toNatClampNeg <;> simp [zv, va_up, hi, narrow_byte]) (pk_fb x)
  exact kk H1 _ ls cl sl k1 ⟨by rw [e2]; exact hR.1, by rw [k2]; exact hR.2.1, by rw [k2]; exact hR.2.2⟩ (hS.put e2 e3 k3) hl
theorem zr_zast (C0 : zCx p l e R s m args below meth c D B0 nL own cc E fr lo ret mn) {a : Nat} {j x : Int32} {h1 : zH} (hd : decode cc pc = .ok (.bastore, 1)) (hx : x = 0 ∨ x = 1) (hv : sI h a 3 j x = some h1) (kk : zW p l e R s m args below meth c D B0 nL Q h1 (pc + 1) lv rest) : zW p l e R s m args below meth c D B0 nL Q h pc lv (.int x :: .int j :: .ref a :: rest) := by
  intro H locs ls cl sl hr hR hS hl
  obtain ⟨n, f, hh, hj, rfl⟩ := zsI hv
  obtain ⟨cell, q1, q2, q3, -, g1, g2, g3, -⟩ := hr.2 a true _ hh
  have hb : narrow .boolean (.int x) = .int x := by rcases hx with rfl | rfl <;> rfl
  refine W.zast C0.1 C0.2.1 q1 g1 q3 (zr_in g2 hj).1 rfl rfl hd fun H1 e1 e2 e3 => ?_
  obtain ⟨k1, k2, k3⟩ := zr_ast hr hh hj q1 e1 e2 e3 (f' := .inl (va_up f j.toNatClampNeg x)) (fun i => by by_cases hi : i = j.toNatClampNeg <;> simp [zv, va_up, hi, hb]) (by rcases hx with rfl | rfl <;> rfl)
  exact kk H1 _ ls cl sl k1 ⟨by rw [e2]; exact hR.1, by rw [k2]; exact hR.2.1, by rw [k2]; exact hR.2.2⟩ (hS.put e2 e3 k3) hl
theorem zr_last (C0 : zCx p l e R s m args below meth c D B0 nL own cc E fr lo ret mn) {a : Nat} {j : Int32} {x : Int64} {h1 : zH} (hd : decode cc pc = .ok (.lastore, 1)) (hv : sL h a j x = some h1) (kk : zW p l e R s m args below meth c D B0 nL Q h1 (pc + 1) lv rest) : zW p l e R s m args below meth c D B0 nL Q h pc lv (.long x :: .int j :: .ref a :: rest) := by
  intro H locs ls cl sl hr hR hS hl
  obtain ⟨n, f, hh, hj, rfl⟩ := zsL hv
  obtain ⟨cell, q1, q2, q3, -, g1, g2, g3, -⟩ := hr.2 a true _ hh
  refine W.last C0.1 C0.2.1 q1 g1 q3 (zr_in g2 hj).1 rfl rfl hd fun H1 e1 e2 e3 => ?_
  obtain ⟨k1, k2, k3⟩ := zr_ast hr hh hj q1 e1 e2 e3 (f' := .inr (.inl (va_up f j.toNatClampNeg x))) (fun i => by by_cases hi : i = j.toNatClampNeg <;> simp [zv, va_up, hi]) rfl
  exact kk H1 _ ls cl sl k1 ⟨by rw [e2]; exact hR.1, by rw [k2]; exact hR.2.1, by rw [k2]; exact hR.2.2⟩ (hS.put e2 e3 k3) hl
/-- a cell is made: what is left to say -/
theorem zr_made {locs9 : List Loc} {H : Heap} {n : Nat} {cell : Cell} {e9 : zA ⊕ (Nat × List Value)} (hB : B0 ≤ s.heap.size) (hr : zRel D B0 s h H) (hR : zRoom R s h H) (hS : va_S (fun q => B0 ≤ q) s.heap H locs9) (h1 : 1 ≤ h.2.2.1) (h2 : n ≤ h.2.2.2) (hn : cell.slots.size = n) (hv : cell.vm = .none) (hc : zKind s D true cell e9) :
    zRel D B0 s (zadd h (true, e9) n) (H.push cell) ∧ zRoom R s (zadd h (true, e9) n) (H.push cell) ∧ va_S (fun q => B0 ≤ q) s.heap (H.push cell) locs9 := by
  have hz : (H.push cell).size = H.size + 1 := by simp
  have ho : ∀ q, q < H.size → (H.push cell)[q]? = H[q]? := fun q hq => by rw [Array.getElem?_push, if_neg (Nat.ne_of_lt hq)]
  refine ⟨hr.add hz ho ⟨cell, by simp, by rw [hv]; rfl, by rw [hv]; exact fun q => (by cases q), fun _ => ⟨hv, Nat.le_trans hB hS.1⟩, hc⟩, ⟨?_, ?_, ?_⟩, ⟨Nat.le_trans hS.1 (by omega), fun x h1 h2 => (ho x (Nat.lt_of_lt_of_le h1 hS.1)).trans (hS.2.1 x h1 h2), hS.2.2⟩⟩
  · have := hR.1
    show (H.push cell).size + (h.2.2.1 - 1) ≤ _
    omega
  · have := hR.2
    show zTot (H.push cell) + (h.2.2.2 - n) ≤ _
    rw [zTot_push, hn]
    omega
  · have := hR.2.2
    rw [zTot_push]
    omega
theorem zr_newa (C0 : zCx p l e R s m args below meth c D B0 nL own cc E fr lo ret mn) {atype : ArrayType} {t q : Nat} {x : Int32} {d : zS} {h1 : zH} (hw : Cond.arrayClass (newarray.typeOf atype) ∈ lw_all) (ht : newarray.typeOf atype = zty t) (ht4 : t < 4) (hz : ∀ i, zv d i = defaultValue (zty t)) (hd : decode cc pc = .ok (.newarray atype, 2)) (hv : nA h t x d = some (q, h1)) (kk : zW p l e R s m args below meth c D B0 nL Q h1 (pc + 2) lv (.ref q :: rest)) : zW p l e R s m args below meth c D B0 nL Q h pc lv (.int x :: rest) := by
  intro H locs ls cl sl hr hR hS hl
  obtain ⟨⟨k1, k2, k3, k4⟩, rfl, rfl⟩ := znA hv
  obtain ⟨hx, hb, hml, hown, hts, hlk, -, -, -, hG, hB, -⟩ := C0
  refine W_tight (W.newa hx hb (hts _ hw) rfl hd rfl k1 ?_ (by have := hR.1; have := hS.1; omega) ?_ fun cA kA comp f1 f2 f3 => ?_)
  · have : componentBytes (newarray.typeOf atype) ≤ 8 := by cases atype <;> decide
    calc x.toNatClampNeg * componentBytes (newarray.typeOf atype) ≤ 67108864 * 8 := Nat.mul_le_mul k2 this
      _ ≤ 536870912 := by decide
  · have := hR.2
    omega
  · have hcA : cA = D.2.2 t := by
      have h9 : (zTys D.2.2)[t]? = some (D.2.2 t, zty t) := by
        rcases (show t = 0 ∨ t = 1 ∨ t = 2 ∨ t = 3 by omega) with rfl | rfl | rfl | rfl <;> rfl
      have h8 := (hG.1.2 t _ h9).2
      rw [ht] at f1
      have h7 : s.vm.findClass ("[" ++ (zty t).toString) = some (D.2.2 t) := by
        rcases (show t = 0 ∨ t = 1 ∨ t = 2 ∨ t = 3 by omega) with rfl | rfl | rfl | rfl <;> exact h8
      exact Option.some.inj (f1.symm.trans h7)
    have hcell : ({ cls := cA, slots := Array.replicate x.toNatClampNeg (defaultValue (newarray.typeOf atype)), vm := .none } : Cell) = arrV (D.2.2 t) x.toNatClampNeg (zv d) := by
      rw [arrV_new, hcA, ht]
      congr 1
      funext i
      exact (hz i).symm
    obtain ⟨m1, m2, m3⟩ := zr_made (cell := { cls := cA, slots := Array.replicate x.toNatClampNeg (defaultValue (newarray.typeOf atype)), vm := .none }) (n := x.toNatClampNeg) (e9 := .inl (t, x.toNatClampNeg, d)) hB hr hR hS k3 k4 (by simp) rfl ⟨⟨(fun k h => by cases h), kA, f2, comp, by rw [← ht]; exact f3⟩, by simp, fun j hj => by rw [hcell]; exact arrV_read _ _ hj, fun j hj => by rw [hz j]; rcases (show t = 0 ∨ t = 1 ∨ t = 2 ∨ t = 3 by omega) with rfl | rfl | rfl | rfl <;> rfl, fun _ => ⟨hcell, by show t < 7; omega⟩⟩
    have K := kk _ locs ls (H.size - s.heap.size + 1) (zTot H - zTot s.heap + x.toNatClampNeg) m1 m2 m3 hl
    rw [hr.1] at K
    exact K
theorem zr_newc (C0 : zCx p l e R s m args below meth c D B0 nL own cc E fr lo ret mn) {C : String} {T : u_T} {ty : Nat → FieldType} {idx ci N q : Nat} {fs : List Value} {h1 : zH} (hc : zCl[ci]? = some (C, T, N)) (hin : ∀ w ∈ u_ws C T N, w ∈ lw_all) (hty : ∀ k, k < N → parseFieldDescriptor (T k).2.2.1 = some (ty k)) (hcl : Cond.classLink own idx C ∈ lw_all) (hins : Cond.instantiable C N ∈ lw_all) (hini : Cond.initialized C ∈ lw_all) (hfs : ∀ j, j < N → defaultValue (ty j) = vp_V fs j) (hd : decode cc pc = .ok (.new idx, 3)) (hv : nO h ci N fs = some (q, h1)) (kk : zW p l e R s m args below meth c D B0 nL Q h1 (pc + 3) lv (.ref q :: rest)) : zW p l e R s m args below meth c D B0 nL Q h pc lv rest := by
  intro H locs ls cl sl hr hR hS hl
  obtain ⟨⟨k3, k4⟩, rfl, rfl⟩ := znO hv
  obtain ⟨hx, hb, hml, hown, hts, hlk, -, -, -, hG, hB, -⟩ := C0
  have hKn := hG.1.1 ci _ hc
  refine W_tight (W.newc hx hb hown (hts _ hcl) (hts _ hins) (hts _ hini) rfl hd (by have := hR.1; have := hS.1; omega) (by have := hR.2; omega) fun cC kC f1 f2 f3 f4 => ?_)
  have hcC : cC = D.1 ci := Option.some.inj (f1.symm.trans hKn.2.1)
  have e1 : (H.push ({ cls := cC, slots := kC.instanceTypes.map defaultValue, vm := .none } : Cell))[H.size]? = some { cls := D.1 ci, slots := kC.instanceTypes.map defaultValue, vm := .none } := by rw [hcC]; simp
  have ho := u_born ty hts hin hKn (by rw [← hcC]; exact f2) e1 hty
  obtain ⟨cell, o1, o2, o3, o4⟩ := t_OB.to ho hfs
  have o5 : cell = { cls := cC, slots := kC.instanceTypes.map defaultValue, vm := .none } := by
    rw [hcC]
    exact Option.some.inj (o1.symm.trans e1)
  subst o5
  obtain ⟨m1, m2, m3⟩ := zr_made (n := N) (e9 := .inr (ci, fs)) hB hr hR hS k3 k4 (by simp [f4]) rfl (⟨_, hc, hcC, o4⟩ : zKind s D true _ (.inr (ci, fs)))
  have K := kk _ locs ls (H.size - s.heap.size + 1) (zTot H - zTot s.heap + N) m1 m2 m3 hl
  rw [hr.1] at K
  exact K
theorem zr_objInit (C0 : zCx p l e R s m args below meth c D B0 nL own cc E fr lo ret mn) {idx a : Nat} (hlink : Cond.methodLink own idx objectInit ∈ lw_all) (hinst : Cond.instanceMethod objectInit ∈ lw_all) (hcode : Cond.code objectInit ⟨#[0xb1]⟩ 1 none ∈ lw_all) (hd : decode cc pc = .ok (.invokespecial idx, 3)) (hfr : 1 ≤ fr) (hlo : (rest.map fun v => v.category).sum + 12 ≤ lo) (kk : zW p l e R s m args below meth c D B0 nL Q h (pc + 3) lv rest) : zW p l e R s m args below meth c D B0 nL Q h pc lv (.ref a :: rest) := by
  intro H locs ls cl sl hr hR hS hl
  obtain ⟨hx, hb, hml, hown, hts, hlk, -, hf, hl0, hG, hB, -⟩ := C0
  exact W.objInit hx hb hown (hts _ hlink) (hts _ hinst) (hts _ hcode) rfl (by rw [hml]; exact hl.1) rfl hd (Nat.le_trans hfr hf) (by show 2 * 0 + _ + 12 ≤ _; omega) (kk H locs ls cl sl hr hR hS hl)
theorem zr_gets (C0 : zCx p l e R s m args below meth c D B0 nL own cc E fr lo ret mn) {C n d : String} {v : Value} {idx : Nat} (hZ : va_Z C n d v (fun q => B0 ≤ q) s s.heap) (hlink : Cond.fieldLink own idx C n d ∈ lw_all) (hd : decode cc pc = .ok (.getstatic idx, 3)) (kk : zW p l e R s m args below meth c D B0 nL Q h (pc + 3) lv (v :: rest)) : zW p l e R s m args below meth c D B0 nL Q h pc lv rest := by
  intro H locs ls cl sl hr hR hS hl
  obtain ⟨hx, hb, hml, hown, hts, -⟩ := C0
  obtain ⟨cf, kf, fi, f, a, cell, h1, h2, h3, h4, h5, h6, h7, h8⟩ := hZ
  have hlt : a < s.heap.size := (Array.getElem?_eq_some_iff.mp h5).1
  exact W.gets hx hb hown (hts _ hlink) h1 h2 h3 h4 (by rw [hS.2.1 a hlt h8]; exact h5) (fun q => by rw [q] at h6; cases h6) h7 rfl hd (kk H locs ls cl sl hr hR hS hl)
end ZR3
