/-! ROWS: copies, arrays of arrays, exceptions made, class objects -/
set_option maxRecDepth 100000
/-- may v be laid into an array of kind t -/
def okV (h : zH) (t : Nat) (v : Value) : Bool := match v with
  | .ref y => (match h.1 y with
    | some (b, .inr (c, _)) => t == 4 || (t == 6 && c == 4)
    | some (true, .inl (t', _)) => t == 5 && t' == 1
    | _ => false)
  | _ => true
def zCpy (f g : zS) (sp dp n : Nat) : Option zS := match f, g with
  | .inl f, .inl g => some (.inl (va_cpy f g sp dp n))
  | .inr (.inl f), .inr (.inl g) => some (.inr (.inl (va_cpy f g sp dp n)))
  | .inr (.inr f), .inr (.inr g) => some (.inr (.inr (va_cpy f g sp dp n)))
  | _, _ => none
def cpA (h : zH) (src : Nat) (sp : Int32) (dst : Nat) (dp n : Int32) : Option zH := match h.1 src, h.1 dst with
  | some (_, .inl (t0, n0, f)), some (true, .inl (t1, n1, g)) =>
    if t0 = t1 ∧ ¬ sp < 0 ∧ ¬ dp < 0 ∧ ¬ n < 0 ∧ sp.toNatClampNeg + n.toNatClampNeg ≤ n0 ∧ dp.toNatClampNeg + n.toNatClampNeg ≤ n1 ∧ (List.range n.toNatClampNeg).all (fun i => okV h t1 (zv f (sp.toNatClampNeg + i))) = true
    then (zCpy f g sp.toNatClampNeg dp.toNatClampNeg n.toNatClampNeg).map (fun x => zup h dst (true, .inl (t1, n1, x))) else none
  | _, _ => none
theorem zcpA {h h1 : zH} {src dst : Nat} {sp dp n : Int32} (hv : cpA h src sp dst dp n = some h1) : ∃ b t n0 n1 f g x, h.1 src = some (b, .inl (t, n0, f)) ∧ h.1 dst = some (true, .inl (t, n1, g)) ∧ (¬ sp < 0 ∧ ¬ dp < 0 ∧ ¬ n < 0 ∧ sp.toNatClampNeg + n.toNatClampNeg ≤ n0 ∧ dp.toNatClampNeg + n.toNatClampNeg ≤ n1 ∧ ∀ i, i < n.toNatClampNeg → okV h t (zv f (sp.toNatClampNeg + i)) = true) ∧ zCpy f g sp.toNatClampNeg dp.toNatClampNeg n.toNatClampNeg = some x ∧ h1 = zup h dst (true, .inl (t, n1, x)) := by
  unfold cpA at hv
  split at hv
  · rename_i b t0 n0 f t1 n1 g hh hh2
    split at hv
    · rename_i hc
      obtain ⟨c1, c2, c3, c4, c5, c6, c7⟩ := hc
      subst c1
      cases hx : zCpy f g sp.toNatClampNeg dp.toNatClampNeg n.toNatClampNeg with
      | none => rw [hx] at hv; cases hv
      | some x =>
        rw [hx] at hv
        cases hv
        exact ⟨b, t0, n0, n1, f, g, x, hh, hh2, ⟨c2, c3, c4, c5, c6, fun i hi => List.all_eq_true.mp c7 i (List.mem_range.mpr hi)⟩, hx, rfl⟩
    · cases hv
  · cases hv
theorem zCpy_at {f g x : zS} {sp dp n : Nat} (h : zCpy f g sp dp n = some x) (j : Nat) : zv x j = if dp ≤ j ∧ j < dp + n then zv f (sp + (j - dp)) else zv g j := by
  unfold zCpy at h
  split at h
  · cases h
    show Value.int (va_cpy _ _ sp dp n j) = _
    unfold va_cpy
    split <;> rfl
  · cases h
    show Value.long (va_cpy _ _ sp dp n j) = _
    unfold va_cpy
    split <;> rfl
  · cases h
    show va_rf (va_cpy _ _ sp dp n j) = _
    unfold va_cpy
    split <;> rfl
  · cases h
def nM (h : zH) (n k : Int32) : Option (Nat × zH) := if ¬ n < 0 ∧ ¬ k < 0 ∧ n.toNatClampNeg ≤ 1000 ∧ k.toNatClampNeg ≤ 1000 ∧ 1 + n.toNatClampNeg ≤ h.2.2.1 ∧ n.toNatClampNeg + n.toNatClampNeg * k.toNatClampNeg ≤ h.2.2.2 then
  some (h.2.1, ((fun a => if a = h.2.1 then some (true, .inl (5, n.toNatClampNeg, .inr (.inr fun i => if i < n.toNatClampNeg then some (h.2.1 + 1 + i) else none))) else if h.2.1 < a ∧ a ≤ h.2.1 + n.toNatClampNeg then some (true, .inl (1, k.toNatClampNeg, .inr (.inl fun _ => 0))) else h.1 a), (h.2.1 + 1 + n.toNatClampNeg, (h.2.2.1 - (1 + n.toNatClampNeg), h.2.2.2 - (n.toNatClampNeg + n.toNatClampNeg * k.toNatClampNeg))))) else none
theorem zNw_use {w : Cond} {U : State} {A : Array Value} (h : va_Nw w U) (hk : zNk w = true) : w.before A U = true := by
  have hW : ∀ ty, w = .arrayOver ty → w.before A U = true := by
    intro ty hw
    subst hw
    unfold va_Nw at h
    unfold Cond.before Cond.holds at h ⊢
    simp only [Cond.value] at h ⊢
    exact h
  cases w <;> first | exact hW _ rfl | exact va_Nw.use rfl h | cases hk
section ZR7
variable {p : Program} {l : Launch} {e : Env} {R : Room} {s : State} {m : MethodId} {args : Array Value} {below : List Frame} {meth : Method} {c : Code} {Q : State → Prop} {D : zD} {B0 nL : Nat} {own : String} {cc : ByteArray} {E : zE} {fr lo : Nat} {ret : Option FieldType} {mn : String} {h h1 : zH} {pc : Nat} {lv : List (Nat × Value)} {rest st st' : List Value}
theorem stand_tot {T : State} {locs : List Loc} {cells slots : Nat} (X : Stand p l e R s m args below meth c T locs cells slots) : T.heap.size ≤ s.heap.size + cells ∧ zTot T.heap ≤ zTot s.heap + slots ∧ zTot s.heap ≤ zTot T.heap := by
  obtain ⟨h1, h2, h3, h4, h5, h6⟩ := X.same
  have hb := X.book
  have hs : s.slotsTrue = true := by
    have h := X.room
    simp only [State.hasRoom, Bool.and_eq_true] at h
    exact h.2
  have hb' : T.slotsUsed = zTot T.heap := by simpa [State.slotsTrue, zTot] using hb
  have hs' : s.slotsUsed = zTot s.heap := by simpa [State.slotsTrue, zTot] using hs
  have h4' : T.slotsUsed = s.slotsUsed + (((T.setVm s.vm).heap.toList.drop s.heap.size).map (·.slots.size)).sum := h4
  exact ⟨h3, by omega, by omega⟩
theorem zr_copy (C0 : zCx p l e R s m args below meth c D B0 nL own cc E fr lo ret mn) {idx src dst : Nat} {sp dp n : Int32} (hlink : Cond.methodLink own idx arraycopyName ∈ lw_all) (hfr : 1 ≤ fr) (hlo : (rest.map fun v => v.category).sum + (nativeFrameWords "java/lang/System" "arraycopy" 5 + 11) ≤ lo) (hd : decode cc pc = .ok (.invokestatic idx, 3)) (hv : cpA h src sp dst dp n = some h1) (kk : zW p l e R s m args below meth c D B0 nL Q h1 (pc + 3) lv rest) : zW p l e R s m args below meth c D B0 nL Q h pc lv (.int n :: .int dp :: .ref dst :: .int sp :: .ref src :: rest) := by
  obtain ⟨b, t, n0, n1, f, g, x, hh, hh2, ⟨c1, c2, c3, c4, c5, c6⟩, hx9, rfl⟩ := zcpA hv
  obtain ⟨hx, hb, hml, hown, hts, hlk, -, hf, hl0, hG, hB, -⟩ := C0
  intro H locs ls cl sl hr hR hS hl T hT X
  obtain ⟨cs, p1, p2, p3, -, g1, g2, g3, g5, g4⟩ := hr.2 src b _ hh
  obtain ⟨cd, q1, q2, q3, q0, w1, w2, w3, w5, w4⟩ := hr.2 dst true _ hh2
  have nn : ∀ z : Int32, ¬ z < 0 → z.toInt = (z.toNatClampNeg : Int) := by
    intro z hz
    have hz0 : (0 : Int) ≤ z.toInt := by
      have := Int32.not_lt.mp hz
      simpa using Int32.le_iff_toInt_le.mp this
    show z.toInt = ((z.toInt.toNat : Nat) : Int)
    omega
  obtain ⟨-, ks, hks, sc, hsk⟩ := g1
  obtain ⟨-, kd, hkd, dc, hdk⟩ := w1
  have el : ∀ i, i < n.toNatClampNeg → cs.slots.getD (sp.toNatClampNeg + i) .null = zv f (sp.toNatClampNeg + i) := by
    intro i hi
    rw [Array.getD_eq_getD_getElem?, g3 _ (show sp.toNatClampNeg + i < n0 by omega)]
    rfl
  have hcd : cd.cls = D.2.2 t := by rw [(w4 rfl).1]; rfl
  have ht7 : t < 7 := (w4 rfl).2
  obtain ⟨vm', X', step⟩ := X.arraycopy hx hown (hts _ hlink) (hts _ q329) (hts _ q328) (hts _ q145) (src := src) (dst := dst) (cs := cs) (cd := cd) (srcPos := sp) (destPos := dp) (n := n) (by rw [hT]; exact p1) (by rw [hT]; exact q1)
    (fun _ q => by rw [q] at p2; cases p2) (fun _ q => by rw [q] at q2; cases q2) p3 q3 hks hkd hsk hdk (by show ((refKind (zty t) != refKind (zty t)) || (!refKind (zty t) && zty t != zty t)) = false; simp) c1 c2 c3
    (by rw [nn sp c1, nn n c3, show cs.slots.size = n0 from g2]; omega) (by rw [nn dp c2, nn n c3, show cd.slots.size = n1 from w2]; omega)
    (fun vm₁ hal i hi => by
      rw [el i hi]
      have ok := c6 i hi
      cases hz : zv f (sp.toNatClampNeg + i) with
      | ref y =>
        rw [hz] at ok
        unfold okV at ok
        have hty : 4 ≤ t → fits (zty t) (.ref y) = true := by
          intro h4
          rcases (show t = 4 ∨ t = 5 ∨ t = 6 by omega) with rfl | rfl | rfl <;> rfl
        dsimp only at ok
        split at ok
        · rename_i b9 c9 fs9 hy
          obtain ⟨cv, v1, v2, v3, -, r, z1, z2, -⟩ := hr.2 y b9 _ hy
          have hfc := (hG.1.1 c9 r z1).2.1
          obtain ⟨kv, hkv, -⟩ := Vm.findClass_spec hfc
          obtain ⟨kv', hkv', -⟩ := hal.2.2 _ _ hkv
          rcases (show t = 4 ∨ (t = 6 ∧ c9 = 4) by simpa using ok) with rfl | ⟨rfl, rfl⟩
          · obtain ⟨kA, comp, r1, r2, r3, -⟩ := (hG.1.2 4 (D.2.2 4, zty 4) rfl).2
            obtain ⟨kc, hkc, -⟩ := Vm.findClass_spec r3
            obtain ⟨kc', hkc', -⟩ := hal.2.2 _ _ hkc
            obtain ⟨c3, c4, hc3, hc4, hasg⟩ := Cond.castable_spec (args := args) (va_Nw.use rfl (hG.2.1 _ (zObjs c9 r z1) rfl))
            cases Option.some.inj (hc3.symm.trans hfc)
            cases Option.some.inj (hc4.symm.trans r3)
            rw [hcd] at hkd
            cases hkd.symm.trans r1
            cases hdk.symm.trans r2
            refine ⟨rfl, cv, (show T.heap[y]? = some cv by rw [hT]; exact v1), (fun q hq => by rw [hq] at v2; cases v2), ⟨kv', by rw [z2]; exact hkv'⟩, ⟨kc', hkc'⟩, ?_⟩
            show vm₁.assignable _ _ = true
            rw [hal.assignable, z2]
            exact hasg
          · cases z1
            obtain ⟨kA, comp, r1, r2, r3, -⟩ := (hG.1.2 6 (D.2.2 6, zty 6) rfl).2
            have hcomp : comp = D.1 4 := Option.some.inj (r3.symm.trans hfc)
            subst hcomp
            rw [hcd] at hkd
            cases hkd.symm.trans r1
            cases hdk.symm.trans r2
            refine ⟨rfl, cv, (show T.heap[y]? = some cv by rw [hT]; exact v1), (fun q hq => by rw [hq] at v2; cases v2), ⟨kv', by rw [z2]; exact hkv'⟩, ⟨kv', hkv'⟩, ?_⟩
            show vm₁.assignable _ _ = true
            rw [hal.assignable, z2]
            exact va_assign (hG.1.1 4 _ rfl).2
        · rename_i t9 x9 hy
          obtain ⟨cv, v1, v2, v3, -, y1, y2, y3, y5, y4⟩ := hr.2 y true _ hy
          obtain ⟨rfl, rfl⟩ : t = 5 ∧ t9 = 1 := by simpa using ok
          obtain ⟨kA, r1, r2⟩ := hG.2.2.2.2.2.2.2.2.2.2.2.2.2.2.1
          have hclv : cv.cls = D.2.2 1 := by rw [(y4 rfl).1]; rfl
          obtain ⟨-, kv, hkv, cv9, hkv9⟩ := y1
          obtain ⟨kv', hkv', hev⟩ := hal.2.2 _ _ hkv
          rw [hcd] at hkd
          cases hkd.symm.trans r1
          cases hdk.symm.trans r2
          refine ⟨rfl, cv, (show T.heap[y]? = some cv by rw [hT]; exact v1), (fun q hq => by rw [hq] at v2; cases v2), ⟨kv', hkv'⟩, ⟨kv', by rw [← hclv]; exact hkv'⟩, ?_⟩
          show vm₁.assignable _ _ = true
          rw [hal.assignable, ← hclv]
          exact zself _ hkv hkv9
        · cases ok
      | null => exact ⟨by rw [← hz]; exact g5 _ (show sp.toNatClampNeg + i < n0 by omega), trivial⟩
      | int z => exact ⟨by rw [← hz]; exact g5 _ (show sp.toNatClampNeg + i < n0 by omega), trivial⟩
      | long z => exact ⟨by rw [← hz]; exact g5 _ (show sp.toNatClampNeg + i < n0 by omega), trivial⟩
      | float z => exact ⟨by rw [← hz]; exact g5 _ (show sp.toNatClampNeg + i < n0 by omega), trivial⟩
      | double z => exact ⟨by rw [← hz]; exact g5 _ (show sp.toNatClampNeg + i < n0 by omega), trivial⟩
      | retAddr z => exact ⟨by rw [← hz]; exact g5 _ (show sp.toNatClampNeg + i < n0 by omega), trivial⟩)
    (g := F0 m pc ls (.int n :: .int dp :: .ref dst :: .int sp :: .ref src :: rest)) rfl (by rw [hml]; exact hl.1) (rest := rest) rfl (by rw [hb]; exact hd) (Nat.le_trans hfr hf) (by show 2 * 0 + _ + _ ≤ _; omega)
  have hnd : n1 = cd.slots.size := w2.symm
  have e9 : copied cs cd sp dp n = arrV (D.2.2 t) n1 (zv x) := by
    show cd.storeRun dp.toNatClampNeg (cs.stretch sp.toNatClampNeg n.toNatClampNeg) = _
    rw [(w4 rfl).1]
    rw [va_copiedX (n0 := n0) (mk := fun v => v) cs (D.2.2 t) (zv f) (zv g) g3 c4]
    congr 1
    funext j
    rw [zCpy_at hx9 j]
    rfl
  rw [e9] at X' step
  have hl9 : dst < H.size := (Array.getElem?_eq_some_iff.mp q1).1
  subst hT
  have e1 : (T.heap.setIfInBounds dst (arrV (D.2.2 t) n1 (zv x)))[dst]? = some (arrV (D.2.2 t) n1 (zv x)) := by simp [Array.getElem?_setIfInBounds, hl9]
  have e2 : (T.heap.setIfInBounds dst (arrV (D.2.2 t) n1 (zv x))).size = T.heap.size := by simp
  have e3 : ∀ q : Nat, q ≠ dst → (T.heap.setIfInBounds dst (arrV (D.2.2 t) n1 (zv x)))[q]? = T.heap[q]? := fun q hq => by simp [Array.getElem?_setIfInBounds, Ne.symm hq]
  have ez := zTot_set q1 e1 (by rw [arrV_size]; exact hnd) e2 e3
  obtain ⟨q0v, q0a⟩ := q0 rfl
  have hft : ∀ j, j < n1 → fits (zty t) (zv x j) = true := by
    intro j hj
    rw [zCpy_at hx9 j]
    split
    · exact g5 _ (show sp.toNatClampNeg + (j - dp.toNatClampNeg) < n0 by omega)
    · exact w5 j hj
  obtain ⟨t9, a1, b1⟩ := kk (T.heap.setIfInBounds dst (arrV (D.2.2 t) n1 (zv x))) _ ls cl sl (hr.put e2 e3 ⟨_, e1, rfl, (fun q => by cases q), fun _ => ⟨rfl, q0a⟩, ⟨(fun k q => by cases q), kd, by rw [← hcd]; exact hkd, dc, hdk⟩, arrV_size _ _ _, fun j hj => arrV_read _ _ hj, hft, fun _ => ⟨rfl, ht7⟩⟩) ⟨by rw [e2]; exact hR.1, by rw [ez]; exact hR.2.1, by rw [ez]; exact hR.2.2⟩ ⟨by rw [e2]; exact hS.1, fun q g1 g2 => by
      rw [e3 q (fun e => g2 (by rw [e]; exact q0a))]
      exact hS.2.1 q g1 g2, fun q hq => by
      rcases List.mem_append.mp hq with h | h
      · exact hS.2.2 q h
      · obtain ⟨z, -, hz⟩ := List.mem_map.mp h
        rw [← hz]
        exact q0a⟩ hl _ rfl X'
  exact ⟨t9, step t9 a1, b1⟩
theorem zr_getC (C0 : zCx p l e R s m args below meth c D B0 nL own cc E fr lo ret mn) {idx a : Nat} (hb9 : isA h a 4 = true) (hlink : Cond.methodLink own idx ⟨"java/lang/Object", "getClass", "()Ljava/lang/Class;"⟩ ∈ lw_all) (hfr : 1 ≤ fr) (hlo : (rest.map fun v => v.category).sum + 14 ≤ lo) (hd : decode cc pc = .ok (.invokevirtual idx, 3)) (kk : zW p l e R s m args below meth c D B0 nL Q h (pc + 3) lv (.ref (E.2.1 101) :: rest)) : zW p l e R s m args below meth c D B0 nL Q h pc lv (.ref a :: rest) := by
  obtain ⟨hx, hb, hml, hown, hts, hlk, -, hf, hl0, hG, hB, -⟩ := C0
  intro H locs ls cl sl hr hR hS hl
  obtain ⟨⟨n, f⟩, hh⟩ := zisA hb9
  obtain ⟨cell, q1, q2, q3, -, g1, g2, g3, g5, g4⟩ := hr.2 a true _ hh
  have hcls : cell.cls = D.2.2 4 := by rw [(g4 rfl).1]; rfl
  exact va_getC hx hb (by rw [hml]; exact hl.1.symm) hown (hts _ hlink) (va_Nw.use rfl (hG.2.1 _ q3285 rfl)) (hts _ q3284) (hts _ q991) (hts _ q1020) hG.2.2.2.2.2.2.2.2.2.1 ⟨cell, q1, q2, by rw [hcls]; exact zArrNm hG (t := 4) (by decide) rfl⟩ (Nat.le_trans hfr hf) (Nat.le_trans hlo hl0) hd (kk H locs ls cl sl hr hR hS hl)
theorem zr_ldcM (C0 : zCx p l e R s m args below meth c D B0 nL own cc E fr lo ret mn) {idx : Nat} (hlink : Cond.classLink own idx "[Ljava/lang/Object;" ∈ lw_all) (hd : decode cc pc = .ok (.ldc idx, 2)) (kk : zW p l e R s m args below meth c D B0 nL Q h (pc + 2) lv (.ref (E.2.1 101) :: rest)) : zW p l e R s m args below meth c D B0 nL Q h pc lv rest := by
  obtain ⟨hx, hb, hml, hown, hts, hlk, -, hf, hl0, hG, hB, -⟩ := C0
  exact fun H locs ls cl sl hr hR hS hl => va_ldcM hx hb hown (hts _ hlink) hG.2.2.2.2.2.2.2.2.2.1 hd (kk H locs ls cl sl hr hR hS hl)
/-- an exception of class ci can be made: its words -/
def zEX (own : String) (ik ic ci : Nat) : Prop := ∃ (cls : String) (names : List String) (T0 : u_T), zCl[ci]? = some (cls, T0, 0) ∧ Bundle.fit cls = true ∧ (∀ n ∈ names, Bundle.fit n = true) ∧ names.length ≤ 4 ∧ Cond.classLink own ik cls ∈ lw_all ∧ Cond.initialized cls ∈ lw_all ∧ (∀ w ∈ vx_at0 own ic cls names, w ∈ lw_all ∨ (w ∈ lw_tbl ∧ zNk w = true)) ∧ (∀ w ∈ Cond.classLink own ik cls :: Cond.initialized cls :: vx_at0 own ic cls names, vx_ot w = true)
theorem zr_exc (C0 : zCx p l e R s m args below meth c D B0 nL own cc E fr lo ret mn) {ik ic ci q : Nat} (cv : zEX own ik ic ci) (hfr : 8 ≤ fr) (hlo : 120 ≤ lo) (d0 : decode cc pc = .ok (.new ik, 3)) (d3 : decode cc (pc + 3) = .ok (.dup, 1)) (d4 : decode cc (pc + 4) = .ok (.invokespecial ic, 3)) (hW : (rest.map fun v => v.category).sum ≤ 8) (hv : nO h ci 6 [] = some (q, h1)) (kk : zW p l e R s m args below meth c D B0 nL Q h1 (pc + 7) lv (.ref q :: rest)) : zW p l e R s m args below meth c D B0 nL Q h pc lv rest := by
  obtain ⟨⟨k3, k4⟩, rfl, rfl⟩ := znO hv
  obtain ⟨cls, names, T0, hc, hft, hnm, hnl, hk, hini, hat, hgood⟩ := cv
  obtain ⟨hx, hb, hml, hown, hts, hlk, hst, hf, hl0, hG, hB, -⟩ := C0
  intro H locs ls cl sl hr hR hS hl
  refine W_tight (zx_make0 (D := (D.1, D.2.1)) (cl := zCl) (tys := zTys D.2.2) (ws := []) (ci := ci) hx hb hst hown hft hnm (hts _ hk) (hts _ hini) (fun w hw => (hat w hw).elim (fun h => hts w h) (fun h => zNw_use (hG.2.1 w h.1 h.2) h.2)) hgood hG.2.2.2.2.2.2.1.1 hG.2.2.2.2.2.2.2.1.1 hS (by rw [hml]; exact hl.1) d0 d3 d4 hG.1 (fun k q hq => by simp at hq) ⟨fun i j p q hp => by simp at hp, fun k q hq => by simp at hq⟩ (fun q hq => Nat.le_trans hB hq) hc (by omega) (by have : 13 * (names.length + 1) ≤ 13 * 5 := Nat.mul_le_mul_left _ (by omega); omega) (by have := hR.1; have := hS.1; omega) (by have := hR.2; omega) fun H1 ce e1 e2 e4 e3 hS1 => ?_)
  intro T hT X
  obtain ⟨s1, s2, s3⟩ := stand_tot X
  have hz : H1.size = H.size + 1 := by
    have h1 := (Array.getElem?_eq_some_iff.mp e1).1
    have h2 := hS.1
    rw [hT] at s1
    omega
  have hr1 : zRel D B0 s (zadd h (true, .inr (ci, [])) 6) H1 := hr.add hz e3 ⟨ce, e1, by rw [e4]; rfl, by rw [e4]; exact (fun q => by cases q), fun _ => ⟨e4, Nat.le_trans hB hS.1⟩, ⟨_, hc, e2, fun k hk => absurd hk (Nat.not_lt_zero k)⟩⟩
  have K := kk H1 locs ls _ _ hr1 ⟨by
    have := hR.1
    show H1.size + (h.2.2.1 - 1) ≤ _
    omega, by
    have := hR.2
    show zTot H1 + (h.2.2.2 - 6) ≤ _
    rw [hT] at s2
    omega, by rw [hT] at s3; exact s3⟩ hS1 hl T hT X
  rw [hr.1] at K
  exact K
end ZR7
