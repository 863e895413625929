/-! ROWS: bodies of classes with entries, Math; clone of bytes; eight bytes at once -/
set_option maxRecDepth 100000
section ZR9
variable {l : Launch}
theorem zx_ofWF {y : MethodName} {ws ws' : List Cond} {rm : Room} {Pc : Array Value → State → Prop} {Qc : Array Value → State → Outcome → State → Prop} {XC : Addr → String → State → State → Prop} {mc ms : Nat} {free : Addr → Prop} {cc : ByteArray} {maxL : Nat} {ret : Option FieldType}
    (hy : plainFor y = true) (hw : ws = Cond.code y cc maxL ret :: ws')
    (body : ∀ p e s m args below meth c s₁, BodyLoose p l y (headSpec ws rm) cc maxL ret e s m args below meth c s₁ → c.maxLocals = maxL → (∀ x ∈ c.exceptionTable.toList, False) → Pc args s →
      W p l e (headSpec ws rm).room s m args below meth c s.heap [] 0 0 (vx_MQ below Qc XC args s mc ms free) (entryFrame m args maxL)) : vx_Met l y ws rm Pc Qc XC mc ms free := by
  refine MetFree.of_bodySF (code := cc) (maxLocals := maxL) (ret := ret) hy ?_ ?_
  · intro args s m h hn
    obtain ⟨meth, c, h1, h2, h3, h4, h5, h6, -, -⟩ := Cond.code_spec hn (atoms_spec (ws := ws) h _ (by rw [hw]; exact List.mem_cons_self))
    exact ⟨meth, c, h1, h2, h3, h4, h5, h6⟩
  · intro p e s m args below meth c s₁ B hml hP _
    have hh0 : s₁.heap = s.heap := by rw [B.state]; rfl
    have ht : ∀ x ∈ c.exceptionTable.toList, False := by
      obtain ⟨meth9, c9, h1, h2, -, -, -, -, h7, -⟩ := Cond.code_spec B.named (atoms_spec (ws := ws) B.pre _ (by rw [hw]; exact List.mem_cons_self))
      cases Option.some.inj (h1.symm.trans B.method)
      cases Option.some.inj (h2.symm.trans (Stand.of_body B).code)
      intro x hx
      rw [Array.isEmpty_iff.mp h7] at hx
      cases hx
    obtain ⟨t, a1, o, b1, b2, b3⟩ := body p e s m args below meth c s₁ B hml ht hP s₁ hh0 (Stand.of_body B)
    exact ⟨t, o, a1, b1, b2, b3⟩
end ZR9
theorem zMet_ofF {l : Launch} {y : MethodName} {fr lo : Nat} {D : zD} {B0 : Nat} {E : zE} {av : List Value} {h h' : zH} {o : zO} {cc : ByteArray} {maxL : Nat} {ret : Option FieldType} {mn own : String} (hst : l.stackTraces = false) (hy : plainFor y = true) (hown : y.cls = own) (hmn : y.name = mn) (hlen : (lg_sl av).length ≤ maxL)
    (body : ∀ p e R s m below meth c, zCx p l e R s m av.toArray below meth c D B0 maxL own cc E fr lo ret mn → (∀ x ∈ c.exceptionTable.toList, False) → zW p l e R s m av.toArray below meth c D B0 maxL (zEnd D B0 R below av.toArray s o h') h 0 (lv_args 0 av) []) : zMet l y (ws_ y cc maxL ret) fr lo D B0 E av h o h' := by
  refine zx_ofWF (cc := cc) (maxL := maxL) (ret := ret) hy rfl ?_
  intro p e s m args0 below meth c s₁ B hml hno hv
  obtain ⟨rfl, hr, hG, hB0⟩ := hv
  have hts := atoms_spec (ws := ws_ y cc maxL ret) B.pre
  have hts : ∀ w ∈ lw_all, w.before _ s = true := fun w h => hts w (List.mem_cons_of_mem _ h)
  have hl := lv_entry av (n := maxL) hlen
  rw [lg_entry_eq]
  exact body p e _ s m below meth c ⟨B.exec, B.bytes, hml, by rw [← hown]; exact findClass_of_methodNamed B.named, hts, B.notSynchronized, hst, Nat.le_refl _, Nat.le_refl _, hG, hB0, B.returns, by rw [← hmn]; exact (name_of_methodNamed B.named B.method).1⟩ hno s.heap [] _ 0 0 hr ⟨Nat.le_refl _, Nat.le_refl _, Nat.le_refl _⟩ va_S.rf hl
/-- a copy of an array of bytes -/
def clA (h : zH) (a : Nat) : Option (Nat × zH) := match h.1 a with
  | some (true, .inl (2, n, f)) => if 1 ≤ h.2.2.1 ∧ n ≤ h.2.2.2 then some (h.2.1, zadd h (true, .inl (2, n, f)) n) else none
  | _ => none
theorem zclA {h h1 : zH} {a q : Nat} (hv : clA h a = some (q, h1)) : ∃ n f, h.1 a = some (true, .inl (2, n, f)) ∧ (1 ≤ h.2.2.1 ∧ n ≤ h.2.2.2) ∧ q = h.2.1 ∧ h1 = zadd h (true, .inl (2, n, f)) n := by
  unfold clA at hv
  split at hv
  · rename_i n f hh
    split at hv
    · cases hv
      exact ⟨n, f, hh, by assumption, rfl, rfl⟩
    · cases hv
  · cases hv
def zub (x : Int32) : Nat := x.toUInt32.toNat % 256
/-- eight bytes from place i -/
def zw8 (f : Nat → Int32) (i : Nat) : Int64 := ((([zub (f (i + 0)), zub (f (i + 1)), zub (f (i + 2)), zub (f (i + 3)), zub (f (i + 4)), zub (f (i + 5)), zub (f (i + 6)), zub (f (i + 7))] : List Nat).zipIdx.map fun (b, k) => b * 2 ^ (8 * k)).sum).toUInt64.toInt64
def gJ (h : zH) (a : Nat) (off : Int64) : Option Int64 := match h.1 a with
  | some (true, .inl (2, n, .inl f)) => if ¬ off < 0 ∧ 16 ≤ off.toNatClampNeg ∧ off.toNatClampNeg - 16 + 8 ≤ n then some (zw8 f (off.toNatClampNeg - 16)) else none
  | _ => none
theorem zgJ {h : zH} {a : Nat} {off x : Int64} (hv : gJ h a off = some x) : ∃ n f, h.1 a = some (true, .inl (2, n, .inl f)) ∧ ¬ off < 0 ∧ 16 ≤ off.toNatClampNeg ∧ off.toNatClampNeg - 16 + 8 ≤ n ∧ x = zw8 f (off.toNatClampNeg - 16) := by
  unfold gJ at hv
  split at hv
  · rename_i n f hh
    split at hv
    · rename_i hc
      cases hv
      exact ⟨n, f, hh, hc.1, hc.2.1, hc.2.2, rfl⟩
    · cases hv
  · cases hv
section ZR10
variable {EE : CtlPost} {e : Env} {d : Bool} {acts : List Action} {s : State}
theorem zloc {a : Addr} {A : Cell} {k : Class} {comp : ClassId} {i : Nat} {off : Int64} {Q : UnsafeMem.Target → Pre}
    (hA : s.heap[a]? = some A) (hvm : A.vm = .none) (hk : s.vm.classes[A.cls]? = some k) (hkind : k.kind = .array comp .byte) (hneg : ¬ off < 0) (hoff : off.toNatClampNeg = 16 + i) : wp (UnsafeMem.locate (.ref a) off .long) Q EE e d acts s ↔ Q (UnsafeMem.Target.bytes a .byte i) d acts s := by
  simp [UnsafeMem.locate, hneg, hoff, hA, Cell.info, hvm, hk, hkind, UnsafeMem.arrayBase, UnsafeMem.scaleOf, UnsafeMem.isRefType]
theorem zrdb {a : Addr} {A : Cell} {i : Nat} {x : Int32} {Q : Nat → Pre} (hA : s.heap[a]? = some A) (hvm : A.vm = .none) (h : A.slots[i]? = some (.int x)) :
    wp (UnsafeMem.readByte a .byte i .plain) Q EE e d acts s ↔ Q (zub x) d (readActs ⟨a, i⟩ .plain (.int x) acts) s := by
  simp [UnsafeMem.readByte, UnsafeMem.scaleOf, UnsafeMem.bitsOf, hA, hvm, h, zub, Nat.mod_one]
theorem zgl8 {a : Addr} {A : Cell} {k : Class} {comp : ClassId} {i : Nat} {off : Int64} {f : Nat → Int32} {Q : Value → Pre}
    (hA : s.heap[a]? = some A) (hvm : A.vm = .none) (hk : s.vm.classes[A.cls]? = some k) (hkind : k.kind = .array comp .byte) (hneg : ¬ off < 0) (hoff : off.toNatClampNeg = 16 + i)
    (h0 : ∀ j, j < 8 → A.slots[i + j]? = some (.int (f (i + j)))) (hQ : ∀ d' acts', Q (.long (zw8 f i)) d' acts' s) : wp (UnsafeMem.get .long (.ref a) off .plain) Q EE e d acts s := by
  have hr : List.range (UnsafeMem.scaleOf .long) = [0, 1, 2, 3, 4, 5, 6, 7] := rfl
  simp only [UnsafeMem.get, wp_bind', zloc hA hvm hk hkind hneg hoff, hr, List.mapM, List.mapM.loop, zrdb hA hvm (h0 0 (by decide)), zrdb hA hvm (h0 1 (by decide)), zrdb hA hvm (h0 2 (by decide)), zrdb hA hvm (h0 3 (by decide)),
    zrdb hA hvm (h0 4 (by decide)), zrdb hA hvm (h0 5 (by decide)), zrdb hA hvm (h0 6 (by decide)), zrdb hA hvm (h0 7 (by decide)), wp_pure']
  exact hQ _ _
end ZR10
abbrev zglN : MethodName := ⟨"jdk/internal/misc/Unsafe", "getLong", "(Ljava/lang/Object;J)J"⟩
theorem zglD : parseMethodDescriptor zglN.desc = some { parameters := [.object "java/lang/Object", .long], returnType := some .long } := by decide +kernel
set_option maxRecDepth 1000000 in
set_option maxHeartbeats 4000000 in
theorem zglFind : NativeRow.find? Jvm.natives "jdk/internal/misc/Unsafe" "getLong" "(Ljava/lang/Object;J)J" = some (Native.jdk_internal_misc_Unsafe.memory.getRow "Long" "J" .long "" .plain) := by
  rfl
theorem zglRow (p : Program) : NativeRow.find? p.tables.natives "jdk/internal/misc/Unsafe" "getLong" "(Ljava/lang/Object;J)J" = some (Native.jdk_internal_misc_Unsafe.memory.getRow "Long" "J" .long "" .plain) := by
  cases p <;> exact zglFind
section ZR11
variable {p : Program} {l : Launch} {e : Env} {R : Room} {s : State} {m : MethodId} {args : Array Value} {below : List Frame} {meth : Method} {c : Code} {Q : State → Prop} {D : zD} {B0 nL : Nat} {own : String} {cc : ByteArray} {E : zE} {fr lo : Nat} {ret : Option FieldType} {mn : String} {h h1 : zH} {pc : Nat} {lv : List (Nat × Value)} {rest st st' : List Value}
theorem zr_clone (C0 : zCx p l e R s m args below meth c D B0 nL own cc E fr lo ret mn) {idx a q : Nat} (hlink : Cond.methodLink own idx ⟨"[B", "clone", "()Ljava/lang/Object;"⟩ ∈ lw_all) (hfr : 1 ≤ fr) (hlo : (rest.map fun v => v.category).sum + 14 ≤ lo) (hd : decode cc pc = .ok (.invokevirtual idx, 3)) (hv : clA h a = some (q, h1)) (kk : zW p l e R s m args below meth c D B0 nL Q h1 (pc + 3) lv (.ref q :: rest)) : zW p l e R s m args below meth c D B0 nL Q h pc lv (.ref a :: rest) := by
  obtain ⟨n, f, hh, ⟨k3, k4⟩, rfl, rfl⟩ := zclA hv
  obtain ⟨hx, hb, hml, hown, hts, hlk, -, hf, hl0, hG, hB, -⟩ := C0
  intro H locs ls cl sl hr hR hS hl
  refine W_tight fun T hT X => ?_
  obtain ⟨cell, q1, q2, q3, q0, g1, g2, g3, g5, g4⟩ := hr.2 a true _ hh
  have hcell := (g4 rfl).1
  have hcls : cell.cls = D.2.2 2 := by rw [hcell]; rfl
  have hmk : ({ cls := cell.cls, slots := cell.slots } : Cell) = cell := by rw [hcell]; rfl
  have hsz : cell.slots.size = n := g2
  have hnm : s.vm.findClass "[B" = some (D.2.2 2) := zArrNm hG (by decide) rfl
  obtain ⟨c0, t0', f1, f2, f3⟩ := Cond.castable_spec (va_Nw.use (A := args) rfl (hG.2.1 _ q322 rfl))
  cases hnm.symm.trans f1
  obtain ⟨-, kS, hkS, compS, hkindS⟩ := id g1
  have g1' : T.isArrayOf cell (zty 2) := State.isArrayOf_alike X.warmed.alike g1
  obtain ⟨-, kA, hkA, comp, hkind⟩ := g1'
  obtain ⟨vm', X', st⟩ := X.cloneArray hx hown (hts _ hlink) (hts _ q318) (hts _ q319) (hts _ q320) (hts _ q321) (a := a) (cell := cell) (by rw [hT]; exact q1) (fun k h => by rw [h] at q2; cases q2) q3 (by rw [hcls]; exact hnm) f2 (by rw [hcls]; exact f3)
    (fun i v hv => by
      have hi : i < n := by
        have := (Array.getElem?_eq_some_iff.mp hv).1
        omega
      have hv2 := g3 i hi
      have hv3 : v = zv f i := Option.some.inj (hv.symm.trans hv2)
      rw [hv3]
      have hk' : T.vm.classes[cell.cls]? = some kA := hkA
      simpa [State.fitsSlot, State.slotType?, hk', hkind] using g5 i hi)
    (g := F0 m pc ls (.ref a :: rest)) rfl (by rw [hml]; exact hl.1) rfl (by rw [hb]; exact hd) (by omega) (by show 2 * 0 + _ + 14 ≤ _; omega) (by have := hR.1; have := hS.1; omega) (by rw [hsz]; have := hR.2; omega) (hloader := Vm.clonesLoader_of_array hkS hkindS)
  rw [hmk] at X'
  rw [hmk] at st
  have hq : h.2.1 = H.size := hr.1
  obtain ⟨m1, m2, m3⟩ := zr_made (e9 := .inl (2, n, f)) (cell := cell) (n := n) hB hr hR hS k3 k4 hsz (q0 rfl).1 ⟨g1, g2, g3, g5, g4⟩
  have K := kk (H.push cell) locs ls (H.size - s.heap.size + 1) (zTot H - zTot s.heap + cell.slots.size) m1 m2 m3 hl
  rw [hq] at K
  obtain ⟨t9, a1, b1⟩ := K ((T.setVm vm').pushCell cell) (by show T.heap.push cell = H.push cell; rw [hT]) X'
  refine ⟨t9, st t9 ?_, b1⟩
  have e9 : T.heap.size = H.size := by rw [hT]
  rw [e9]
  exact a1
theorem zr_getJ (C0 : zCx p l e R s m args below meth c D B0 nL own cc E fr lo ret mn) {idx u a : Nat} {off x : Int64} (hb9 : isO h u 23 = true) (hlink : Cond.methodLink own idx zglN ∈ lw_all) (hfr : 1 ≤ fr) (hlo : (rest.map fun v => v.category).sum + 17 ≤ lo) (hd : decode cc pc = .ok (.invokevirtual idx, 3)) (hv : gJ h a off = some x) (kk : zW p l e R s m args below meth c D B0 nL Q h (pc + 3) lv (.long x :: rest)) : zW p l e R s m args below meth c D B0 nL Q h pc lv (.long off :: .ref a :: .ref u :: rest) := by
  obtain ⟨n, f, hh, k1, k2, k3, rfl⟩ := zgJ hv
  obtain ⟨hx, hb, hml, hown, hts, hlk, -, hf, hl0, hG, hB, -⟩ := C0
  intro H locs ls cl sl hr hR hS hl T hT X
  obtain ⟨cell, q1, q2, q3, q0, g1, g2, g3, g5, g4⟩ := hr.2 a true _ hh
  obtain ⟨b, fs, hu⟩ := zisO hb9
  obtain ⟨cu, u1, u2, u3, -, r, z1, z2, -⟩ := hr.2 u b _ hu
  have hfc := (hG.1.1 23 r z1).2.1
  cases z1
  obtain ⟨rN, kO, methO, hnO, hmO, hkO, N⟩ := NativeOf.of_instance (hts _ q1185) (hts _ q1183) zglD
  obtain ⟨r', methO', hnO', hmO', -, habs⟩ := Cond.instanceMethod_spec (hts _ q1183)
  cases hnO.symm.trans hnO'
  cases hmO.symm.trans hmO'
  obtain ⟨c2, r2, m2, p1, p2, p3, p4, mk, hmk, hmki⟩ := Cond.selects_spec (hts _ q1184)
  cases hfc.symm.trans p1
  cases (State.methodFound?_of_named hnO (by decide)).symm.trans p2
  cases hnO.symm.trans p3
  cases hkO.symm.trans hmk
  have hselP : selectMethod e.platform s.vm cu.cls rN = .method rN := by rw [Launch.admits_selectMethod X.admits, z2]; exact p4
  obtain ⟨vm', X', step⟩ := X.invokevirtual hx hown (hts _ hlink) hnO hmO N.static hkO hmki (by decide) (a := u) (cell := cu) (by rw [hT]; exact u1) (fun k q => by rw [q] at u2; cases u2) hselP hmO habs hkO hmki (g := F0 m pc ls (.long off :: .ref a :: .ref u :: rest)) rfl (argsL := [.ref a, .long off]) (rest := rest) (by rw [N.sig]; rfl) rfl (by rw [hb]; exact hd)
  obtain ⟨t9, a1, b1⟩ := kk H locs ls cl sl hr hR hS hl (T.setVm vm') hT X'
  refine ⟨t9, step t9 fun acts => ?_, b1⟩
  have hA' : s.vm.Alike vm' := X'.warmed.alike
  obtain ⟨kO', N'⟩ := N.alike hA'
  obtain ⟨-, kc, hkc, comp, hkind⟩ := State.isArrayOf_alike (T := T.setVm vm') hA' g1
  have hvm0 := (q0 rfl).1
  have hseen : seenByNative methO #[.ref u, .ref a, .long off] = #[.ref u, .ref a, .long off] := by simp [seenByNative, N.static, N.sig, narrow]
  refine Steps.nativeEnds (g := F0 m pc ls rest) (row := Native.jdk_internal_misc_Unsafe.memory.getRow "Long" "J" .long "" .plain) (v := some (.long (zw8 f (off.toNatClampNeg - 16)))) (T := id) (ig := .invokevirtual idx) (len := 3) X'.here acts N'.cls N'.meth N'.boot N'.native N'.noCode N'.noLock
    (by rw [N'.className, N'.name, N'.desc]; exact zglRow p) (X'.notFull (g := F0 m pc ls rest) (by rw [hml]; exact hl.1) (by omega) (by rw [N'.className, N'.name]; show 2 * 0 + (rest.map fun v => v.category).sum + (nativeFrameWords "jdk/internal/misc/Unsafe" "getLong" 4 + 11) ≤ R.locals; rw [show nativeFrameWords "jdk/internal/misc/Unsafe" "getLong" 4 = 6 from by decide +kernel]; omega)) (fun _ => rfl) rfl (fun _ => X'.here.code) ?_ (by rw [hb]; exact hd) a1
  intro Q9 hq9
  rw [hseen] at hq9 ⊢
  show wp (do let v ← UnsafeMem.get .long (.ref a) off .plain; mark "nat.jdk_internal_misc_Unsafe.get"; Pure.pure (some v)) Q9 _ e false [] _
  simp only [wp_bind']
  refine zgl8 (A := cell) (k := kc) (comp := comp) (i := off.toNatClampNeg - 16) (f := f) (by show T.heap[a]? = _; rw [hT]; exact q1) hvm0 hkc hkind k1 (by omega) (fun j hj => g3 _ (show off.toNatClampNeg - 16 + j < n by omega)) fun d' acts' => ?_
  simp
  exact hq9 _ _
end ZR11
