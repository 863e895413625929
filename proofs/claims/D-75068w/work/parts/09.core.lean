/-! THE GLOBAL FACTS of a start: classes, words outside the list of all methods, statics, literals -/
set_option maxRecDepth 100000
abbrev zCl : List vw_C := [(RX1, TX1, 10), (RX6, TX6, 22), (RX2, TX2, 10), (RX3, TX3, 1), (RX4, TX4, 7), (RX5, TX5, 3), (RX7, TX7, 9), (RX8, TX8, 8), (RX9, TX9, 2), (RX10, TX10, 2), (RX11, TX11, 11), (RX12, TX12, 7), (RX13, TX13, 4), (RX14, TX14, 3), (RX15, TX15, 5), (RJ2, TJ2, 3), (RJ19, TJ19, 4), (RJ20, TJ20, 3), (RJ8, TJ8, 4), (RJ9, TJ9, 4), (RJ22, TJ22, 0), (RJ6, TJ6, 0), (RJ26, TJ26, 0), (RJ23, TX14, 0)]
def zLits : List (String × Nat × String) := [("FranchiseLedger", 461, "royalty"), ("FranchiseLedger", 462, "ad"), ("FranchiseLedger", 464, "interest"), ("FranchiseLedger", 465, "paid"), ("FranchiseLedger", 467, "received"), ("FranchiseLedger", 469, "due"), ("FranchiseLedger", 471, "balance"), ("FranchiseLedger$Reader", 31, ""), ("FranchiseLedger$Reader", 296, "sales"), ("FranchiseLedger$Reader", 298, "deliver"), ("FranchiseLedger$Reader", 300, "pay"), ("FranchiseLedger$Reader", 302, "grant"), ("FranchiseLedger$Reader", 304, "campaign"), ("FranchiseLedger$Reader", 306, "vote"), ("FranchiseLedger$Reader", 308, "close"), ("FranchiseLedger$Reader", 129, "plan"), ("FranchiseLedger$Reader", 135, "franchisee"), ("FranchiseLedger$Reader", 137, "area"), ("FranchiseLedger$Reader", 139, "outlet"), ("FranchiseLedger$Reader", 141, "credit"), ("FranchiseLedger$Reader", 143, "interest"), ("FranchiseLedger$Reader", 145, "admin"), ("FranchiseLedger$Reader", 147, "fee"), ("FranchiseLedger$Reader", 149, "delay"), ("FranchiseLedger$Reader", 151, "worth"), ("FranchiseLedger$Reader", 292, "yes"), ("FranchiseLedger$Reader", 294, "no")]
def zSts : List (String × String × String × Value) := [("java/lang/String", "COMPACT_STRINGS", "Z", .int 1), ("jdk/internal/misc/Unsafe", "ARRAY_BYTE_BASE_OFFSET", "I", .int 16), ("jdk/internal/misc/UnsafeConstants", "BIG_ENDIAN", "Z", .int 0), ("jdk/internal/util/ArraysSupport", "BIG_ENDIAN", "Z", .int 0), ("jdk/internal/util/ArraysSupport", "LOG2_ARRAY_BYTE_INDEX_SCALE", "I", .int 0), ("jdk/internal/util/ArraysSupport", "LOG2_BYTE_BIT_SIZE", "I", .int 3), ("jdk/internal/util/ArraysSupport", "LOG2_ARRAY_LONG_INDEX_SCALE", "I", .int 3), ("jdk/internal/util/ArraysSupport", "LOG2_ARRAY_INT_INDEX_SCALE", "I", .int 2)]
def zStqs : List (String × String × String) := [("jdk/internal/util/Preconditions", "SIOOBE_FORMATTER", "Ljava/util/function/BiFunction;")]
def zSels : List (String × MethodName) := [("java/lang/StringBuilder", ⟨"java/lang/AbstractStringBuilder", "ensureCapacityInternal", "(I)V"⟩), ("java/lang/StringBuilder", ⟨"java/lang/AbstractStringBuilder", "newCapacity", "(I)I"⟩), ("java/lang/StringBuilder", ⟨"java/lang/AbstractStringBuilder", "putStringAt", "(ILjava/lang/String;)V"⟩), ("java/lang/StringBuilder", ⟨"java/lang/AbstractStringBuilder", "inflateIfNeededFor", "(Ljava/lang/String;)V"⟩)]
def zDws : List Cond := [.methodLink "FranchiseLedger$Books" 118 ⟨"FranchiseLedger$Rate", "of", "(J)J"⟩, .methodLink "FranchiseLedger$Plan" 66 ⟨"FranchiseLedger$Rate", "of", "(J)J"⟩, .methodLink "FranchiseLedger" 319 ⟨"FranchiseLedger$Rate", "of", "(J)J"⟩, .sameMethod "FranchiseLedger$Rate" "FranchiseLedger$Rated" "of" "(J)J"]
def zFws : List (String × MethodName × MethodName) := [("java/util/ArrayList", ⟨"java/util/List", "size", "()I"⟩, ⟨"java/util/ArrayList", "size", "()I"⟩), ("java/util/ArrayList", ⟨"java/util/List", "get", "(I)Ljava/lang/Object;"⟩, ⟨"java/util/ArrayList", "get", "(I)Ljava/lang/Object;"⟩), ("java/util/ArrayList", ⟨"java/util/List", "add", "(Ljava/lang/Object;)Z"⟩, ⟨"java/util/ArrayList", "add", "(Ljava/lang/Object;)Z"⟩), ("FranchiseLedger$Rate", ⟨"FranchiseLedger$Rated", "rate", "()I"⟩, ⟨"FranchiseLedger$Rate", "rate", "()I"⟩)]
def zNcs : List (String × String) := [("java/lang/IllegalArgumentException", "java/lang/IndexOutOfBoundsException"), ("java/lang/IllegalStateException", "java/lang/IndexOutOfBoundsException"), ("java/lang/IllegalStateException", "java/lang/IllegalArgumentException"), ("java/lang/String", "java/lang/AbstractStringBuilder"), ("java/lang/StringBuilder", "java/lang/StringBuffer")]
/-! THE ABSTRACT HEAP: cells by address; what it says of the machine's heap; room; the walk over it -/
set_option maxRecDepth 100000
abbrev zS : Type := (Nat → Int32) ⊕ ((Nat → Int64) ⊕ (Nat → Option Nat))
abbrev zA : Type := Nat × (Nat × zS)
abbrev zC : Type := Bool × (zA ⊕ (Nat × List Value))
abbrev zH : Type := (Nat → Option zC) × (Nat × (Nat × Nat))
abbrev zD : Type := (Nat → ClassId) × ((Nat → Nat → Nat) × (Nat → ClassId))
abbrev zE : Type := Nat × ((Nat → Nat) × (Nat → Option Nat))
abbrev zO : Type := Option Value ⊕ (Nat × Nat)
def zv (f : zS) (j : Nat) : Value := match f with
  | .inl g => .int (g j)
  | .inr (.inl g) => .long (g j)
  | .inr (.inr g) => va_rf (g j)
def zty (t : Nat) : FieldType := match t with
  | 0 => .int
  | 1 => .long
  | 2 => .byte
  | 3 => .boolean
  | 4 => .object "java/lang/Object"
  | 5 => .array .long
  | _ => .object "FranchiseLedger$Books"
abbrev zTys (a : Nat → ClassId) : List (ClassId × FieldType) := [(a 0, zty 0), (a 1, zty 1), (a 2, zty 2), (a 3, zty 3), (a 4, zty 4), (a 5, zty 5), (a 6, zty 6)]
def zKind (s : State) (D : zD) (b : Bool) (cell : Cell) (e : zA ⊕ (Nat × List Value)) : Prop := match e with
  | .inl x => s.isArrayOf cell (zty x.1) ∧ cell.slots.size = x.2.1 ∧ (∀ j, j < x.2.1 → cell.slots[j]? = some (zv x.2.2 j)) ∧ (∀ j, j < x.2.1 → fits (zty x.1) (zv x.2.2 j) = true) ∧ (b = true → cell = arrV (D.2.2 x.1) x.2.1 (zv x.2.2) ∧ x.1 < 7)
  | .inr o => ∃ r : vw_C, zCl[o.1]? = some r ∧ cell.cls = D.1 o.1 ∧ ∀ k, k < r.2.2 → cell.slots[D.2.1 o.1 k]? = some (vp_V o.2 k)
def zAt (D : zD) (B0 : Nat) (s : State) (a : Nat) (b : Bool) (e : zA ⊕ (Nat × List Value)) (H : Heap) : Prop :=
  ∃ cell : Cell, H[a]? = some cell ∧ cell.vm.isStatics = false ∧ cell.vm ≠ .unknown ∧ (b = true → cell.vm = .none ∧ B0 ≤ a) ∧ zKind s D b cell e
def zRel (D : zD) (B0 : Nat) (s : State) (h : zH) (H : Heap) : Prop := h.2.1 = H.size ∧ ∀ (a : Nat) (b : Bool) (e : zA ⊕ (Nat × List Value)), h.1 a = some (b, e) → zAt D B0 s a b e H
def zTot (H : Heap) : Nat := H.foldl (fun n c => n + c.slots.size) 0
def zRoom (R : Room) (s : State) (h : zH) (H : Heap) : Prop := H.size + h.2.2.1 ≤ s.heap.size + R.cells ∧ zTot H + h.2.2.2 ≤ zTot s.heap + R.slots ∧ zTot s.heap ≤ zTot H
theorem zKind.alike {s t : State} {D : zD} {b : Bool} {cell : Cell} {e : zA ⊕ (Nat × List Value)} (hv : s.vm.Alike t.vm) (h : zKind s D b cell e) : zKind t D b cell e := by
  cases e with
  | inl x => exact ⟨State.isArrayOf_alike hv h.1, h.2⟩
  | inr o => exact h
theorem zAt.alike {s t : State} {D : zD} {B0 a : Nat} {b : Bool} {e : zA ⊕ (Nat × List Value)} {H : Heap} (hv : s.vm.Alike t.vm) (h : zAt D B0 s a b e H) : zAt D B0 t a b e H := by
  obtain ⟨cell, h1, h2, h3, h4, h5⟩ := h
  exact ⟨cell, h1, h2, h3, h4, h5.alike hv⟩
theorem zAt.kept {s : State} {D : zD} {B0 a : Nat} {b : Bool} {e : zA ⊕ (Nat × List Value)} {H H1 : Heap} (h : zAt D B0 s a b e H) (hq : H1[a]? = H[a]?) : zAt D B0 s a b e H1 := by
  obtain ⟨cell, h1, h2⟩ := h
  exact ⟨cell, hq.trans h1, h2⟩
theorem zAt.lt {s : State} {D : zD} {B0 a : Nat} {b : Bool} {e : zA ⊕ (Nat × List Value)} {H : Heap} (h : zAt D B0 s a b e H) : a < H.size := by
  obtain ⟨cell, h1, -⟩ := h
  exact (Array.getElem?_eq_some_iff.mp h1).1
theorem zRel.alike {s t : State} {D : zD} {B0 : Nat} {h : zH} {H : Heap} (hv : s.vm.Alike t.vm) (hr : zRel D B0 s h H) : zRel D B0 t h H := ⟨hr.1, fun a b e q => (hr.2 a b e q).alike hv⟩
/-- one cell is written -/
def zup (h : zH) (a : Nat) (c : zC) : zH := (va_up h.1 a (some c), h.2)
/-- one cell is made, of n slots -/
def zadd (h : zH) (c : zC) (n : Nat) : zH := (va_up h.1 h.2.1 (some c), (h.2.1 + 1, (h.2.2.1 - 1, h.2.2.2 - n)))
theorem zRel.put {s : State} {D : zD} {B0 a : Nat} {h : zH} {H H1 : Heap} {b : Bool} {e : zA ⊕ (Nat × List Value)} (hr : zRel D B0 s h H) (e2 : H1.size = H.size) (e3 : ∀ q, q ≠ a → H1[q]? = H[q]?) (hc : zAt D B0 s a b e H1) : zRel D B0 s (zup h a (b, e)) H1 := by
  refine ⟨hr.1.trans e2.symm, fun q b' e' hq => ?_⟩
  by_cases hqa : q = a
  · subst hqa
    have hq : va_up h.1 q (some (b, e)) q = some (b', e') := hq
    simp only [va_up, if_true] at hq
    cases hq
    exact hc
  · have hq : va_up h.1 a (some (b, e)) q = some (b', e') := hq
    simp only [va_up, if_neg hqa] at hq
    exact (hr.2 q b' e' hq).kept (e3 q hqa)
theorem zRel.add {s : State} {D : zD} {B0 n : Nat} {h : zH} {H H1 : Heap} {b : Bool} {e : zA ⊕ (Nat × List Value)} (hr : zRel D B0 s h H) (e2 : H1.size = H.size + 1) (e3 : ∀ q, q < H.size → H1[q]? = H[q]?) (hc : zAt D B0 s H.size b e H1) : zRel D B0 s (zadd h (b, e) n) H1 := by
  refine ⟨by show h.2.1 + 1 = H1.size; rw [e2, hr.1], fun q b' e' hq => ?_⟩
  have hq : va_up h.1 h.2.1 (some (b, e)) q = some (b', e') := hq
  by_cases hqa : q = h.2.1
  · simp only [va_up, if_pos hqa] at hq
    cases hq
    rw [hqa, hr.1]
    exact hc
  · simp only [va_up, if_neg hqa] at hq
    have h1 := hr.2 q b' e' hq
    exact h1.kept (e3 q h1.lt)
theorem zTot_push (H : Heap) (c : Cell) : zTot (H.push c) = zTot H + c.slots.size := by
  unfold zTot
  rw [Array.foldl_push]
theorem zTot_list (H : Heap) : zTot H = (H.toList.map (fun c => c.slots.size)).sum := by
  unfold zTot
  rw [← Array.foldl_toList]
  have key : ∀ (L : List Cell) (n : Nat), L.foldl (fun n c => n + c.slots.size) n = n + (L.map (fun c => c.slots.size)).sum := by
    intro L
    induction L with
    | nil => intro n; simp
    | cons a L ih => intro n; rw [List.foldl_cons, ih]; simp [Nat.add_assoc]
  rw [key, Nat.zero_add]
theorem zTot_set {H H1 : Heap} {a : Nat} {cell cell1 : Cell} (h0 : H[a]? = some cell) (e1 : H1[a]? = some cell1) (hs : cell1.slots.size = cell.slots.size) (e2 : H1.size = H.size) (e3 : ∀ q, q ≠ a → H1[q]? = H[q]?) : zTot H1 = zTot H := by
  rw [zTot_list, zTot_list]
  congr 1
  apply List.ext_getElem?
  intro i
  rw [List.getElem?_map, List.getElem?_map, Array.getElem?_toList, Array.getElem?_toList]
  by_cases hi : i = a
  · subst hi
    rw [h0, e1]
    simp [hs]
  · rw [e3 i hi]
section ZW
variable {p : Program} {l : Launch} {e : Env} {R : Room} {s : State} {m : MethodId} {args : Array Value} {below : List Frame} {meth : Method} {c : Code} {H : Heap} {locs : List Loc} {cells slots : Nat} {Q : State → Prop}
/-- the counters may be drawn in to what was truly made -/
theorem stand_tight {T : State} (hT : T.heap = H) (X : Stand p l e R s m args below meth c T locs cells slots) : Stand p l e R s m args below meth c T locs (H.size - s.heap.size) (zTot H - zTot s.heap) := by
  subst hT
  refine { X with same := ?_ }
  obtain ⟨h1, h2, h3, h4, h5, h6⟩ := X.same
  have hb := X.book
  have hs : s.slotsTrue = true := by
    have h := X.room
    simp only [State.hasRoom, Bool.and_eq_true] at h
    exact h.2
  have hb' : T.slotsUsed = zTot T.heap := by simpa [State.slotsTrue, zTot] using hb
  have hs' : s.slotsUsed = zTot s.heap := by simpa [State.slotsTrue, zTot] using hs
  have h4' : T.slotsUsed = s.slotsUsed + (((T.setVm s.vm).heap.toList.drop s.heap.size).map (·.slots.size)).sum := h4
  have h2' : s.heap.size ≤ T.heap.size := h2
  refine ⟨h1, h2, ?_, h4, ?_, h6⟩
  · show T.heap.size ≤ s.heap.size + (T.heap.size - s.heap.size)
    omega
  · omega
theorem W_tight {g : JFrame} (kk : W p l e R s m args below meth c H locs (H.size - s.heap.size) (zTot H - zTot s.heap) Q g) : W p l e R s m args below meth c H locs cells slots Q g := fun T hT X => kk T hT (stand_tight hT X)
theorem W_room {g : JFrame} {h : zH} (hR : zRoom R s h H) (kk : W p l e R s m args below meth c H locs R.cells R.slots Q g) : W p l e R s m args below meth c H locs cells slots Q g :=
  W_tight (W.widen (by have := hR.1; omega) (by have := hR.2; omega) kk)
end ZW
def zNk : Cond → Bool
  | .fieldLinkNest _ _ _ _ _ _ => true
  | .methodLinkNest _ _ _ _ => true
  | .castable _ _ => true
  | .declares _ => true
  | .arrayOver _ => true
  | _ => false
theorem zAO.warm {ty : FieldType} {s U : State} (hW : s.WarmedH U.vm) (h : va_Nw (.arrayOver ty) s) : va_Nw (.arrayOver ty) U := by
  have h2 : (Cond.arrayOver ty).before #[] (s.setVm U.vm) = true := by rw [Cond.arrayOver_setVmC hW.alike]; exact h
  unfold va_Nw
  unfold Cond.before Cond.holds at h2 ⊢
  simp only [Cond.value] at h2 ⊢
  exact h2
def zNw (U : State) : Prop := ∀ w ∈ lw_tbl, zNk w = true → va_Nw w U
theorem zNw.warm {s U : State} (hW : s.WarmedH U.vm) (h : zNw s) : zNw U := by
  intro w hw hk
  have h1 := h w hw hk
  cases w <;> first | exact va_Nw.warmF hW h1 | exact va_Nw.warmM hW h1 | exact va_Nw.warmC hW h1 | exact va_Nw.warmD hW h1 | exact zAO.warm hW h1 | cases hk
theorem zNw_call {w : Cond} {u U : State} (hv : u.vm = U.vm) (h : va_Nw w u) (hk : zNk w = true) : va_Nw w U := by
  have hW : ∀ ty, w = .arrayOver ty → va_Nw w U := by
    intro ty hw
    subst hw
    unfold va_Nw at h ⊢
    unfold Cond.before Cond.holds at h ⊢
    simp only [Cond.value] at h ⊢
    rw [← hv]
    exact h
  cases w <;> first | exact hW _ rfl | exact va_Nw.same rfl hv h | cases hk
/-- Rate.of is Rated's default -/
def zDf (U : State) : Prop := (∀ w ∈ zDws, w.before #[] U = true) ∧ (Cond.landsInDefault "FranchiseLedger$Rate" ⟨"FranchiseLedger$Rate", "of", "(J)J"⟩ ⟨"FranchiseLedger$Rated", "of", "(J)J"⟩).before #[] U = true
theorem zDf.warm {s U : State} (hW : s.WarmedH U.vm) (h : zDf s) : zDf U := by
  have hx : ∀ w ∈ zDws, (w.onTables && w.keeps) = true := by decide +kernel
  refine ⟨fun w hw => word_at hW (Or.inl (hx w hw)) (h.1 w hw), ?_⟩
  have h1 := (Cond.landsInDefault_setVm (args' := #[]) hW.alike (State.methodFound?_setVm hW.alike _ _ _)).trans h.2
  exact h1
theorem zDf.calling {U : State} {g : JFrame} {mk : MethodId} {a : Array Value} (h : zDf U) : zDf (U.calling g mk a) := by
  have hx : ∀ w ∈ zDws, w.onTables = true := by decide +kernel
  refine ⟨fun w hw => va_tabs (hx w hw) (rfl : U.vm = (U.calling g mk a).vm) (h.1 w hw), ?_⟩
  have h2 := h.2
  unfold Cond.before Cond.holds at h2 ⊢
  simp only [Cond.value] at h2 ⊢
  exact h2
def zG (D : zD) (B0 : Nat) (E : zE) (U : State) (H : Heap) : Prop :=
  va_K (D.1, D.2.1) zCl (zTys D.2.2) U ∧ zNw U ∧ (∀ q ∈ zSts, va_Z q.1 q.2.1 q.2.2.1 q.2.2.2 (fun q => B0 ≤ q) U H) ∧ (∀ q ∈ zFws, va_Fw q.1 q.2.1 q.2.2 U) ∧ (∀ q ∈ zNcs, va_Nc q.1 q.2 U) ∧
  (∀ (i : Nat) (q : String × Nat × String), zLits[i]? = some q → vk_R q.1 q.2.1 q.2.2 (E.2.1 i) U) ∧
  (vx_Zq Bundle.tN "UNASSIGNED_STACK" Bundle.steD (fun q => B0 ≤ q) U H ∧ va_Z Bundle.tN "UNASSIGNED_STACK" Bundle.steD (va_rf (E.2.2 0)) (fun q => B0 ≤ q) U H) ∧
  (vx_Zq Bundle.tN "SUPPRESSED_SENTINEL" Bundle.listD (fun q => B0 ≤ q) U H ∧ va_Z Bundle.tN "SUPPRESSED_SENTINEL" Bundle.listD (va_rf (E.2.2 1)) (fun q => B0 ≤ q) U H) ∧
  va_Z "jdk/internal/util/ArraysSupport" "U" "Ljdk/internal/misc/Unsafe;" (.ref (E.2.1 100)) (fun q => B0 ≤ q) U H ∧ va_Mi "[Ljava/lang/Object;" (E.2.1 101) U ∧
  va_Z "java/lang/Integer" "DigitTens" "[B" (.ref (E.2.1 102)) (fun q => B0 ≤ q) U H ∧ va_Z "java/lang/Integer" "DigitOnes" "[B" (.ref (E.2.1 103)) (fun q => B0 ≤ q) U H ∧
  (∀ q ∈ zSels, (Cond.selects q.1 q.2 q.2).before #[] U = true) ∧ (∀ (i : Nat) (q : String × String × String), zStqs[i]? = some q → va_Z q.1 q.2.1 q.2.2 (va_rf (E.2.2 (10 + i))) (fun q => B0 ≤ q) U H) ∧
  (∃ kA : Class, U.vm.classes[D.2.2 5]? = some kA ∧ kA.kind = .array (D.2.2 1) (.array .long)) ∧ zDf U
theorem zArr5 {U V : State} {a b : ClassId} (hv : U.vm.Alike V.vm) (h : ∃ kA : Class, U.vm.classes[a]? = some kA ∧ kA.kind = .array b (.array .long)) : ∃ kA : Class, V.vm.classes[a]? = some kA ∧ kA.kind = .array b (.array .long) := by
  obtain ⟨k, h1, h2⟩ := h
  obtain ⟨k', hk', he⟩ := hv.2.2 _ _ h1
  exact ⟨k', hk', by rw [he]; exact h2⟩
theorem zG.warm {D : zD} {B0 : Nat} {E : zE} {s U : State} {H : Heap} (hW : s.WarmedH U.vm) (h : zG D B0 E s H) : zG D B0 E U H := by
  obtain ⟨h1, h2, h3, h4, h5, h6, h7, h8, h9, h10, h11, h12, h13, h14, h15, h16⟩ := h
  refine ⟨h1.moved hW.alike, h2.warm hW, fun q hq => (h3 q hq).moved hW.alike, fun q hq => ?_, fun q hq => (h5 q hq).moved hW.alike, fun i q hq => (h6 i q hq).warm hW, ⟨h7.1.moved hW.alike, h7.2.moved hW.alike⟩, ⟨h8.1.moved hW.alike, h8.2.moved hW.alike⟩, h9.moved hW.alike, h10.moved hW.alike, h11.moved hW.alike, h12.moved hW.alike, fun q hq => word_at hW (Or.inl rfl) (h13 q hq), fun i q hq => (h14 i q hq).moved hW.alike, zArr5 hW.alike h15, h16.warm hW⟩
  have hx : ∀ q ∈ zFws, q.2.1.cls ≠ "java/lang/invoke/MethodHandle" ∧ q.2.1.cls ≠ "java/lang/invoke/VarHandle" := by decide +kernel
  exact (h4 q hq).moved (hx q hq) hW.alike
theorem zG.kept {D : zD} {B0 : Nat} {E : zE} {U : State} {H H1 : Heap} (h : zG D B0 E U H) (hq : ∀ a : Nat, a < H.size → ¬ B0 ≤ a → H1[a]? = H[a]?) : zG D B0 E U H1 := by
  obtain ⟨h1, h2, h3, h4, h5, h6, h7, h8, h9, h10, h11, h12, h13, h14, h15, h16⟩ := h
  exact ⟨h1, h2, fun q hq' => (h3 q hq').kept hq, h4, h5, h6, ⟨h7.1.kept hq, h7.2.kept hq⟩, ⟨h8.1.kept hq, h8.2.kept hq⟩, h9.kept hq, h10, h11.kept hq, h12.kept hq, h13, fun i q hq' => (h14 i q hq').kept hq, h15, h16⟩
theorem zG.calling {D : zD} {B0 : Nat} {E : zE} {U : State} {H : Heap} {g : JFrame} {mk : MethodId} {a : Array Value} (h : zG D B0 E U H) : zG D B0 E (U.calling g mk a) H := by
  obtain ⟨h1, h2, h3, h4, h5, h6, h7, h8, h9, h10, h11, h12, h13, h14, h15, h16⟩ := h
  have hv : U.vm.Alike (U.calling g mk a).vm := Vm.Alike.refl U.vm
  have hx : ∀ q ∈ zFws, q.2.1.cls ≠ "java/lang/invoke/MethodHandle" ∧ q.2.1.cls ≠ "java/lang/invoke/VarHandle" := by decide +kernel
  exact ⟨h1.moved hv, fun w hw hkw => zNw_call (U := U.calling g mk a) (rfl : U.vm = (U.calling g mk a).vm) (h2 w hw hkw) hkw, fun q hq => (h3 q hq).moved hv, fun q hq => (h4 q hq).moved (hx q hq) hv, fun q hq => (h5 q hq).moved hv, fun i q hq => (h6 i q hq).same rfl, ⟨h7.1.moved hv, h7.2.moved hv⟩, ⟨h8.1.moved hv, h8.2.moved hv⟩, h9.moved hv, h10.moved hv, h11.moved hv, h12.moved hv, fun q hq => va_tabs rfl (rfl : U.vm = (U.calling g mk a).vm) (h13 q hq), fun i q hq => (h14 i q hq).moved hv, zArr5 hv h15, h16.calling⟩
/-! ROWS: one instruction each, over the abstract heap -/
set_option maxRecDepth 100000
def zW (p : Program) (l : Launch) (e : Env) (R : Room) (s : State) (m : MethodId) (args : Array Value) (below : List Frame) (meth : Method) (c : Code) (D : zD) (B0 nL : Nat) (Q : State → Prop) (h : zH) (pc : Nat) (lv : List (Nat × Value)) (st : List Value) : Prop :=
  ∀ (H : Heap) (locs : List Loc) (ls : Array Slot) (cells slots : Nat), zRel D B0 s h H → zRoom R s h H → va_S (fun q => B0 ≤ q) s.heap H locs → lv_has ls nL lv → W p l e R s m args below meth c H locs cells slots Q (F0 m pc ls st)
def zCx (p : Program) (l : Launch) (e : Env) (R : Room) (s : State) (m : MethodId) (args : Array Value) (below : List Frame) (meth : Method) (c : Code) (D : zD) (B0 nL : Nat) (own : String) (cc : ByteArray) (E : zE) (fr lo : Nat) (ret : Option FieldType) (mn : String) : Prop :=
  p.tables.exec = Jvm.exec ∧ c.code = cc ∧ c.maxLocals = nL ∧ s.vm.findClass own = some m.cls ∧ (∀ w ∈ lw_all, w.before args s = true) ∧ meth.locks = false ∧ l.stackTraces = false ∧ fr ≤ R.frames ∧ lo ≤ R.locals ∧ zG D B0 E s s.heap ∧ B0 ≤ s.heap.size ∧ meth.sig.returnType = ret ∧ meth.name = mn
section ZR
variable {p : Program} {l : Launch} {e : Env} {R : Room} {s : State} {m : MethodId} {args : Array Value} {below : List Frame} {meth : Method} {c : Code} {Q : State → Prop} {D : zD} {B0 nL : Nat} {own : String} {cc : ByteArray} {E : zE} {fr lo : Nat} {ret : Option FieldType} {mn : String} {h : zH} {pc : Nat} {lv : List (Nat × Value)} {rest : List Value}
theorem zr_iadd (C0 : zCx p l e R s m args below meth c D B0 nL own cc E fr lo ret mn) {x y : Int32} (hd : decode cc pc = .ok (.iadd, 1))  (kk : zW p l e R s m args below meth c D B0 nL Q h (pc + 1) lv (.int (x + y) :: rest)) : zW p l e R s m args below meth c D B0 nL Q h pc lv (.int y :: .int x :: rest) := fun H locs ls cl sl hr hR hS hl => lv_iadd C0.1 C0.2.1 hd  (kk H locs ls cl sl hr hR hS hl)
theorem zr_isub (C0 : zCx p l e R s m args below meth c D B0 nL own cc E fr lo ret mn) {x y : Int32} (hd : decode cc pc = .ok (.isub, 1))  (kk : zW p l e R s m args below meth c D B0 nL Q h (pc + 1) lv (.int (x - y) :: rest)) : zW p l e R s m args below meth c D B0 nL Q h pc lv (.int y :: .int x :: rest) := fun H locs ls cl sl hr hR hS hl => lv_isub C0.1 C0.2.1 hd  (kk H locs ls cl sl hr hR hS hl)
theorem zr_imul (C0 : zCx p l e R s m args below meth c D B0 nL own cc E fr lo ret mn) {x y : Int32} (hd : decode cc pc = .ok (.imul, 1))  (kk : zW p l e R s m args below meth c D B0 nL Q h (pc + 1) lv (.int (x * y) :: rest)) : zW p l e R s m args below meth c D B0 nL Q h pc lv (.int y :: .int x :: rest) := fun H locs ls cl sl hr hR hS hl => lv_imul C0.1 C0.2.1 hd  (kk H locs ls cl sl hr hR hS hl)
theorem zr_iand (C0 : zCx p l e R s m args below meth c D B0 nL own cc E fr lo ret mn) {x y : Int32} (hd : decode cc pc = .ok (.iand, 1))  (kk : zW p l e R s m args below meth c D B0 nL Q h (pc + 1) lv (.int (x &&& y) :: rest)) : zW p l e R s m args below meth c D B0 nL Q h pc lv (.int y :: .int x :: rest) := fun H locs ls cl sl hr hR hS hl => lv_iand C0.1 C0.2.1 hd  (kk H locs ls cl sl hr hR hS hl)
theorem zr_ior (C0 : zCx p l e R s m args below meth c D B0 nL own cc E fr lo ret mn) {x y : Int32} (hd : decode cc pc = .ok (.ior, 1))  (kk : zW p l e R s m args below meth c D B0 nL Q h (pc + 1) lv (.int (x ||| y) :: rest)) : zW p l e R s m args below meth c D B0 nL Q h pc lv (.int y :: .int x :: rest) := fun H locs ls cl sl hr hR hS hl => lv_ior C0.1 C0.2.1 hd  (kk H locs ls cl sl hr hR hS hl)
theorem zr_ixor (C0 : zCx p l e R s m args below meth c D B0 nL own cc E fr lo ret mn) {x y : Int32} (hd : decode cc pc = .ok (.ixor, 1))  (kk : zW p l e R s m args below meth c D B0 nL Q h (pc + 1) lv (.int (x ^^^ y) :: rest)) : zW p l e R s m args below meth c D B0 nL Q h pc lv (.int y :: .int x :: rest) := fun H locs ls cl sl hr hR hS hl => lv_ixor C0.1 C0.2.1 hd  (kk H locs ls cl sl hr hR hS hl)
theorem zr_ishl (C0 : zCx p l e R s m args below meth c D B0 nL own cc E fr lo ret mn) {x y : Int32} (hd : decode cc pc = .ok (.ishl, 1))  (kk : zW p l e R s m args below meth c D B0 nL Q h (pc + 1) lv (.int (x <<< (y &&& 31)) :: rest)) : zW p l e R s m args below meth c D B0 nL Q h pc lv (.int y :: .int x :: rest) := fun H locs ls cl sl hr hR hS hl => lv_ishl C0.1 C0.2.1 hd  (kk H locs ls cl sl hr hR hS hl)
theorem zr_ishr (C0 : zCx p l e R s m args below meth c D B0 nL own cc E fr lo ret mn) {x y : Int32} (hd : decode cc pc = .ok (.ishr, 1))  (kk : zW p l e R s m args below meth c D B0 nL Q h (pc + 1) lv (.int (x >>> (y &&& 31)) :: rest)) : zW p l e R s m args below meth c D B0 nL Q h pc lv (.int y :: .int x :: rest) := fun H locs ls cl sl hr hR hS hl => lv_ishr C0.1 C0.2.1 hd  (kk H locs ls cl sl hr hR hS hl)
theorem zr_idiv (C0 : zCx p l e R s m args below meth c D B0 nL own cc E fr lo ret mn) {x y : Int32} (hd : decode cc pc = .ok (.idiv, 1)) (hne : ¬ y = 0) (kk : zW p l e R s m args below meth c D B0 nL Q h (pc + 1) lv (.int (x / y) :: rest)) : zW p l e R s m args below meth c D B0 nL Q h pc lv (.int y :: .int x :: rest) := fun H locs ls cl sl hr hR hS hl => lv_idiv C0.1 C0.2.1 hd hne (kk H locs ls cl sl hr hR hS hl)
theorem zr_irem (C0 : zCx p l e R s m args below meth c D B0 nL own cc E fr lo ret mn) {x y : Int32} (hd : decode cc pc = .ok (.irem, 1)) (hne : ¬ y = 0) (kk : zW p l e R s m args below meth c D B0 nL Q h (pc + 1) lv (.int (x - x / y * y) :: rest)) : zW p l e R s m args below meth c D B0 nL Q h pc lv (.int y :: .int x :: rest) := fun H locs ls cl sl hr hR hS hl => lv_irem C0.1 C0.2.1 hd hne (kk H locs ls cl sl hr hR hS hl)
theorem zr_ladd (C0 : zCx p l e R s m args below meth c D B0 nL own cc E fr lo ret mn) {x y : Int64} (hd : decode cc pc = .ok (.ladd, 1))  (kk : zW p l e R s m args below meth c D B0 nL Q h (pc + 1) lv (.long (x + y) :: rest)) : zW p l e R s m args below meth c D B0 nL Q h pc lv (.long y :: .long x :: rest) := fun H locs ls cl sl hr hR hS hl => lv_ladd C0.1 C0.2.1 hd  (kk H locs ls cl sl hr hR hS hl)
theorem zr_lsub (C0 : zCx p l e R s m args below meth c D B0 nL own cc E fr lo ret mn) {x y : Int64} (hd : decode cc pc = .ok (.lsub, 1))  (kk : zW p l e R s m args below meth c D B0 nL Q h (pc + 1) lv (.long (x - y) :: rest)) : zW p l e R s m args below meth c D B0 nL Q h pc lv (.long y :: .long x :: rest) := fun H locs ls cl sl hr hR hS hl => lv_lsub C0.1 C0.2.1 hd  (kk H locs ls cl sl hr hR hS hl)
theorem zr_lmul (C0 : zCx p l e R s m args below meth c D B0 nL own cc E fr lo ret mn) {x y : Int64} (hd : decode cc pc = .ok (.lmul, 1))  (kk : zW p l e R s m args below meth c D B0 nL Q h (pc + 1) lv (.long (x * y) :: rest)) : zW p l e R s m args below meth c D B0 nL Q h pc lv (.long y :: .long x :: rest) := fun H locs ls cl sl hr hR hS hl => lv_lmul C0.1 C0.2.1 hd  (kk H locs ls cl sl hr hR hS hl)
theorem zr_land (C0 : zCx p l e R s m args below meth c D B0 nL own cc E fr lo ret mn) {x y : Int64} (hd : decode cc pc = .ok (.land, 1))  (kk : zW p l e R s m args below meth c D B0 nL Q h (pc + 1) lv (.long (x &&& y) :: rest)) : zW p l e R s m args below meth c D B0 nL Q h pc lv (.long y :: .long x :: rest) := fun H locs ls cl sl hr hR hS hl => lv_land C0.1 C0.2.1 hd  (kk H locs ls cl sl hr hR hS hl)
theorem zr_lor (C0 : zCx p l e R s m args below meth c D B0 nL own cc E fr lo ret mn) {x y : Int64} (hd : decode cc pc = .ok (.lor, 1))  (kk : zW p l e R s m args below meth c D B0 nL Q h (pc + 1) lv (.long (x ||| y) :: rest)) : zW p l e R s m args below meth c D B0 nL Q h pc lv (.long y :: .long x :: rest) := fun H locs ls cl sl hr hR hS hl => lv_lor C0.1 C0.2.1 hd  (kk H locs ls cl sl hr hR hS hl)
theorem zr_lxor (C0 : zCx p l e R s m args below meth c D B0 nL own cc E fr lo ret mn) {x y : Int64} (hd : decode cc pc = .ok (.lxor, 1))  (kk : zW p l e R s m args below meth c D B0 nL Q h (pc + 1) lv (.long (x ^^^ y) :: rest)) : zW p l e R s m args below meth c D B0 nL Q h pc lv (.long y :: .long x :: rest) := fun H locs ls cl sl hr hR hS hl => lv_lxor C0.1 C0.2.1 hd  (kk H locs ls cl sl hr hR hS hl)
theorem zr_ldiv (C0 : zCx p l e R s m args below meth c D B0 nL own cc E fr lo ret mn) {x y : Int64} (hd : decode cc pc = .ok (.ldiv, 1)) (hne : ¬ y = 0) (kk : zW p l e R s m args below meth c D B0 nL Q h (pc + 1) lv (.long (x / y) :: rest)) : zW p l e R s m args below meth c D B0 nL Q h pc lv (.long y :: .long x :: rest) := fun H locs ls cl sl hr hR hS hl => lv_ldiv C0.1 C0.2.1 hd hne (kk H locs ls cl sl hr hR hS hl)
theorem zr_lrem (C0 : zCx p l e R s m args below meth c D B0 nL own cc E fr lo ret mn) {x y : Int64} (hd : decode cc pc = .ok (.lrem, 1)) (hne : ¬ y = 0) (kk : zW p l e R s m args below meth c D B0 nL Q h (pc + 1) lv (.long (x - x / y * y) :: rest)) : zW p l e R s m args below meth c D B0 nL Q h pc lv (.long y :: .long x :: rest) := fun H locs ls cl sl hr hR hS hl => lv_lrem C0.1 C0.2.1 hd hne (kk H locs ls cl sl hr hR hS hl)
theorem zr_ineg (C0 : zCx p l e R s m args below meth c D B0 nL own cc E fr lo ret mn) {x : Int32} (hd : decode cc pc = .ok (.ineg, 1))  (kk : zW p l e R s m args below meth c D B0 nL Q h (pc + 1) lv (.int (-x) :: rest)) : zW p l e R s m args below meth c D B0 nL Q h pc lv (.int x :: rest) := fun H locs ls cl sl hr hR hS hl => lv_ineg C0.1 C0.2.1 hd  (kk H locs ls cl sl hr hR hS hl)
theorem zr_lneg (C0 : zCx p l e R s m args below meth c D B0 nL own cc E fr lo ret mn) {x : Int64} (hd : decode cc pc = .ok (.lneg, 1))  (kk : zW p l e R s m args below meth c D B0 nL Q h (pc + 1) lv (.long (-x) :: rest)) : zW p l e R s m args below meth c D B0 nL Q h pc lv (.long x :: rest) := fun H locs ls cl sl hr hR hS hl => lv_lneg C0.1 C0.2.1 hd  (kk H locs ls cl sl hr hR hS hl)
theorem zr_i2l (C0 : zCx p l e R s m args below meth c D B0 nL own cc E fr lo ret mn) {x : Int32} (hd : decode cc pc = .ok (.i2l, 1))  (kk : zW p l e R s m args below meth c D B0 nL Q h (pc + 1) lv (.long (x.toInt64) :: rest)) : zW p l e R s m args below meth c D B0 nL Q h pc lv (.int x :: rest) := fun H locs ls cl sl hr hR hS hl => lv_i2l C0.1 C0.2.1 hd rfl (kk H locs ls cl sl hr hR hS hl)
theorem zr_l2i (C0 : zCx p l e R s m args below meth c D B0 nL own cc E fr lo ret mn) {x : Int64} (hd : decode cc pc = .ok (.l2i, 1))  (kk : zW p l e R s m args below meth c D B0 nL Q h (pc + 1) lv (.int (x.toInt32) :: rest)) : zW p l e R s m args below meth c D B0 nL Q h pc lv (.long x :: rest) := fun H locs ls cl sl hr hR hS hl => lv_l2i C0.1 C0.2.1 hd rfl (kk H locs ls cl sl hr hR hS hl)
theorem zr_i2b (C0 : zCx p l e R s m args below meth c D B0 nL own cc E fr lo ret mn) {x : Int32} (hd : decode cc pc = .ok (.i2b, 1))  (kk : zW p l e R s m args below meth c D B0 nL Q h (pc + 1) lv (.int (x.toInt8.toInt32) :: rest)) : zW p l e R s m args below meth c D B0 nL Q h pc lv (.int x :: rest) := fun H locs ls cl sl hr hR hS hl => lv_i2b C0.1 C0.2.1 hd rfl (kk H locs ls cl sl hr hR hS hl)
theorem zr_i2c (C0 : zCx p l e R s m args below meth c D B0 nL own cc E fr lo ret mn) {x : Int32} (hd : decode cc pc = .ok (.i2c, 1))  (kk : zW p l e R s m args below meth c D B0 nL Q h (pc + 1) lv (.int ((x.toUInt32 % 65536).toInt32) :: rest)) : zW p l e R s m args below meth c D B0 nL Q h pc lv (.int x :: rest) := fun H locs ls cl sl hr hR hS hl => lv_i2c C0.1 C0.2.1 hd rfl (kk H locs ls cl sl hr hR hS hl)
theorem zr_iushr (C0 : zCx p l e R s m args below meth c D B0 nL own cc E fr lo ret mn) {x y : Int32} (hd : decode cc pc = .ok (.iushr, 1))  (kk : zW p l e R s m args below meth c D B0 nL Q h (pc + 1) lv (.int ((x.toUInt32 >>> (y.toUInt32 &&& Int32.toUInt32 31)).toInt32) :: rest)) : zW p l e R s m args below meth c D B0 nL Q h pc lv (.int y :: .int x :: rest) := fun H locs ls cl sl hr hR hS hl => lv_iushr C0.1 C0.2.1 hd rfl (kk H locs ls cl sl hr hR hS hl)
theorem zr_lushr (C0 : zCx p l e R s m args below meth c D B0 nL own cc E fr lo ret mn) {x : Int64} {y : Int32} (hd : decode cc pc = .ok (.lushr, 1))  (kk : zW p l e R s m args below meth c D B0 nL Q h (pc + 1) lv (.long ((x.toUInt64 >>> (y.toInt64.toUInt64 &&& Int64.toUInt64 63)).toInt64) :: rest)) : zW p l e R s m args below meth c D B0 nL Q h pc lv (.int y :: .long x :: rest) := fun H locs ls cl sl hr hR hS hl => lv_lushr C0.1 C0.2.1 hd rfl (kk H locs ls cl sl hr hR hS hl)
theorem zr_lshl (C0 : zCx p l e R s m args below meth c D B0 nL own cc E fr lo ret mn) {x : Int64} {y : Int32} (hd : decode cc pc = .ok (.lshl, 1))  (kk : zW p l e R s m args below meth c D B0 nL Q h (pc + 1) lv (.long (x <<< (y.toInt64 &&& 63)) :: rest)) : zW p l e R s m args below meth c D B0 nL Q h pc lv (.int y :: .long x :: rest) := fun H locs ls cl sl hr hR hS hl => lv_lshl C0.1 C0.2.1 hd rfl (kk H locs ls cl sl hr hR hS hl)
theorem zr_lshr (C0 : zCx p l e R s m args below meth c D B0 nL own cc E fr lo ret mn) {x : Int64} {y : Int32} (hd : decode cc pc = .ok (.lshr, 1))  (kk : zW p l e R s m args below meth c D B0 nL Q h (pc + 1) lv (.long (x >>> (y.toInt64 &&& 63)) :: rest)) : zW p l e R s m args below meth c D B0 nL Q h pc lv (.int y :: .long x :: rest) := fun H locs ls cl sl hr hR hS hl => lv_lshr C0.1 C0.2.1 hd rfl (kk H locs ls cl sl hr hR hS hl)
theorem zr_lcmp (C0 : zCx p l e R s m args below meth c D B0 nL own cc E fr lo ret mn) {x y : Int64} (hd : decode cc pc = .ok (.lcmp, 1)) (kk : zW p l e R s m args below meth c D B0 nL Q h (pc + 1) lv (.int (lg_cmp x y) :: rest)) : zW p l e R s m args below meth c D B0 nL Q h pc lv (.long y :: .long x :: rest) := fun H locs ls cl sl hr hR hS hl => W.lcmp C0.1 C0.2.1 hd (kk H locs ls cl sl hr hR hS hl)
theorem zr_iconst (C0 : zCx p l e R s m args below meth c D B0 nL own cc E fr lo ret mn) {n : Int} {v : Int32} (hd : decode cc pc = .ok (.iconst n, 1)) (hv : Int32.ofInt n = v) (kk : zW p l e R s m args below meth c D B0 nL Q h (pc + 1) lv (.int v :: rest)) : zW p l e R s m args below meth c D B0 nL Q h pc lv (rest) := fun H locs ls cl sl hr hR hS hl => lv_iconst C0.1 C0.2.1 hd hv (kk H locs ls cl sl hr hR hS hl)
theorem zr_bipush (C0 : zCx p l e R s m args below meth c D B0 nL own cc E fr lo ret mn) {n : Int} {v : Int32} (hd : decode cc pc = .ok (.bipush n, 2)) (hv : (Int8.ofInt n).toInt32 = v) (kk : zW p l e R s m args below meth c D B0 nL Q h (pc + 2) lv (.int v :: rest)) : zW p l e R s m args below meth c D B0 nL Q h pc lv (rest) := fun H locs ls cl sl hr hR hS hl => lv_bipush C0.1 C0.2.1 hd hv (kk H locs ls cl sl hr hR hS hl)
theorem zr_sipush (C0 : zCx p l e R s m args below meth c D B0 nL own cc E fr lo ret mn) {n : Int} {v : Int32} (hd : decode cc pc = .ok (.sipush n, 3)) (hv : (Int16.ofInt n).toInt32 = v) (kk : zW p l e R s m args below meth c D B0 nL Q h (pc + 3) lv (.int v :: rest)) : zW p l e R s m args below meth c D B0 nL Q h pc lv (rest) := fun H locs ls cl sl hr hR hS hl => lv_sipush C0.1 C0.2.1 hd hv (kk H locs ls cl sl hr hR hS hl)
theorem zr_lconst (C0 : zCx p l e R s m args below meth c D B0 nL own cc E fr lo ret mn) {n : Fin 2} {v : Int64} (hd : decode cc pc = .ok (.lconst n, 1)) (hv : Int64.ofNat (n : Nat) = v) (kk : zW p l e R s m args below meth c D B0 nL Q h (pc + 1) lv (.long v :: rest)) : zW p l e R s m args below meth c D B0 nL Q h pc lv (rest) := fun H locs ls cl sl hr hR hS hl => lv_lconst C0.1 C0.2.1 hd hv (kk H locs ls cl sl hr hR hS hl)
theorem zr_null (C0 : zCx p l e R s m args below meth c D B0 nL own cc E fr lo ret mn)  (hd : decode cc pc = .ok (.aconst_null, 1))  (kk : zW p l e R s m args below meth c D B0 nL Q h (pc + 1) lv (.null :: rest)) : zW p l e R s m args below meth c D B0 nL Q h pc lv (rest) := fun H locs ls cl sl hr hR hS hl => lv_null C0.1 C0.2.1 hd  (kk H locs ls cl sl hr hR hS hl)
theorem zr_iload_n (C0 : zCx p l e R s m args below meth c D B0 nL own cc E fr lo ret mn) {x : Int32} {k : Fin 4} {i : Nat} (hd : decode cc pc = .ok (.iload_n k, 1)) (hi : (k : Nat) = i) (w : Nat) (hw : lv[w]? = some (i, .int x)) (kk : zW p l e R s m args below meth c D B0 nL Q h (pc + 1) lv (.int x :: rest)) : zW p l e R s m args below meth c D B0 nL Q h pc lv (rest) := fun H locs ls cl sl hr hR hS hl => lv_iload_n C0.1 C0.2.1 hd hi (lv_at hl w hw) (kk H locs ls cl sl hr hR hS hl)
theorem zr_iload (C0 : zCx p l e R s m args below meth c D B0 nL own cc E fr lo ret mn) {x : Int32} {i : Nat} (hd : decode cc pc = .ok (.iload i, 2)) (w : Nat) (hw : lv[w]? = some (i, .int x)) (kk : zW p l e R s m args below meth c D B0 nL Q h (pc + 2) lv (.int x :: rest)) : zW p l e R s m args below meth c D B0 nL Q h pc lv (rest) := fun H locs ls cl sl hr hR hS hl => lv_iload C0.1 C0.2.1 hd (lv_at hl w hw) (kk H locs ls cl sl hr hR hS hl)
theorem zr_lload_n (C0 : zCx p l e R s m args below meth c D B0 nL own cc E fr lo ret mn) {x : Int64} {k : Fin 4} {i : Nat} (hd : decode cc pc = .ok (.lload_n k, 1)) (hi : (k : Nat) = i) (w : Nat) (hw : lv[w]? = some (i, .long x)) (kk : zW p l e R s m args below meth c D B0 nL Q h (pc + 1) lv (.long x :: rest)) : zW p l e R s m args below meth c D B0 nL Q h pc lv (rest) := fun H locs ls cl sl hr hR hS hl => lv_lload_n C0.1 C0.2.1 hd hi (lv_at hl w hw) (kk H locs ls cl sl hr hR hS hl)
theorem zr_lload (C0 : zCx p l e R s m args below meth c D B0 nL own cc E fr lo ret mn) {x : Int64} {i : Nat} (hd : decode cc pc = .ok (.lload i, 2)) (w : Nat) (hw : lv[w]? = some (i, .long x)) (kk : zW p l e R s m args below meth c D B0 nL Q h (pc + 2) lv (.long x :: rest)) : zW p l e R s m args below meth c D B0 nL Q h pc lv (rest) := fun H locs ls cl sl hr hR hS hl => lv_lload C0.1 C0.2.1 hd (lv_at hl w hw) (kk H locs ls cl sl hr hR hS hl)
theorem zr_aload_n (C0 : zCx p l e R s m args below meth c D B0 nL own cc E fr lo ret mn) {x : Nat} {k : Fin 4} {i : Nat} (hd : decode cc pc = .ok (.aload_n k, 1)) (hi : (k : Nat) = i) (w : Nat) (hw : lv[w]? = some (i, .ref x)) (kk : zW p l e R s m args below meth c D B0 nL Q h (pc + 1) lv (.ref x :: rest)) : zW p l e R s m args below meth c D B0 nL Q h pc lv (rest) := fun H locs ls cl sl hr hR hS hl => lv_aload_n C0.1 C0.2.1 hd hi (lv_at hl w hw) (kk H locs ls cl sl hr hR hS hl)
theorem zr_aload (C0 : zCx p l e R s m args below meth c D B0 nL own cc E fr lo ret mn) {x : Nat} {i : Nat} (hd : decode cc pc = .ok (.aload i, 2)) (w : Nat) (hw : lv[w]? = some (i, .ref x)) (kk : zW p l e R s m args below meth c D B0 nL Q h (pc + 2) lv (.ref x :: rest)) : zW p l e R s m args below meth c D B0 nL Q h pc lv (rest) := fun H locs ls cl sl hr hR hS hl => lv_aload C0.1 C0.2.1 hd (lv_at hl w hw) (kk H locs ls cl sl hr hR hS hl)
theorem zr_aload_nN (C0 : zCx p l e R s m args below meth c D B0 nL own cc E fr lo ret mn) {k : Fin 4} {i : Nat} (hd : decode cc pc = .ok (.aload_n k, 1)) (hi : (k : Nat) = i) (w : Nat) (hw : lv[w]? = some (i, .null)) (kk : zW p l e R s m args below meth c D B0 nL Q h (pc + 1) lv (.null :: rest)) : zW p l e R s m args below meth c D B0 nL Q h pc lv (rest) := fun H locs ls cl sl hr hR hS hl => lv_aload_nN C0.1 C0.2.1 hd hi (lv_at hl w hw) (kk H locs ls cl sl hr hR hS hl)
theorem zr_aloadN (C0 : zCx p l e R s m args below meth c D B0 nL own cc E fr lo ret mn) {i : Nat} (hd : decode cc pc = .ok (.aload i, 2)) (w : Nat) (hw : lv[w]? = some (i, .null)) (kk : zW p l e R s m args below meth c D B0 nL Q h (pc + 2) lv (.null :: rest)) : zW p l e R s m args below meth c D B0 nL Q h pc lv (rest) := fun H locs ls cl sl hr hR hS hl => lv_aloadN C0.1 C0.2.1 hd (lv_at hl w hw) (kk H locs ls cl sl hr hR hS hl)
theorem zr_aload_nQ (C0 : zCx p l e R s m args below meth c D B0 nL own cc E fr lo ret mn) {k : Fin 4} {i : Nat} {r : Option Nat} (hd : decode cc pc = .ok (.aload_n k, 1)) (hi : (k : Nat) = i) (w : Nat) (hw : lv[w]? = some (i, va_rf r)) (kk : zW p l e R s m args below meth c D B0 nL Q h (pc + 1) lv (va_rf r :: rest)) : zW p l e R s m args below meth c D B0 nL Q h pc lv rest := by
  cases r with
  | none => exact zr_aload_nN C0 hd hi w hw kk
  | some x => exact zr_aload_n C0 hd hi w hw kk
theorem zr_aloadQ (C0 : zCx p l e R s m args below meth c D B0 nL own cc E fr lo ret mn) {i : Nat} {r : Option Nat} (hd : decode cc pc = .ok (.aload i, 2)) (w : Nat) (hw : lv[w]? = some (i, va_rf r)) (kk : zW p l e R s m args below meth c D B0 nL Q h (pc + 2) lv (va_rf r :: rest)) : zW p l e R s m args below meth c D B0 nL Q h pc lv rest := by
  cases r with
  | none => exact zr_aloadN C0 hd w hw kk
  | some x => exact zr_aload C0 hd w hw kk
def zst1 (i : Nat) (v : Value) (lv : List (Nat × Value)) : List (Nat × Value) := (i, v) :: lv.filter (fun q => !(q.1 == i) && !(q.1 + 1 == i && q.2.category == 2))
def zst2 (i : Nat) (v : Value) (lv : List (Nat × Value)) : List (Nat × Value) := (i, v) :: lv.filter (fun q => !(q.1 == i) && (!(q.1 == i + 1) && !(q.1 + 1 == i && q.2.category == 2)))
theorem zr_istore_n (C0 : zCx p l e R s m args below meth c D B0 nL own cc E fr lo ret mn) {x : Int32} {k : Fin 4} {i : Nat} {lv' : List (Nat × Value)} (hd : decode cc pc = .ok (.istore_n k, 1)) (hi : (k : Nat) = i) (hn : i < nL) (hl' : zst1 i (.int x) lv = lv') (kk : zW p l e R s m args below meth c D B0 nL Q h (pc + 1) lv' rest) : zW p l e R s m args below meth c D B0 nL Q h pc lv (.int x :: rest) := fun H locs ls cl sl hr hR hS hl => lv_istore_n C0.1 C0.2.1 hd hi hl hn hl' (fun ls' hl2 => kk H locs ls' cl sl hr hR hS hl2)
theorem zr_istore (C0 : zCx p l e R s m args below meth c D B0 nL own cc E fr lo ret mn) {x : Int32} {i : Nat} {lv' : List (Nat × Value)} (hd : decode cc pc = .ok (.istore i, 2)) (hn : i < nL) (hl' : zst1 i (.int x) lv = lv') (kk : zW p l e R s m args below meth c D B0 nL Q h (pc + 2) lv' rest) : zW p l e R s m args below meth c D B0 nL Q h pc lv (.int x :: rest) := fun H locs ls cl sl hr hR hS hl => lv_istore C0.1 C0.2.1 hd hl hn hl' (fun ls' hl2 => kk H locs ls' cl sl hr hR hS hl2)
theorem zr_lstore_n (C0 : zCx p l e R s m args below meth c D B0 nL own cc E fr lo ret mn) {x : Int64} {k : Fin 4} {i : Nat} {lv' : List (Nat × Value)} (hd : decode cc pc = .ok (.lstore_n k, 1)) (hi : (k : Nat) = i) (hn : i + 1 < nL) (hl' : zst2 i (.long x) lv = lv') (kk : zW p l e R s m args below meth c D B0 nL Q h (pc + 1) lv' rest) : zW p l e R s m args below meth c D B0 nL Q h pc lv (.long x :: rest) := fun H locs ls cl sl hr hR hS hl => lv_lstore_n C0.1 C0.2.1 hd hi hl hn hl' (fun ls' hl2 => kk H locs ls' cl sl hr hR hS hl2)
theorem zr_lstore (C0 : zCx p l e R s m args below meth c D B0 nL own cc E fr lo ret mn) {x : Int64} {i : Nat} {lv' : List (Nat × Value)} (hd : decode cc pc = .ok (.lstore i, 2)) (hn : i + 1 < nL) (hl' : zst2 i (.long x) lv = lv') (kk : zW p l e R s m args below meth c D B0 nL Q h (pc + 2) lv' rest) : zW p l e R s m args below meth c D B0 nL Q h pc lv (.long x :: rest) := fun H locs ls cl sl hr hR hS hl => lv_lstore C0.1 C0.2.1 hd hl hn hl' (fun ls' hl2 => kk H locs ls' cl sl hr hR hS hl2)
theorem zr_astore_n (C0 : zCx p l e R s m args below meth c D B0 nL own cc E fr lo ret mn) {x : Nat} {k : Fin 4} {i : Nat} {lv' : List (Nat × Value)} (hd : decode cc pc = .ok (.astore_n k, 1)) (hi : (k : Nat) = i) (hn : i < nL) (hl' : zst1 i (.ref x) lv = lv') (kk : zW p l e R s m args below meth c D B0 nL Q h (pc + 1) lv' rest) : zW p l e R s m args below meth c D B0 nL Q h pc lv (.ref x :: rest) := fun H locs ls cl sl hr hR hS hl => lv_astore_n C0.1 C0.2.1 hd hi hl hn hl' (fun ls' hl2 => kk H locs ls' cl sl hr hR hS hl2)
theorem zr_astore (C0 : zCx p l e R s m args below meth c D B0 nL own cc E fr lo ret mn) {x : Nat} {i : Nat} {lv' : List (Nat × Value)} (hd : decode cc pc = .ok (.astore i, 2)) (hn : i < nL) (hl' : zst1 i (.ref x) lv = lv') (kk : zW p l e R s m args below meth c D B0 nL Q h (pc + 2) lv' rest) : zW p l e R s m args below meth c D B0 nL Q h pc lv (.ref x :: rest) := fun H locs ls cl sl hr hR hS hl => lv_astore C0.1 C0.2.1 hd hl hn hl' (fun ls' hl2 => kk H locs ls' cl sl hr hR hS hl2)
theorem zr_astoreN_n (C0 : zCx p l e R s m args below meth c D B0 nL own cc E fr lo ret mn)  {k : Fin 4} {i : Nat} {lv' : List (Nat × Value)} (hd : decode cc pc = .ok (.astore_n k, 1)) (hi : (k : Nat) = i) (hn : i < nL) (hl' : zst1 i (.null) lv = lv') (kk : zW p l e R s m args below meth c D B0 nL Q h (pc + 1) lv' rest) : zW p l e R s m args below meth c D B0 nL Q h pc lv (.null :: rest) := fun H locs ls cl sl hr hR hS hl => lv_astore_nN C0.1 C0.2.1 hd hi hl hn hl' (fun ls' hl2 => kk H locs ls' cl sl hr hR hS hl2)
theorem zr_astoreN (C0 : zCx p l e R s m args below meth c D B0 nL own cc E fr lo ret mn)  {i : Nat} {lv' : List (Nat × Value)} (hd : decode cc pc = .ok (.astore i, 2)) (hn : i < nL) (hl' : zst1 i (.null) lv = lv') (kk : zW p l e R s m args below meth c D B0 nL Q h (pc + 2) lv' rest) : zW p l e R s m args below meth c D B0 nL Q h pc lv (.null :: rest) := fun H locs ls cl sl hr hR hS hl => lv_astoreN C0.1 C0.2.1 hd hl hn hl' (fun ls' hl2 => kk H locs ls' cl sl hr hR hS hl2)
theorem zr_astore_nQ (C0 : zCx p l e R s m args below meth c D B0 nL own cc E fr lo ret mn) {k : Fin 4} {i : Nat} {r : Option Nat} {lv' : List (Nat × Value)} (hd : decode cc pc = .ok (.astore_n k, 1)) (hi : (k : Nat) = i) (hn : i < nL) (hl' : zst1 i (va_rf r) lv = lv') (kk : zW p l e R s m args below meth c D B0 nL Q h (pc + 1) lv' rest) : zW p l e R s m args below meth c D B0 nL Q h pc lv (va_rf r :: rest) := by
  cases r with
  | none => exact zr_astoreN_n C0 hd hi hn hl' kk
  | some x => exact zr_astore_n C0 hd hi hn hl' kk
theorem zr_astoreQ (C0 : zCx p l e R s m args below meth c D B0 nL own cc E fr lo ret mn) {i : Nat} {r : Option Nat} {lv' : List (Nat × Value)} (hd : decode cc pc = .ok (.astore i, 2)) (hn : i < nL) (hl' : zst1 i (va_rf r) lv = lv') (kk : zW p l e R s m args below meth c D B0 nL Q h (pc + 2) lv' rest) : zW p l e R s m args below meth c D B0 nL Q h pc lv (va_rf r :: rest) := by
  cases r with
  | none => exact zr_astoreN C0 hd hn hl' kk
  | some x => exact zr_astore C0 hd hn hl' kk
theorem zr_iinc (C0 : zCx p l e R s m args below meth c D B0 nL own cc E fr lo ret mn) {x v : Int32} {i : Nat} {n : Int} {lv' : List (Nat × Value)} (hd : decode cc pc = .ok (.iinc i n, 3)) (w : Nat) (hw : lv[w]? = some (i, .int x)) (hv : x + Int32.ofInt n = v) (hn : i < nL) (hl' : zst1 i (.int v) lv = lv') (kk : zW p l e R s m args below meth c D B0 nL Q h (pc + 3) lv' rest) : zW p l e R s m args below meth c D B0 nL Q h pc lv rest := fun H locs ls cl sl hr hR hS hl => lv_iinc C0.1 C0.2.1 hd hl hw hv hn hl' (fun ls' hl2 => kk H locs ls' cl sl hr hR hS hl2)
theorem zr_dup (C0 : zCx p l e R s m args below meth c D B0 nL own cc E fr lo ret mn) {va : Value} (hd : decode cc pc = .ok (.dup, 1)) (hva : va.category = 1) (kk : zW p l e R s m args below meth c D B0 nL Q h (pc + 1) lv (va :: va :: rest)) : zW p l e R s m args below meth c D B0 nL Q h pc lv (va :: rest) := fun H locs ls cl sl hr hR hS hl => lv_dup C0.1 C0.2.1 hd hva (kk H locs ls cl sl hr hR hS hl)
theorem zr_pop (C0 : zCx p l e R s m args below meth c D B0 nL own cc E fr lo ret mn) {va : Value} (hd : decode cc pc = .ok (.pop, 1)) (hva : va.category = 1) (kk : zW p l e R s m args below meth c D B0 nL Q h (pc + 1) lv (rest)) : zW p l e R s m args below meth c D B0 nL Q h pc lv (va :: rest) := fun H locs ls cl sl hr hR hS hl => lv_pop C0.1 C0.2.1 hd hva (kk H locs ls cl sl hr hR hS hl)
theorem zr_dup_x1 (C0 : zCx p l e R s m args below meth c D B0 nL own cc E fr lo ret mn) {va vb : Value} (hd : decode cc pc = .ok (.dup_x1, 1)) (hva : va.category = 1) (hvb : vb.category = 1) (kk : zW p l e R s m args below meth c D B0 nL Q h (pc + 1) lv (va :: vb :: va :: rest)) : zW p l e R s m args below meth c D B0 nL Q h pc lv (va :: vb :: rest) := fun H locs ls cl sl hr hR hS hl => lv_dup_x1 C0.1 C0.2.1 hd hva hvb (kk H locs ls cl sl hr hR hS hl)
theorem zr_dup2_11 (C0 : zCx p l e R s m args below meth c D B0 nL own cc E fr lo ret mn) {va vb : Value} (hd : decode cc pc = .ok (.dup2, 1)) (hva : va.category = 1) (hvb : vb.category = 1) (kk : zW p l e R s m args below meth c D B0 nL Q h (pc + 1) lv (va :: vb :: va :: vb :: rest)) : zW p l e R s m args below meth c D B0 nL Q h pc lv (va :: vb :: rest) := fun H locs ls cl sl hr hR hS hl => lv_dup2_11 C0.1 C0.2.1 hd hva hvb (kk H locs ls cl sl hr hR hS hl)
theorem zr_dup2_2 (C0 : zCx p l e R s m args below meth c D B0 nL own cc E fr lo ret mn) {va : Value} (hd : decode cc pc = .ok (.dup2, 1)) (hva : va.category = 2) (kk : zW p l e R s m args below meth c D B0 nL Q h (pc + 1) lv (va :: va :: rest)) : zW p l e R s m args below meth c D B0 nL Q h pc lv (va :: rest) := fun H locs ls cl sl hr hR hS hl => lv_dup2_2 C0.1 C0.2.1 hd hva (kk H locs ls cl sl hr hR hS hl)
theorem zr_pop2_2 (C0 : zCx p l e R s m args below meth c D B0 nL own cc E fr lo ret mn) {va : Value} (hd : decode cc pc = .ok (.pop2, 1)) (hva : va.category = 2) (kk : zW p l e R s m args below meth c D B0 nL Q h (pc + 1) lv (rest)) : zW p l e R s m args below meth c D B0 nL Q h pc lv (va :: rest) := fun H locs ls cl sl hr hR hS hl => lv_pop2_2 C0.1 C0.2.1 hd hva (kk H locs ls cl sl hr hR hS hl)
theorem zr_if_eq (C0 : zCx p l e R s m args below meth c D B0 nL own cc E fr lo ret mn) {x : Int32} {off : Int} {tgt : Nat} (hd : decode cc pc = .ok (.ifCond .eq off, 3)) (ht : (pc : Int) + off = (tgt : Int)) (kt : x = 0 → zW p l e R s m args below meth c D B0 nL Q h tgt lv rest) (kf : ¬ x = 0 → zW p l e R s m args below meth c D B0 nL Q h (pc + 3) lv rest) : zW p l e R s m args below meth c D B0 nL Q h pc lv (.int x :: rest) := fun H locs ls cl sl hr hR hS hl => lv_if_eq C0.1 C0.2.1 hd ht (fun q => kt q H locs ls cl sl hr hR hS hl) (fun q => kf q H locs ls cl sl hr hR hS hl)
theorem zr_if_ne (C0 : zCx p l e R s m args below meth c D B0 nL own cc E fr lo ret mn) {x : Int32} {off : Int} {tgt : Nat} (hd : decode cc pc = .ok (.ifCond .ne off, 3)) (ht : (pc : Int) + off = (tgt : Int)) (kt : ¬ x = 0 → zW p l e R s m args below meth c D B0 nL Q h tgt lv rest) (kf : x = 0 → zW p l e R s m args below meth c D B0 nL Q h (pc + 3) lv rest) : zW p l e R s m args below meth c D B0 nL Q h pc lv (.int x :: rest) := fun H locs ls cl sl hr hR hS hl => lv_if_ne C0.1 C0.2.1 hd ht (fun q => kt q H locs ls cl sl hr hR hS hl) (fun q => kf q H locs ls cl sl hr hR hS hl)
theorem zr_if_lt (C0 : zCx p l e R s m args below meth c D B0 nL own cc E fr lo ret mn) {x : Int32} {off : Int} {tgt : Nat} (hd : decode cc pc = .ok (.ifCond .lt off, 3)) (ht : (pc : Int) + off = (tgt : Int)) (kt : x < 0 → zW p l e R s m args below meth c D B0 nL Q h tgt lv rest) (kf : ¬ x < 0 → zW p l e R s m args below meth c D B0 nL Q h (pc + 3) lv rest) : zW p l e R s m args below meth c D B0 nL Q h pc lv (.int x :: rest) := fun H locs ls cl sl hr hR hS hl => lv_if_lt C0.1 C0.2.1 hd ht (fun q => kt q H locs ls cl sl hr hR hS hl) (fun q => kf q H locs ls cl sl hr hR hS hl)
theorem zr_if_ge (C0 : zCx p l e R s m args below meth c D B0 nL own cc E fr lo ret mn) {x : Int32} {off : Int} {tgt : Nat} (hd : decode cc pc = .ok (.ifCond .ge off, 3)) (ht : (pc : Int) + off = (tgt : Int)) (kt : 0 ≤ x → zW p l e R s m args below meth c D B0 nL Q h tgt lv rest) (kf : ¬ 0 ≤ x → zW p l e R s m args below meth c D B0 nL Q h (pc + 3) lv rest) : zW p l e R s m args below meth c D B0 nL Q h pc lv (.int x :: rest) := fun H locs ls cl sl hr hR hS hl => lv_if_ge C0.1 C0.2.1 hd ht (fun q => kt q H locs ls cl sl hr hR hS hl) (fun q => kf q H locs ls cl sl hr hR hS hl)
theorem zr_if_gt (C0 : zCx p l e R s m args below meth c D B0 nL own cc E fr lo ret mn) {x : Int32} {off : Int} {tgt : Nat} (hd : decode cc pc = .ok (.ifCond .gt off, 3)) (ht : (pc : Int) + off = (tgt : Int)) (kt : 0 < x → zW p l e R s m args below meth c D B0 nL Q h tgt lv rest) (kf : ¬ 0 < x → zW p l e R s m args below meth c D B0 nL Q h (pc + 3) lv rest) : zW p l e R s m args below meth c D B0 nL Q h pc lv (.int x :: rest) := fun H locs ls cl sl hr hR hS hl => lv_if_gt C0.1 C0.2.1 hd ht (fun q => kt q H locs ls cl sl hr hR hS hl) (fun q => kf q H locs ls cl sl hr hR hS hl)
theorem zr_if_le (C0 : zCx p l e R s m args below meth c D B0 nL own cc E fr lo ret mn) {x : Int32} {off : Int} {tgt : Nat} (hd : decode cc pc = .ok (.ifCond .le off, 3)) (ht : (pc : Int) + off = (tgt : Int)) (kt : x ≤ 0 → zW p l e R s m args below meth c D B0 nL Q h tgt lv rest) (kf : ¬ x ≤ 0 → zW p l e R s m args below meth c D B0 nL Q h (pc + 3) lv rest) : zW p l e R s m args below meth c D B0 nL Q h pc lv (.int x :: rest) := fun H locs ls cl sl hr hR hS hl => lv_if_le C0.1 C0.2.1 hd ht (fun q => kt q H locs ls cl sl hr hR hS hl) (fun q => kf q H locs ls cl sl hr hR hS hl)
theorem zr_icmp_eq (C0 : zCx p l e R s m args below meth c D B0 nL own cc E fr lo ret mn) {x y : Int32} {off : Int} {tgt : Nat} (hd : decode cc pc = .ok (.if_icmp .eq off, 3)) (ht : (pc : Int) + off = (tgt : Int)) (kt : x = y → zW p l e R s m args below meth c D B0 nL Q h tgt lv rest) (kf : ¬ x = y → zW p l e R s m args below meth c D B0 nL Q h (pc + 3) lv rest) : zW p l e R s m args below meth c D B0 nL Q h pc lv (.int y :: .int x :: rest) := fun H locs ls cl sl hr hR hS hl => lv_icmp_eq C0.1 C0.2.1 hd ht (fun q => kt q H locs ls cl sl hr hR hS hl) (fun q => kf q H locs ls cl sl hr hR hS hl)
theorem zr_icmp_ne (C0 : zCx p l e R s m args below meth c D B0 nL own cc E fr lo ret mn) {x y : Int32} {off : Int} {tgt : Nat} (hd : decode cc pc = .ok (.if_icmp .ne off, 3)) (ht : (pc : Int) + off = (tgt : Int)) (kt : ¬ x = y → zW p l e R s m args below meth c D B0 nL Q h tgt lv rest) (kf : x = y → zW p l e R s m args below meth c D B0 nL Q h (pc + 3) lv rest) : zW p l e R s m args below meth c D B0 nL Q h pc lv (.int y :: .int x :: rest) := fun H locs ls cl sl hr hR hS hl => lv_icmp_ne C0.1 C0.2.1 hd ht (fun q => kt q H locs ls cl sl hr hR hS hl) (fun q => kf q H locs ls cl sl hr hR hS hl)
theorem zr_icmp_lt (C0 : zCx p l e R s m args below meth c D B0 nL own cc E fr lo ret mn) {x y : Int32} {off : Int} {tgt : Nat} (hd : decode cc pc = .ok (.if_icmp .lt off, 3)) (ht : (pc : Int) + off = (tgt : Int)) (kt : x < y → zW p l e R s m args below meth c D B0 nL Q h tgt lv rest) (kf : ¬ x < y → zW p l e R s m args below meth c D B0 nL Q h (pc + 3) lv rest) : zW p l e R s m args below meth c D B0 nL Q h pc lv (.int y :: .int x :: rest) := fun H locs ls cl sl hr hR hS hl => lv_icmp_lt C0.1 C0.2.1 hd ht (fun q => kt q H locs ls cl sl hr hR hS hl) (fun q => kf q H locs ls cl sl hr hR hS hl)
theorem zr_icmp_ge (C0 : zCx p l e R s m args below meth c D B0 nL own cc E fr lo ret mn) {x y : Int32} {off : Int} {tgt : Nat} (hd : decode cc pc = .ok (.if_icmp .ge off, 3)) (ht : (pc : Int) + off = (tgt : Int)) (kt : y ≤ x → zW p l e R s m args below meth c D B0 nL Q h tgt lv rest) (kf : ¬ y ≤ x → zW p l e R s m args below meth c D B0 nL Q h (pc + 3) lv rest) : zW p l e R s m args below meth c D B0 nL Q h pc lv (.int y :: .int x :: rest) := fun H locs ls cl sl hr hR hS hl => lv_icmp_ge C0.1 C0.2.1 hd ht (fun q => kt q H locs ls cl sl hr hR hS hl) (fun q => kf q H locs ls cl sl hr hR hS hl)
theorem zr_icmp_gt (C0 : zCx p l e R s m args below meth c D B0 nL own cc E fr lo ret mn) {x y : Int32} {off : Int} {tgt : Nat} (hd : decode cc pc = .ok (.if_icmp .gt off, 3)) (ht : (pc : Int) + off = (tgt : Int)) (kt : y < x → zW p l e R s m args below meth c D B0 nL Q h tgt lv rest) (kf : ¬ y < x → zW p l e R s m args below meth c D B0 nL Q h (pc + 3) lv rest) : zW p l e R s m args below meth c D B0 nL Q h pc lv (.int y :: .int x :: rest) := fun H locs ls cl sl hr hR hS hl => lv_icmp_gt C0.1 C0.2.1 hd ht (fun q => kt q H locs ls cl sl hr hR hS hl) (fun q => kf q H locs ls cl sl hr hR hS hl)
theorem zr_icmp_le (C0 : zCx p l e R s m args below meth c D B0 nL own cc E fr lo ret mn) {x y : Int32} {off : Int} {tgt : Nat} (hd : decode cc pc = .ok (.if_icmp .le off, 3)) (ht : (pc : Int) + off = (tgt : Int)) (kt : x ≤ y → zW p l e R s m args below meth c D B0 nL Q h tgt lv rest) (kf : ¬ x ≤ y → zW p l e R s m args below meth c D B0 nL Q h (pc + 3) lv rest) : zW p l e R s m args below meth c D B0 nL Q h pc lv (.int y :: .int x :: rest) := fun H locs ls cl sl hr hR hS hl => lv_icmp_le C0.1 C0.2.1 hd ht (fun q => kt q H locs ls cl sl hr hR hS hl) (fun q => kf q H locs ls cl sl hr hR hS hl)
theorem zr_acmp_eq (C0 : zCx p l e R s m args below meth c D B0 nL own cc E fr lo ret mn) {rx ry : Option Nat} {off : Int} {tgt : Nat} (hd : decode cc pc = .ok (.if_acmp .eq off, 3)) (ht : (pc : Int) + off = (tgt : Int)) (kt : rx = ry → zW p l e R s m args below meth c D B0 nL Q h tgt lv rest) (kf : ¬ rx = ry → zW p l e R s m args below meth c D B0 nL Q h (pc + 3) lv rest) : zW p l e R s m args below meth c D B0 nL Q h pc lv (va_rf ry :: va_rf rx :: rest) := fun H locs ls cl sl hr hR hS hl => lv_acmp_eq C0.1 C0.2.1 hd ht (fun q => kt q H locs ls cl sl hr hR hS hl) (fun q => kf q H locs ls cl sl hr hR hS hl)
theorem zr_acmp_ne (C0 : zCx p l e R s m args below meth c D B0 nL own cc E fr lo ret mn) {rx ry : Option Nat} {off : Int} {tgt : Nat} (hd : decode cc pc = .ok (.if_acmp .ne off, 3)) (ht : (pc : Int) + off = (tgt : Int)) (kt : ¬ rx = ry → zW p l e R s m args below meth c D B0 nL Q h tgt lv rest) (kf : rx = ry → zW p l e R s m args below meth c D B0 nL Q h (pc + 3) lv rest) : zW p l e R s m args below meth c D B0 nL Q h pc lv (va_rf ry :: va_rf rx :: rest) := fun H locs ls cl sl hr hR hS hl => lv_acmp_ne C0.1 C0.2.1 hd ht (fun q => kt q H locs ls cl sl hr hR hS hl) (fun q => kf q H locs ls cl sl hr hR hS hl)
theorem zr_goto (C0 : zCx p l e R s m args below meth c D B0 nL own cc E fr lo ret mn) {off : Int} {tgt : Nat} (hd : decode cc pc = .ok (.goto off, 3)) (ht : (pc : Int) + off = (tgt : Int)) (kk : zW p l e R s m args below meth c D B0 nL Q h tgt lv rest) : zW p l e R s m args below meth c D B0 nL Q h pc lv rest := fun H locs ls cl sl hr hR hS hl => lv_goto C0.1 C0.2.1 hd ht (kk H locs ls cl sl hr hR hS hl)
theorem zr_ifnull (C0 : zCx p l e R s m args below meth c D B0 nL own cc E fr lo ret mn) {r : Option Nat} {off : Int} {tgt : Nat} (hd : decode cc pc = .ok (.ifnull off, 3)) (ht : (pc : Int) + off = (tgt : Int)) (kt : r = none → zW p l e R s m args below meth c D B0 nL Q h tgt lv rest) (kf : ∀ x, r = some x → zW p l e R s m args below meth c D B0 nL Q h (pc + 3) lv rest) : zW p l e R s m args below meth c D B0 nL Q h pc lv (va_rf r :: rest) := by
  cases r with
  | none => exact fun H locs ls cl sl hr hR hS hl => lv_ifnullN C0.1 C0.2.1 hd ht (kt rfl H locs ls cl sl hr hR hS hl)
  | some x => exact fun H locs ls cl sl hr hR hS hl => lv_ifnull C0.1 C0.2.1 hd (kf x rfl H locs ls cl sl hr hR hS hl)
theorem zr_ifnonnull (C0 : zCx p l e R s m args below meth c D B0 nL own cc E fr lo ret mn) {r : Option Nat} {off : Int} {tgt : Nat} (hd : decode cc pc = .ok (.ifnonnull off, 3)) (ht : (pc : Int) + off = (tgt : Int)) (kt : ∀ x, r = some x → zW p l e R s m args below meth c D B0 nL Q h tgt lv rest) (kf : r = none → zW p l e R s m args below meth c D B0 nL Q h (pc + 3) lv rest) : zW p l e R s m args below meth c D B0 nL Q h pc lv (va_rf r :: rest) := by
  cases r with
  | none => exact fun H locs ls cl sl hr hR hS hl => lv_ifnonnullN C0.1 C0.2.1 hd (kf rfl H locs ls cl sl hr hR hS hl)
  | some x => exact fun H locs ls cl sl hr hR hS hl => lv_ifnonnull C0.1 C0.2.1 hd ht (kt x rfl H locs ls cl sl hr hR hS hl)
theorem zr_sub {lv' : List (Nat × Value)} (ks : List Nat) (hp : lv_pick lv ks = lv') (kk : zW p l e R s m args below meth c D B0 nL Q h pc lv' rest) : zW p l e R s m args below meth c D B0 nL Q h pc lv rest := fun H locs ls cl sl hr hR hS hl => kk H locs ls cl sl hr hR hS (lv_sub hl ks hp)
theorem zr_ldc (C0 : zCx p l e R s m args below meth c D B0 nL own cc E fr lo ret mn) {idx : Nat} {v : Int32} (hc : Cond.constant own idx v ∈ lw_all) (hd : decode cc pc = .ok (.ldc idx, 2)) (kk : zW p l e R s m args below meth c D B0 nL Q h (pc + 2) lv (.int v :: rest)) : zW p l e R s m args below meth c D B0 nL Q h pc lv (rest) := fun H locs ls cl sl hr hR hS hl => lv_ldc C0.1 C0.2.1 C0.2.2.2.1 (C0.2.2.2.2.1 _ hc) hd (kk H locs ls cl sl hr hR hS hl)
theorem zr_ldc2 (C0 : zCx p l e R s m args below meth c D B0 nL own cc E fr lo ret mn) {idx : Nat} {v : Int64} (hc : Cond.constantLong own idx v ∈ lw_all) (hd : decode cc pc = .ok (.ldc2_w idx, 3)) (kk : zW p l e R s m args below meth c D B0 nL Q h (pc + 3) lv (.long v :: rest)) : zW p l e R s m args below meth c D B0 nL Q h pc lv (rest) := fun H locs ls cl sl hr hR hS hl => lv_ldc2 C0.1 C0.2.1 C0.2.2.2.1 (C0.2.2.2.2.1 _ hc) hd (kk H locs ls cl sl hr hR hS hl)
theorem zr_tableIn (C0 : zCx p l e R s m args below meth c D B0 nL own cc E fr lo ret mn) {dflt lo9 hi : Int} {offs : Array Int} {len : Nat} {x v : Int32} {off : Int} {tgt : Nat} (hd : decode cc pc = .ok (.tableswitch dflt lo9 hi offs, len)) (hx : x = v) (h1 : ¬ v.toInt < lo9) (h2 : ¬ hi < v.toInt) (ho : offs[(v.toInt - lo9).toNat]? = some off) (ht : (pc : Int) + off = (tgt : Int)) (kk : zW p l e R s m args below meth c D B0 nL Q h tgt lv rest) : zW p l e R s m args below meth c D B0 nL Q h pc lv (.int x :: rest) := by
  subst hx
  exact fun H locs ls cl sl hr hR hS hl => lv_tableIn C0.1 C0.2.1 hd h1 h2 ho ht (kk H locs ls cl sl hr hR hS hl)
theorem zr_tableOut (C0 : zCx p l e R s m args below meth c D B0 nL own cc E fr lo ret mn) {dflt lo9 hi : Int} {offs : Array Int} {len : Nat} {x : Int32} {tgt : Nat} (hd : decode cc pc = .ok (.tableswitch dflt lo9 hi offs, len)) (h1 : x.toInt < lo9 ∨ hi < x.toInt) (ht : (pc : Int) + dflt = (tgt : Int)) (kk : zW p l e R s m args below meth c D B0 nL Q h tgt lv rest) : zW p l e R s m args below meth c D B0 nL Q h pc lv (.int x :: rest) :=
  fun H locs ls cl sl hr hR hS hl => lv_tableOut C0.1 C0.2.1 hd h1 ht (kk H locs ls cl sl hr hR hS hl)
theorem zr_lookup (C0 : zCx p l e R s m args below meth c D B0 nL own cc E fr lo ret mn) {dflt : Int} {ps : Array (Int × Int)} {len : Nat} {x : Int32} {off : Int} {tgt : Nat} (hd : decode cc pc = .ok (.lookupswitch dflt ps, len)) (hp : (ps.toList.zip (ps.toList.drop 1)).all (fun (a, next) => a.1 < next.1) = true) (ho : Op.lookupswitch.offset ps.toList dflt x.toInt = off) (ht : (pc : Int) + off = (tgt : Int)) (kk : zW p l e R s m args below meth c D B0 nL Q h tgt lv rest) : zW p l e R s m args below meth c D B0 nL Q h pc lv (.int x :: rest) :=
  fun H locs ls cl sl hr hR hS hl => lv_lookup C0.1 C0.2.1 hd hp ho ht (kk H locs ls cl sl hr hR hS hl)
end ZR
/-! ROWS over the heap: fields, arrays, new, statics -/
set_option maxRecDepth 100000
def gF (h : zH) (a ci k : Nat) : Option Value := match h.1 a with
  | some (_, .inr (c, fs)) => if c = ci then fs[k]? else none
  | _ => none
def gI (h : zH) (a ci k : Nat) : Option Int32 := match gF h a ci k with
  | some (.int x) => some x
  | _ => none
def gL (h : zH) (a ci k : Nat) : Option Int64 := match gF h a ci k with
  | some (.long x) => some x
  | _ => none
def gR (h : zH) (a ci k : Nat) : Option Nat := match gF h a ci k with
  | some (.ref x) => some x
  | _ => none
def gQ (h : zH) (a ci k : Nat) : Option (Option Nat) := match gF h a ci k with
  | some (.ref x) => some (some x)
  | some .null => some none
  | _ => none
def pF (h : zH) (a ci k : Nat) (v : Value) : Option zH := match h.1 a with
  | some (true, .inr (c, fs)) => if c = ci ∧ k < fs.length then some (zup h a (true, .inr (ci, fs.set k v))) else none
  | _ => none
def lenA (h : zH) (a : Nat) : Option Int32 := match h.1 a with
  | some (_, .inl (_, n, _)) => some (Int32.ofNat n)
  | _ => none
def dI (h : zH) (a t : Nat) (j : Int32) : Option Int32 := match h.1 a with
  | some (_, .inl (t', n, .inl f)) => if t' = t ∧ ¬ (j < 0 ∨ n ≤ j.toNatClampNeg) then some (f j.toNatClampNeg) else none
  | _ => none
def dL (h : zH) (a : Nat) (j : Int32) : Option Int64 := match h.1 a with
  | some (_, .inl (t', n, .inr (.inl f))) => if t' = 1 ∧ ¬ (j < 0 ∨ n ≤ j.toNatClampNeg) then some (f j.toNatClampNeg) else none
  | _ => none
def dQ (h : zH) (a t : Nat) (j : Int32) : Option (Option Nat) := match h.1 a with
  | some (_, .inl (t', n, .inr (.inr f))) => if t' = t ∧ ¬ (j < 0 ∨ n ≤ j.toNatClampNeg) then some (f j.toNatClampNeg) else none
  | _ => none
def dR (h : zH) (a t : Nat) (j : Int32) : Option Nat := match dQ h a t j with
  | some (some x) => some x
  | _ => none
def sI (h : zH) (a t : Nat) (j x : Int32) : Option zH := match h.1 a with
  | some (true, .inl (t', n, .inl f)) => if t' = t ∧ ¬ (j < 0 ∨ n ≤ j.toNatClampNeg) then some (zup h a (true, .inl (t, n, .inl (va_up f j.toNatClampNeg x)))) else none
  | _ => none
def sL (h : zH) (a : Nat) (j : Int32) (x : Int64) : Option zH := match h.1 a with
  | some (true, .inl (t', n, .inr (.inl f))) => if t' = 1 ∧ ¬ (j < 0 ∨ n ≤ j.toNatClampNeg) then some (zup h a (true, .inl (1, n, .inr (.inl (va_up f j.toNatClampNeg x))))) else none
  | _ => none
/-- an object is laid into an array of Objects -/
def sR (h : zH) (a : Nat) (j : Int32) (v : Nat) : Option zH := match h.1 a, h.1 v with
  | some (true, .inl (t', n, .inr (.inr f))), some (_, .inr _) => if t' = 4 ∧ ¬ (j < 0 ∨ n ≤ j.toNatClampNeg) then some (zup h a (true, .inl (4, n, .inr (.inr (va_up f j.toNatClampNeg (some v)))))) else none
  | _, _ => none
def nO (h : zH) (ci n : Nat) (fs : List Value) : Option (Nat × zH) := if 1 ≤ h.2.2.1 ∧ n ≤ h.2.2.2 then some (h.2.1, zadd h (true, .inr (ci, fs)) n) else none
def nA (h : zH) (t : Nat) (x : Int32) (d : zS) : Option (Nat × zH) := if ¬ x < 0 ∧ x.toNatClampNeg ≤ 67108864 ∧ 1 ≤ h.2.2.1 ∧ x.toNatClampNeg ≤ h.2.2.2 then some (h.2.1, zadd h (true, .inl (t, x.toNatClampNeg, d)) x.toNatClampNeg) else none
theorem zgF {h : zH} {a ci k : Nat} {v : Value} (hv : gF h a ci k = some v) : ∃ b fs, h.1 a = some (b, .inr (ci, fs)) ∧ fs[k]? = some v := by
  unfold gF at hv
  split at hv
  · rename_i b c fs hh
    split at hv
    · rename_i hc
      subst hc
      exact ⟨b, fs, hh, hv⟩
    · cases hv
  · cases hv
theorem zgI {h : zH} {a ci k : Nat} {x : Int32} (hv : gI h a ci k = some x) : gF h a ci k = some (.int x) := by
  unfold gI at hv
  split at hv
  · cases hv; assumption
  · cases hv
theorem zgL {h : zH} {a ci k : Nat} {x : Int64} (hv : gL h a ci k = some x) : gF h a ci k = some (.long x) := by
  unfold gL at hv
  split at hv
  · cases hv; assumption
  · cases hv
theorem zgR {h : zH} {a ci k : Nat} {x : Nat} (hv : gR h a ci k = some x) : gF h a ci k = some (.ref x) := by
  unfold gR at hv
  split at hv
  · cases hv; assumption
  · cases hv
theorem zgQ {h : zH} {a ci k : Nat} {x : Option Nat} (hv : gQ h a ci k = some x) : gF h a ci k = some (va_rf x) := by
  unfold gQ at hv
  split at hv
  · cases hv; assumption
  · cases hv; assumption
  · cases hv
theorem zpF {h h1 : zH} {a ci k : Nat} {v : Value} (hv : pF h a ci k v = some h1) : ∃ fs, h.1 a = some (true, .inr (ci, fs)) ∧ k < fs.length ∧ h1 = zup h a (true, .inr (ci, fs.set k v)) := by
  unfold pF at hv
  split at hv
  · rename_i c fs hh
    split at hv
    · rename_i hc
      obtain ⟨hc, hk⟩ := hc
      subst hc
      cases hv
      exact ⟨fs, hh, hk, rfl⟩
    · cases hv
  · cases hv
/-- a field by its entry in the pool: class number ci, field k -/
def zFL (own : String) (idx ci k : Nat) : Prop := ∃ (C : String) (T : u_T) (N : Nat) (ref : String), zCl[ci]? = some (C, T, N) ∧ (∀ w ∈ u_ws C T N, w ∈ lw_all) ∧ k < N ∧
  (Cond.fieldLink own idx ref (T k).2.1 (T k).2.2.1 ∈ lw_all ∨ ∃ host, Cond.fieldLinkNest own idx ref (T k).2.1 (T k).2.2.1 host ∈ lw_tbl) ∧ (ref = (T k).1 ∨ Cond.sameField ref (T k).1 (T k).2.1 (T k).2.2.1 ∈ lw_all)
/-- the same for a store: ty its type, fin: it is final -/
def zPL (own : String) (idx ci k : Nat) (ty : FieldType) (fin : Bool) : Prop := ∃ (C : String) (T : u_T) (N : Nat) (ref : String) (ty0 : Nat → FieldType), zCl[ci]? = some (C, T, N) ∧ (∀ w ∈ u_ws C T N, w ∈ lw_all) ∧ k < N ∧
  (Cond.fieldLink own idx ref (T k).2.1 (T k).2.2.1 ∈ lw_all ∨ (fin = false ∧ ∃ host, Cond.fieldLinkNest own idx ref (T k).2.1 (T k).2.2.1 host ∈ lw_tbl)) ∧ (ref = (T k).1 ∨ Cond.sameField ref (T k).1 (T k).2.1 (T k).2.2.1 ∈ lw_all) ∧
  (∀ k, k < N → parseFieldDescriptor (T k).2.2.1 = some (ty0 k)) ∧ (∀ a, a < N → ∀ b, b < N → a ≠ b → (T a).2.1 ≠ (T b).2.1) ∧ (T k).2.2.2 = fin ∧ (fin = true → (T k).1 = own) ∧ parseFieldDescriptor (T k).2.2.1 = some ty
section ZR2
variable {p : Program} {l : Launch} {e : Env} {R : Room} {s : State} {m : MethodId} {args : Array Value} {below : List Frame} {meth : Method} {c : Code} {Q : State → Prop} {D : zD} {B0 nL : Nat} {own : String} {cc : ByteArray} {E : zE} {fr lo : Nat} {ret : Option FieldType} {mn : String} {h : zH} {pc : Nat} {lv : List (Nat × Value)} {rest : List Value}
theorem zr_same {k : Nat} {T : u_T} {ref : String} (hts : ∀ w ∈ lw_all, w.before args s = true) (h : ref = (T k).1 ∨ Cond.sameField ref (T k).1 (T k).2.1 (T k).2.2.1 ∈ lw_all) : ∀ x, s.fieldFound? (T k).1 (T k).2.1 (T k).2.2.1 = some x → s.fieldFound? ref (T k).2.1 (T k).2.2.1 = some x := by
  rcases h with rfl | h
  · exact fun x hx => hx
  · exact fun x hx => u_same (hts _ h) x hx
theorem zr_get (C0 : zCx p l e R s m args below meth c D B0 nL own cc E fr lo ret mn) {idx ci k a : Nat} {v : Value} (hF : zFL own idx ci k) (hd : decode cc pc = .ok (.getfield idx, 3)) (hv : gF h a ci k = some v) (kk : zW p l e R s m args below meth c D B0 nL Q h (pc + 3) lv (v :: rest)) : zW p l e R s m args below meth c D B0 nL Q h pc lv (.ref a :: rest) := by
  intro H locs ls cl sl hr hR hS hl
  obtain ⟨C, T, N, ref, hc, hin, hk, hlink, hsame⟩ := hF
  obtain ⟨hx, hb, hml, hown, hts, hlk, -, -, -, hG, -⟩ := C0
  obtain ⟨b, fs, hh, hfs⟩ := zgF hv
  obtain ⟨cell, q1, q2, q3, -, r, h1, q4, q5⟩ := hr.2 a b _ hh
  have hrr : r = (C, T, N) := Option.some.inj (h1.symm.trans hc)
  subst hrr
  obtain ⟨hSl, hfc, kC, hkC, hkind⟩ := hG.1.1 ci _ hc
  obtain ⟨cf, kf, fi, f, hi, hsl⟩ := hSl k hk
  have hslot : cell.slots[f.slot]? = some v := by
    rw [hsl, q5 k hk]
    simp [vp_V, hfs]
  rcases hlink with hlink | ⟨host, hlink⟩
  · exact W.getf hx hb hown (hts _ hlink) (zr_same hts hsame _ hi) (u_facts hfc hkC (u_lays hts hin hk) hi).1 q1 q3 hslot rfl rfl hd (kk H locs ls cl sl hr hR hS hl)
  · exact va_Wgetf hx hb hown (va_Nw.use rfl (hG.2.1 _ hlink rfl)) (zr_same hts hsame _ hi) (u_facts hfc hkC (u_lays hts hin hk) hi).1 q1 q3 hslot rfl rfl hd (kk H locs ls cl sl hr hR hS hl)
theorem zr_put (C0 : zCx p l e R s m args below meth c D B0 nL own cc E fr lo ret mn) {idx ci k a : Nat} {v : Value} {h1 : zH} {ty : FieldType} {fin : Bool} (hF : zPL own idx ci k ty fin) (hd : decode cc pc = .ok (.putfield idx, 3)) (hfin : fin = true → mn = "<init>") (hn : narrow ty v = v) (hfit : fits ty v = true) (hv : pF h a ci k v = some h1) (kk : zW p l e R s m args below meth c D B0 nL Q h1 (pc + 3) lv rest) : zW p l e R s m args below meth c D B0 nL Q h pc lv (v :: .ref a :: rest) := by
  intro H locs ls cl sl hr hR hS hl
  obtain ⟨C, T, N, ref, ty0, hc, hin, hk, hlink, hsame, hty, hnm, hf9, hown9, hd9⟩ := hF
  obtain ⟨hx, hb, hml, hown, hts, hlk, -, -, -, hG, hB0, -, hmn⟩ := C0
  obtain ⟨fs, hh, hlen, rfl⟩ := zpF hv
  obtain ⟨cell, q1, q2, q3, q0, r, h1, q4, q5⟩ := hr.2 a true _ hh
  have hrr : r = (C, T, N) := Option.some.inj (h1.symm.trans hc)
  subst hrr
  have hap := va_apart (own := own) hts hin ty0 hty hnm hG.1 hc
  obtain ⟨hSl, hfc, kC, hkC, hkind⟩ := hG.1.1 ci _ hc
  obtain ⟨cf, kf, fi, f, hi, hsl⟩ := hSl k hk
  have hst := (u_facts hfc hkC (u_lays hts hin hk) hi).1
  have hlay := hts _ (hin _ (u_in_lay hk))
  obtain ⟨q0v, q0a⟩ := q0 rfl
  have hslot : f.slot < cell.slots.size := by rw [hsl]; exact k2_hasslot (q5 k hk)
  have go : ∀ H' : Heap, H'[a]? = some (cell.setSlot f.slot v) → H'.size = H.size → (∀ q, q ≠ a → H'[q]? = H[q]?) → W p l e R s m args below meth c H' (locs ++ [⟨a, f.slot⟩]) cl sl Q (F0 m (pc + 3) ls rest) := by
    intro H' e1 e2 e3
    have hcs : (cell.setSlot f.slot v).slots.size = cell.slots.size := by simp [Cell.setSlot]
    refine kk H' _ ls cl sl (hr.put e2 e3 ⟨_, e1, q2, q3, fun _ => ⟨q0v, q0a⟩, _, hc, q4, fun j hj => ?_⟩) ⟨by rw [e2]; exact hR.1, by rw [zTot_set q1 e1 hcs e2 e3]; exact hR.2.1, by rw [zTot_set q1 e1 hcs e2 e3]; exact hR.2.2⟩ (hS.put e2 e3 q0a) hl
    rw [hsl, ← vp_updV_set hlen v j]
    exact t_set q5 hap hk v j hj
  unfold u_lay at hlay
  cases fin with
  | false =>
    rw [if_neg (by rw [hf9]; decide)] at hlay
    have h6 := u_store hfc hkC hkind hlay hi hd9 hn hfit
    rcases hlink with hlink | ⟨-, host, hlink⟩
    · exact W.putK hx hb (f := f) ⟨hown, hts _ hlink, ⟨_, _, _, zr_same hts hsame _ hi⟩, hst⟩ (by rw [q4]; exact h6) q1 q0v hslot rfl rfl hd go
    · exact va_WputK hx hb (f := f) hown (va_Nw.use rfl (hG.2.1 _ hlink rfl)) (zr_same hts hsame _ hi) hst (by rw [q4]; exact h6) q1 q0v hslot rfl rfl hd go
  | true =>
    rw [if_pos hf9] at hlay
    have hcf : m.cls = cf := by
      obtain ⟨_, _, c', _, _, _, -, -, hf', -, -, -, hown2, -⟩ := Cond.laysFinal_spec hlay
      have e1 : c' = cf := by have := hi.symm.trans hf'; simp at this; exact this.1.symm
      rw [hown9 rfl] at hown2
      rw [← e1]; exact Option.some.inj (hown.symm.trans hown2)
    have h6 := u_fits hfc hkC hkind (Or.inr hlay) hi hd9 hn hfit
    rcases hlink with hlink | ⟨hh, -⟩
    · exact W.putFinK hx hb hown (hts _ hlink) (zr_same hts hsame _ hi) hst hcf (by rw [hmn]; exact hfin rfl) (by rw [q4]; exact h6) q1 q0v hslot rfl rfl hd go
    · cases hh
end ZR2
