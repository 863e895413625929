/-! walks by program: by the generator -/
set_option maxRecDepth 100000
section
variable {p : Program} {l : Launch} {e : Env} {R : Room} {s : State} {m : MethodId} {args : Array Value} {below : List Frame} {meth : Method} {c : Code} {D : zD} {B0 : Nat} {E : zE}

def f_J0_isEmpty_J19_b12 (E : zE) (s0 : Int32) (h : zH) : Option (Int32 × zH) :=
  (zgd .boolean s0).bind fun _ =>
  some (s0, h)
theorem w_J0_isEmpty_J19_b12 (C0 : zCx p l e R s m args below meth c D B0 1 "java/util/AbstractCollection" cJ0_isEmpty E 2 80 (Option.some Jvm.ClassFile.FieldType.boolean) "isEmpty") {r : Int32} {h' : zH} {s0 : Int32} {h : zH} (hf : f_J0_isEmpty_J19_b12 E s0 h = some (r, h')) : zW p l e R s m args below meth c D B0 1 (zEnd D B0 R below args s (zoI r) h') h 12 [] [.int s0] := by
  unfold f_J0_isEmpty_J19_b12 at hf
  obtain ⟨_, e1, hf⟩ := zbind hf
  refine zretW hf ?_
  exact zr_iret C0 (ty := .boolean) rfl (zgd_n e1) dJ0_isEmpty_12 rfl
def f_J0_isEmpty_J19_b0 (E : zE) (p0 : Nat) (h : zH) : Option (Int32 × zH) :=
  (cko h p0 16).bind fun _ =>
  bnd2 (f_J19_size E p0 h) fun x4 h2 =>
  if x4 = 0 then (
    f_J0_isEmpty_J19_b12 E (1 : Int32) h2
  ) else (
    f_J0_isEmpty_J19_b12 E (0 : Int32) h2
  )
theorem w_J0_isEmpty_J19_b0 (C0 : zCx p l e R s m args below meth c D B0 1 "java/util/AbstractCollection" cJ0_isEmpty E 2 80 (Option.some Jvm.ClassFile.FieldType.boolean) "isEmpty") {r : Int32} {h' : zH} {p0 : Nat} {h : zH} (hf : f_J0_isEmpty_J19_b0 E p0 h = some (r, h')) : zW p l e R s m args below meth c D B0 1 (zEnd D B0 R below args s (zoI r) h') h 0 [(0, .ref p0)] [] := by
  unfold f_J0_isEmpty_J19_b0 at hf
  refine zr_aload_n C0 dJ0_isEmpty_0 rfl 0 rfl ?_
  obtain ⟨_, e1, hf⟩ := zbind hf
  obtain ⟨x4, h2, e3, hf⟩ := zbind2 hf
  refine zr_callO_r C0 cv_J0_7_J19 rfl (zcko e1) (m_J19_size C0.2.2.2.2.2.2.1 e3) (by decide) (by decide) rfl rfl (Nat.le_of_ble_eq_true rfl) dJ0_isEmpty_1 rfl ?_
  refine zr_if_ne C0 (tgt := 11) dJ0_isEmpty_4 (by decide) (fun c5 => ?_) (fun c5 => ?_)
  · have hf := zif_f c5 hf
    refine zr_iconst C0 (v := 0) dJ0_isEmpty_11 (by decide) ?_
    refine zr_sub [] rfl ?_
    exact w_J0_isEmpty_J19_b12 C0 hf
  · have hf := zif_t c5 hf
    refine zr_iconst C0 (v := 1) dJ0_isEmpty_7 (by decide) ?_
    refine zr_goto C0 (tgt := 12) dJ0_isEmpty_8 (by decide) ?_
    refine zr_sub [] rfl ?_
    exact w_J0_isEmpty_J19_b12 C0 hf
def f_J0_isEmpty_J19 (E : zE) (p0 : Nat) (h : zH) : Option (Int32 × zH) := f_J0_isEmpty_J19_b0 E p0 h
theorem m_J0_isEmpty_J19 {l : Launch} (hst : l.stackTraces = false) {D : zD} {B0 : Nat} {E : zE} {p0 : Nat} {h h' : zH} {r : Int32} (hf : f_J0_isEmpty_J19 E p0 h = some (r, h')) : zMet l yJ0_isEmpty (ws_ yJ0_isEmpty cJ0_isEmpty 1 (Option.some Jvm.ClassFile.FieldType.boolean)) 2 80 D B0 E [.ref p0] h (zoI r) h' := by
  unfold f_J0_isEmpty_J19 at hf
  refine zMet_of hst (by decide +kernel) rfl rfl (Nat.le_of_ble_eq_true rfl) (fun p e R s m below meth c C0 hno => ?_)
  show zW _ _ _ _ _ _ _ _ _ _ _ _ _ _ _ _ [(0, .ref p0)] []
  exact w_J0_isEmpty_J19_b0 C0 hf
def f_J19_unlinkFirst_b42 (E : zE) (p0 : Nat) (p2 : Nat) (h : zH) : Option (Nat × zH) :=
  (gI h p0 16 1).bind fun x1 =>
  (pF h p0 16 1 (.int (x1 - (1 : Int32)))).bind fun h3 =>
  (gI h3 p0 16 0).bind fun x5 =>
  (pF h3 p0 16 0 (.int (x5 + (1 : Int32)))).bind fun h7 =>
  some (p2, h7)
theorem w_J19_unlinkFirst_b42 (C0 : zCx p l e R s m args below meth c D B0 4 "java/util/LinkedList" cJ19_unlinkFirst E 1 60 (Option.some (Jvm.ClassFile.FieldType.object "java/lang/Object")) "unlinkFirst") {r : Nat} {h' : zH} {p0 : Nat} {p2 : Nat} {h : zH} (hf : f_J19_unlinkFirst_b42 E p0 p2 h = some (r, h')) : zW p l e R s m args below meth c D B0 4 (zEnd D B0 R below args s (zoR r) h') h 42 [(0, .ref p0), (2, .ref p2)] [] := by
  unfold f_J19_unlinkFirst_b42 at hf
  refine zr_aload_n C0 dJ19_unlinkFirst_42 rfl 0 rfl ?_
  refine zr_dup C0 dJ19_unlinkFirst_43 rfl ?_
  obtain ⟨x1, e2, hf⟩ := zbind hf
  refine zr_get C0 fl_J19_7_J19 dJ19_unlinkFirst_44 (zgI e2) ?_
  refine zr_iconst C0 (v := 1) dJ19_unlinkFirst_47 (by decide) ?_
  refine zr_isub C0 dJ19_unlinkFirst_48 ?_
  obtain ⟨h3, e4, hf⟩ := zbind hf
  refine zr_put C0 pl_J19_7_J19 dJ19_unlinkFirst_49 (fun h => by cases h) rfl rfl e4 ?_
  refine zr_aload_n C0 dJ19_unlinkFirst_52 rfl 0 rfl ?_
  refine zr_dup C0 dJ19_unlinkFirst_53 rfl ?_
  obtain ⟨x5, e6, hf⟩ := zbind hf
  refine zr_get C0 fl_J19_33_J19 dJ19_unlinkFirst_54 (zgI e6) ?_
  refine zr_iconst C0 (v := 1) dJ19_unlinkFirst_57 (by decide) ?_
  refine zr_iadd C0 dJ19_unlinkFirst_58 ?_
  obtain ⟨h7, e8, hf⟩ := zbind hf
  refine zr_put C0 pl_J19_33_J19 dJ19_unlinkFirst_59 (fun h => by cases h) rfl rfl e8 ?_
  refine zr_aload_n C0 dJ19_unlinkFirst_62 rfl 1 rfl ?_
  refine zretW hf ?_
  exact zr_aret C0 rfl (Or.inl ⟨_, rfl⟩) dJ19_unlinkFirst_63 rfl
def f_J19_unlinkFirst_b0 (E : zE) (p0 : Nat) (p1 : Nat) (h : zH) : Option (Nat × zH) :=
  (gR h p1 17 0).bind fun x1 =>
  (gQ h p1 17 1).bind fun x3 =>
  (pF h p1 17 0 (.null)).bind fun h5 =>
  (pF h5 p1 17 1 (.null)).bind fun h7 =>
  (pF h7 p0 16 2 (va_rf x3)).bind fun h9 =>
  zopt x3 (
    (pF h9 p0 16 3 (.null)).bind fun h13 =>
    f_J19_unlinkFirst_b42 E p0 x1 h13
  ) fun x11 => (
    (pF h9 x11 17 2 (.null)).bind fun h15 =>
    f_J19_unlinkFirst_b42 E p0 x1 h15
  )
theorem w_J19_unlinkFirst_b0 (C0 : zCx p l e R s m args below meth c D B0 4 "java/util/LinkedList" cJ19_unlinkFirst E 1 60 (Option.some (Jvm.ClassFile.FieldType.object "java/lang/Object")) "unlinkFirst") {r : Nat} {h' : zH} {p0 : Nat} {p1 : Nat} {h : zH} (hf : f_J19_unlinkFirst_b0 E p0 p1 h = some (r, h')) : zW p l e R s m args below meth c D B0 4 (zEnd D B0 R below args s (zoR r) h') h 0 [(0, .ref p0), (1, .ref p1)] [] := by
  unfold f_J19_unlinkFirst_b0 at hf
  refine zr_aload_n C0 dJ19_unlinkFirst_0 rfl 1 rfl ?_
  obtain ⟨x1, e2, hf⟩ := zbind hf
  refine zr_get C0 fl_J19_39_J20 dJ19_unlinkFirst_1 (zgR e2) ?_
  refine zr_astore_n (i := 2) (lv' := [(2, .ref x1), (0, .ref p0), (1, .ref p1)]) C0 dJ19_unlinkFirst_4 rfl (by decide) (by first | rfl | simp [zst1, zst2, zcat_rf]) ?_
  refine zr_aload_n C0 dJ19_unlinkFirst_5 rfl 2 rfl ?_
  obtain ⟨x3, e4, hf⟩ := zbind hf
  refine zr_get C0 fl_J19_36_J20 dJ19_unlinkFirst_6 (zgQ e4) ?_
  refine zr_astore_nQ (i := 3) (lv' := [(3, va_rf x3), (2, .ref x1), (0, .ref p0), (1, .ref p1)]) C0 dJ19_unlinkFirst_9 rfl (by decide) (by first | rfl | simp [zst1, zst2, zcat_rf]) ?_
  refine zr_aload_n C0 dJ19_unlinkFirst_10 rfl 3 rfl ?_
  refine zr_null C0 dJ19_unlinkFirst_11 ?_
  obtain ⟨h5, e6, hf⟩ := zbind hf
  refine zr_put C0 pl_J19_39_J20 dJ19_unlinkFirst_12 (fun h => by cases h) rfl rfl e6 ?_
  refine zr_aload_n C0 dJ19_unlinkFirst_15 rfl 3 rfl ?_
  refine zr_null C0 dJ19_unlinkFirst_16 ?_
  obtain ⟨h7, e8, hf⟩ := zbind hf
  refine zr_put C0 pl_J19_36_J20 dJ19_unlinkFirst_17 (fun h => by cases h) rfl rfl e8 ?_
  refine zr_aload_n C0 dJ19_unlinkFirst_20 rfl 2 rfl ?_
  refine zr_aload_nQ C0 dJ19_unlinkFirst_21 rfl 0 rfl ?_
  obtain ⟨h9, e10, hf⟩ := zbind hf
  refine zr_put C0 pl_J19_18_J19 dJ19_unlinkFirst_22 (fun h => by cases h) (znar_rf x3) (zfit_rf _ x3) e10 ?_
  refine zr_aload_nQ C0 dJ19_unlinkFirst_25 rfl 0 rfl ?_
  refine zr_ifnonnull C0 (r := x3) (tgt := 37) dJ19_unlinkFirst_26 (by decide) (fun x11 e12 => ?_) (fun e12 => ?_)
  · subst e12
    have hf := zopt_s hf
    refine zr_aload_n C0 dJ19_unlinkFirst_37 rfl 0 rfl ?_
    refine zr_null C0 dJ19_unlinkFirst_38 ?_
    obtain ⟨h15, e16, hf⟩ := zbind hf
    refine zr_put C0 pl_J19_30_J20 dJ19_unlinkFirst_39 (fun h => by cases h) rfl rfl e16 ?_
    refine zr_sub [2, 1] rfl ?_
    exact w_J19_unlinkFirst_b42 C0 hf
  · subst e12
    have hf := zopt_n hf
    refine zr_aload_n C0 dJ19_unlinkFirst_29 rfl 2 rfl ?_
    refine zr_null C0 dJ19_unlinkFirst_30 ?_
    obtain ⟨h13, e14, hf⟩ := zbind hf
    refine zr_put C0 pl_J19_27_J19 dJ19_unlinkFirst_31 (fun h => by cases h) rfl rfl e14 ?_
    refine zr_goto C0 (tgt := 42) dJ19_unlinkFirst_34 (by decide) ?_
    refine zr_sub [2, 1] rfl ?_
    exact w_J19_unlinkFirst_b42 C0 hf
def f_J19_unlinkFirst (E : zE) (p0 : Nat) (p1 : Nat) (h : zH) : Option (Nat × zH) := f_J19_unlinkFirst_b0 E p0 p1 h
theorem m_J19_unlinkFirst {l : Launch} (hst : l.stackTraces = false) {D : zD} {B0 : Nat} {E : zE} {p0 : Nat} {p1 : Nat} {h h' : zH} {r : Nat} (hf : f_J19_unlinkFirst E p0 p1 h = some (r, h')) : zMet l yJ19_unlinkFirst (ws_ yJ19_unlinkFirst cJ19_unlinkFirst 4 (Option.some (Jvm.ClassFile.FieldType.object "java/lang/Object"))) 1 60 D B0 E [.ref p0, .ref p1] h (zoR r) h' := by
  unfold f_J19_unlinkFirst at hf
  refine zMet_of hst (by decide +kernel) rfl rfl (Nat.le_of_ble_eq_true rfl) (fun p e R s m below meth c C0 hno => ?_)
  show zW _ _ _ _ _ _ _ _ _ _ _ _ _ _ _ _ [(0, .ref p0), (1, .ref p1)] []
  exact w_J19_unlinkFirst_b0 C0 hf
def f_J19_removeFirst_b0 (E : zE) (p0 : Nat) (h : zH) : Option (Nat × zH) :=
  (gQ h p0 16 2).bind fun x1 =>
  zopt x1 (
    none
  ) fun x3 => (
    (cko h p0 16).bind fun _ =>
    bnd2 (f_J19_unlinkFirst E p0 x3 h) fun x8 h6 =>
    some (x8, h6)
  )
theorem w_J19_removeFirst_b0 (C0 : zCx p l e R s m args below meth c D B0 2 "java/util/LinkedList" cJ19_removeFirst E 2 83 (Option.some (Jvm.ClassFile.FieldType.object "java/lang/Object")) "removeFirst") {r : Nat} {h' : zH} {p0 : Nat} {h : zH} (hf : f_J19_removeFirst_b0 E p0 h = some (r, h')) : zW p l e R s m args below meth c D B0 2 (zEnd D B0 R below args s (zoR r) h') h 0 [(0, .ref p0)] [] := by
  unfold f_J19_removeFirst_b0 at hf
  refine zr_aload_n C0 dJ19_removeFirst_0 rfl 0 rfl ?_
  obtain ⟨x1, e2, hf⟩ := zbind hf
  refine zr_get C0 fl_J19_18_J19 dJ19_removeFirst_1 (zgQ e2) ?_
  refine zr_astore_nQ (i := 1) (lv' := [(1, va_rf x1), (0, .ref p0)]) C0 dJ19_removeFirst_4 rfl (by decide) (by first | rfl | simp [zst1, zst2, zcat_rf]) ?_
  refine zr_aload_nQ C0 dJ19_removeFirst_5 rfl 0 rfl ?_
  refine zr_ifnonnull C0 (r := x1) (tgt := 17) dJ19_removeFirst_6 (by decide) (fun x3 e4 => ?_) (fun e4 => ?_)
  · subst e4
    have hf := zopt_s hf
    refine zr_aload_n C0 dJ19_removeFirst_17 rfl 1 rfl ?_
    refine zr_aload_n C0 dJ19_removeFirst_18 rfl 0 rfl ?_
    obtain ⟨_, e5, hf⟩ := zbind hf
    obtain ⟨x8, h6, e7, hf⟩ := zbind2 hf
    refine zr_callV_r C0 cv_J19_46_J19 rfl (zcko e5) (m_J19_unlinkFirst C0.2.2.2.2.2.2.1 e7) (by decide) (by decide) rfl rfl (Nat.le_of_ble_eq_true rfl) dJ19_removeFirst_19 rfl ?_
    refine zretW hf ?_
    exact zr_aret C0 rfl (Or.inl ⟨_, rfl⟩) dJ19_removeFirst_22 rfl
  · subst e4
    have hf := zopt_n hf
    cases hf
def f_J19_removeFirst (E : zE) (p0 : Nat) (h : zH) : Option (Nat × zH) := f_J19_removeFirst_b0 E p0 h
theorem m_J19_removeFirst {l : Launch} (hst : l.stackTraces = false) {D : zD} {B0 : Nat} {E : zE} {p0 : Nat} {h h' : zH} {r : Nat} (hf : f_J19_removeFirst E p0 h = some (r, h')) : zMet l yJ19_removeFirst (ws_ yJ19_removeFirst cJ19_removeFirst 2 (Option.some (Jvm.ClassFile.FieldType.object "java/lang/Object"))) 2 83 D B0 E [.ref p0] h (zoR r) h' := by
  unfold f_J19_removeFirst at hf
  refine zMet_of hst (by decide +kernel) rfl rfl (Nat.le_of_ble_eq_true rfl) (fun p e R s m below meth c C0 hno => ?_)
  show zW _ _ _ _ _ _ _ _ _ _ _ _ _ _ _ _ [(0, .ref p0)] []
  exact w_J19_removeFirst_b0 C0 hf
def f_X15_kind_b0 (E : zE) (p0 : Nat) (h : zH) : Option (Int32 × zH) :=
  (gI h p0 14 0).bind fun x1 =>
  some (x1, h)
theorem w_X15_kind_b0 (C0 : zCx p l e R s m args below meth c D B0 1 "FranchiseLedger$Posting" cX15_kind E 1 60 (Option.some Jvm.ClassFile.FieldType.int) "kind") {r : Int32} {h' : zH} {p0 : Nat} {h : zH} (hf : f_X15_kind_b0 E p0 h = some (r, h')) : zW p l e R s m args below meth c D B0 1 (zEnd D B0 R below args s (zoI r) h') h 0 [(0, .ref p0)] [] := by
  unfold f_X15_kind_b0 at hf
  refine zr_aload_n C0 dX15_kind_0 rfl 0 rfl ?_
  obtain ⟨x1, e2, hf⟩ := zbind hf
  refine zr_get C0 fl_X15_7_X15 dX15_kind_1 (zgI e2) ?_
  refine zretW hf ?_
  exact zr_iret C0 (ty := .int) rfl rfl dX15_kind_4 rfl
def f_X15_kind (E : zE) (p0 : Nat) (h : zH) : Option (Int32 × zH) := f_X15_kind_b0 E p0 h
theorem m_X15_kind {l : Launch} (hst : l.stackTraces = false) {D : zD} {B0 : Nat} {E : zE} {p0 : Nat} {h h' : zH} {r : Int32} (hf : f_X15_kind E p0 h = some (r, h')) : zMet l yX15_kind (ws_ yX15_kind cX15_kind 1 (Option.some Jvm.ClassFile.FieldType.int)) 1 60 D B0 E [.ref p0] h (zoI r) h' := by
  unfold f_X15_kind at hf
  refine zMet_of hst (by decide +kernel) rfl rfl (Nat.le_of_ble_eq_true rfl) (fun p e R s m below meth c C0 hno => ?_)
  show zW _ _ _ _ _ _ _ _ _ _ _ _ _ _ _ _ [(0, .ref p0)] []
  exact w_X15_kind_b0 C0 hf
def f_X15_subject_b0 (E : zE) (p0 : Nat) (h : zH) : Option (Int32 × zH) :=
  (gI h p0 14 1).bind fun x1 =>
  some (x1, h)
theorem w_X15_subject_b0 (C0 : zCx p l e R s m args below meth c D B0 1 "FranchiseLedger$Posting" cX15_subject E 1 60 (Option.some Jvm.ClassFile.FieldType.int) "subject") {r : Int32} {h' : zH} {p0 : Nat} {h : zH} (hf : f_X15_subject_b0 E p0 h = some (r, h')) : zW p l e R s m args below meth c D B0 1 (zEnd D B0 R below args s (zoI r) h') h 0 [(0, .ref p0)] [] := by
  unfold f_X15_subject_b0 at hf
  refine zr_aload_n C0 dX15_subject_0 rfl 0 rfl ?_
  obtain ⟨x1, e2, hf⟩ := zbind hf
  refine zr_get C0 fl_X15_13_X15 dX15_subject_1 (zgI e2) ?_
  refine zretW hf ?_
  exact zr_iret C0 (ty := .int) rfl rfl dX15_subject_4 rfl
def f_X15_subject (E : zE) (p0 : Nat) (h : zH) : Option (Int32 × zH) := f_X15_subject_b0 E p0 h
theorem m_X15_subject {l : Launch} (hst : l.stackTraces = false) {D : zD} {B0 : Nat} {E : zE} {p0 : Nat} {h h' : zH} {r : Int32} (hf : f_X15_subject E p0 h = some (r, h')) : zMet l yX15_subject (ws_ yX15_subject cX15_subject 1 (Option.some Jvm.ClassFile.FieldType.int)) 1 60 D B0 E [.ref p0] h (zoI r) h' := by
  unfold f_X15_subject at hf
  refine zMet_of hst (by decide +kernel) rfl rfl (Nat.le_of_ble_eq_true rfl) (fun p e R s m below meth c C0 hno => ?_)
  show zW _ _ _ _ _ _ _ _ _ _ _ _ _ _ _ _ [(0, .ref p0)] []
  exact w_X15_subject_b0 C0 hf
def f_X15_amount_b0 (E : zE) (p0 : Nat) (h : zH) : Option (Int64 × zH) :=
  (gL h p0 14 4).bind fun x1 =>
  some (x1, h)
theorem w_X15_amount_b0 (C0 : zCx p l e R s m args below meth c D B0 1 "FranchiseLedger$Posting" cX15_amount E 1 60 (Option.some Jvm.ClassFile.FieldType.long) "amount") {r : Int64} {h' : zH} {p0 : Nat} {h : zH} (hf : f_X15_amount_b0 E p0 h = some (r, h')) : zW p l e R s m args below meth c D B0 1 (zEnd D B0 R below args s (zoL r) h') h 0 [(0, .ref p0)] [] := by
  unfold f_X15_amount_b0 at hf
  refine zr_aload_n C0 dX15_amount_0 rfl 0 rfl ?_
  obtain ⟨x1, e2, hf⟩ := zbind hf
  refine zr_get C0 fl_X15_22_X15 dX15_amount_1 (zgL e2) ?_
  refine zretW hf ?_
  exact zr_lret C0 rfl dX15_amount_4 rfl
def f_X15_amount (E : zE) (p0 : Nat) (h : zH) : Option (Int64 × zH) := f_X15_amount_b0 E p0 h
theorem m_X15_amount {l : Launch} (hst : l.stackTraces = false) {D : zD} {B0 : Nat} {E : zE} {p0 : Nat} {h h' : zH} {r : Int64} (hf : f_X15_amount E p0 h = some (r, h')) : zMet l yX15_amount (ws_ yX15_amount cX15_amount 1 (Option.some Jvm.ClassFile.FieldType.long)) 1 60 D B0 E [.ref p0] h (zoL r) h' := by
  unfold f_X15_amount at hf
  refine zMet_of hst (by decide +kernel) rfl rfl (Nat.le_of_ble_eq_true rfl) (fun p e R s m below meth c C0 hno => ?_)
  show zW _ _ _ _ _ _ _ _ _ _ _ _ _ _ _ _ [(0, .ref p0)] []
  exact w_X15_amount_b0 C0 hf
def f_X1_requireIndex_l7 (E : zE) : Nat → Nat → Int32 → Int32 → zH → Option ((Unit ⊕ (Nat × Nat)) × zH)
  | 0, _, _, _, _ => none
  | n + 1, p1, p2, p3, h =>
    if p2 ≤ p3 then (
      some (.inl (), h)
    ) else (
      (dI h p1 3 p3).bind fun x2 =>
      if x2 = 0 then (
        bnd2 (nO h 20 6 []) fun q5 h6 =>
        (ckt h6 q5 20).bind fun _ =>
        some (.inr (20, q5), h6)
      ) else (
        f_X1_requireIndex_l7 E n p1 p2 (p3 + 1) h
      )
    )
theorem w_X1_requireIndex_l7 (C0 : zCx p l e R s m args below meth c D B0 5 "FranchiseLedger" cX1_requireIndex E 9 130 (Option.none : Option Jvm.ClassFile.FieldType) "requireIndex") (hno : ∀ x ∈ c.exceptionTable.toList, False) {r : (Unit ⊕ (Nat × Nat))} {h' : zH} : ∀ (n : Nat) (p1 : Nat) (p2 : Int32) (p3 : Int32) (h : zH), f_X1_requireIndex_l7 E n p1 p2 p3 h = some (r, h') → zW p l e R s m args below meth c D B0 5 (zEnd D B0 R below args s (zoT zoV r) h') h 7 [(1, .ref p1), (2, .int p2), (3, .int p3)] [] := by
  intro n
  induction n with
  | zero =>
    intro p1 p2 p3 h hf
    unfold f_X1_requireIndex_l7 at hf
    cases hf
  | succ n ih =>
    intro p1 p2 p3 h hf
    unfold f_X1_requireIndex_l7 at hf
    refine zr_iload_n C0 dX1_requireIndex_7 rfl 2 rfl ?_
    refine zr_iload_n C0 dX1_requireIndex_8 rfl 1 rfl ?_
    refine zr_icmp_ge C0 (tgt := 36) dX1_requireIndex_9 (by decide) (fun c1 => ?_) (fun c1 => ?_)
    · have hf := zif_t c1 hf
      refine zretW hf ?_
      exact zr_vret C0 rfl dX1_requireIndex_36 rfl
    · have hf := zif_f c1 hf
      refine zr_aload_n C0 dX1_requireIndex_12 rfl 0 rfl ?_
      refine zr_iload_n C0 dX1_requireIndex_13 rfl 2 rfl ?_
      obtain ⟨x2, e3, hf⟩ := zbind hf
      refine zr_zald C0 dX1_requireIndex_14 e3 ?_
      refine zr_istore (i := 4) (lv' := [(4, .int x2), (1, .ref p1), (2, .int p2), (3, .int p3)]) C0 dX1_requireIndex_15 (by decide) (by first | rfl | simp [zst1, zst2, zcat_rf]) ?_
      refine zr_iload C0 dX1_requireIndex_17 0 rfl ?_
      refine zr_if_ne C0 (tgt := 30) dX1_requireIndex_19 (by decide) (fun c4 => ?_) (fun c4 => ?_)
      · have hf := zif_f c4 hf
        refine zr_iinc (lv' := [(3, .int (p3 + 1)), (4, .int x2), (1, .ref p1), (2, .int p2)]) C0 dX1_requireIndex_30 3 rfl rfl (by decide) (by first | rfl | simp [zst1, zst2, zcat_rf]) ?_
        refine zr_goto C0 (tgt := 7) dX1_requireIndex_33 (by decide) ?_
        refine zr_sub [2, 3, 0] rfl ?_
        exact ih _ _ _ _ hf
      · have hf := zif_t c4 hf
        obtain ⟨q5, h6, e7, hf⟩ := zbind2 hf
        refine zr_exc C0 ex_X1_3_5 (by decide) (by decide) dX1_requireIndex_22 dX1_requireIndex_25 dX1_requireIndex_26 (Nat.le_of_ble_eq_true rfl) e7 ?_
        obtain ⟨_, e8, hf⟩ := zbind hf
        refine zretW hf ?_
        exact zr_athrow C0 dX1_requireIndex_29 (zckt e8) (zr_out C0 hno rfl)
def f_X1_requireIndex_b0 (E : zE) (p0 : Nat) (h : zH) : Option ((Unit ⊕ (Nat × Nat)) × zH) :=
  (lenA h p0).bind fun x1 =>
  f_X1_requireIndex_l7 E E.1 p0 x1 (0 : Int32) h
theorem w_X1_requireIndex_b0 (C0 : zCx p l e R s m args below meth c D B0 5 "FranchiseLedger" cX1_requireIndex E 9 130 (Option.none : Option Jvm.ClassFile.FieldType) "requireIndex") (hno : ∀ x ∈ c.exceptionTable.toList, False) {r : (Unit ⊕ (Nat × Nat))} {h' : zH} {p0 : Nat} {h : zH} (hf : f_X1_requireIndex_b0 E p0 h = some (r, h')) : zW p l e R s m args below meth c D B0 5 (zEnd D B0 R below args s (zoT zoV r) h') h 0 [(0, .ref p0)] [] := by
  unfold f_X1_requireIndex_b0 at hf
  refine zr_aload_n C0 dX1_requireIndex_0 rfl 0 rfl ?_
  refine zr_astore_n (i := 1) (lv' := [(1, .ref p0), (0, .ref p0)]) C0 dX1_requireIndex_1 rfl (by decide) (by first | rfl | simp [zst1, zst2, zcat_rf]) ?_
  refine zr_aload_n C0 dX1_requireIndex_2 rfl 0 rfl ?_
  obtain ⟨x1, e2, hf⟩ := zbind hf
  refine zr_alen C0 dX1_requireIndex_3 e2 ?_
  refine zr_istore_n (i := 2) (lv' := [(2, .int x1), (1, .ref p0), (0, .ref p0)]) C0 dX1_requireIndex_4 rfl (by decide) (by first | rfl | simp [zst1, zst2, zcat_rf]) ?_
  refine zr_iconst C0 (v := 0) dX1_requireIndex_5 (by decide) ?_
  refine zr_istore_n (i := 3) (lv' := [(3, .int (0 : Int32)), (2, .int x1), (1, .ref p0), (0, .ref p0)]) C0 dX1_requireIndex_6 rfl (by decide) (by first | rfl | simp [zst1, zst2, zcat_rf]) ?_
  refine zr_sub [2, 1, 0] rfl ?_
  exact w_X1_requireIndex_l7 C0 hno _ _ _ _ _ hf
def f_X1_requireIndex (E : zE) (p0 : Nat) (h : zH) : Option ((Unit ⊕ (Nat × Nat)) × zH) := f_X1_requireIndex_b0 E p0 h
theorem m_X1_requireIndex {l : Launch} (hst : l.stackTraces = false) {D : zD} {B0 : Nat} {E : zE} {p0 : Nat} {h h' : zH} {r : (Unit ⊕ (Nat × Nat))} (hf : f_X1_requireIndex E p0 h = some (r, h')) : zMet l yX1_requireIndex (ws_ yX1_requireIndex cX1_requireIndex 5 (Option.none : Option Jvm.ClassFile.FieldType)) 9 130 D B0 E [.ref p0] h (zoT zoV r) h' := by
  unfold f_X1_requireIndex at hf
  refine zMet_of hst (by decide +kernel) rfl rfl (Nat.le_of_ble_eq_true rfl) (fun p e R s m below meth c C0 hno => ?_)
  show zW _ _ _ _ _ _ _ _ _ _ _ _ _ _ _ _ [(0, .ref p0)] []
  exact w_X1_requireIndex_b0 C0 hno hf
def f_X1_outlet_b0 (E : zE) (p0 : Nat) (p1 : Int32) (h : zH) : Option ((Nat ⊕ (Nat × Nat)) × zH) :=
  bnd2 (nA h 3 (1 : Int32) (.inl fun _ => 0)) fun q1 h2 =>
  (gR h2 p0 0 1).bind fun x4 =>
  (gR h2 x4 4 1).bind fun x6 =>
  (cko h2 x6 15).bind fun _ =>
  bnd2 (f_J2_size E x6 h2) fun x11 h9 =>
  bnd2 (f_X1_inRange E (p1.toInt64) (0 : Int64) ((x11 - (1 : Int32)).toInt64) h9) fun x14 h12 =>
  (zgd .boolean x14).bind fun _ =>
  (sI h12 q1 3 (0 : Int32) x14).bind fun h16 =>
  bnd2 (f_X1_requireIndex E q1 h16) fun x20 h18 =>
  Sum.elim (fun x21 => (
    (gR h18 p0 0 1).bind fun x23 =>
    (gR h18 x23 4 1).bind fun x25 =>
    (cko h18 x25 15).bind fun _ =>
    bnd2 (f_J2_get E x25 p1 h18) fun x30 h28 =>
    (cko h28 x30 13).bind fun _ =>
    some (.inl x30, h28)
  )) (fun q22 => (
    some (.inr q22, h18)
  )) x20
theorem w_X1_outlet_b0 (C0 : zCx p l e R s m args below meth c D B0 2 "FranchiseLedger" cX1_outlet E 10 154 (Option.some (Jvm.ClassFile.FieldType.object "FranchiseLedger$Outlet")) "outlet") (hno : ∀ x ∈ c.exceptionTable.toList, False) {r : (Nat ⊕ (Nat × Nat))} {h' : zH} {p0 : Nat} {p1 : Int32} {h : zH} (hf : f_X1_outlet_b0 E p0 p1 h = some (r, h')) : zW p l e R s m args below meth c D B0 2 (zEnd D B0 R below args s (zoT zoR r) h') h 0 [(0, .ref p0), (1, .int p1)] [] := by
  unfold f_X1_outlet_b0 at hf
  refine zr_iconst C0 (v := 1) dX1_outlet_0 (by decide) ?_
  obtain ⟨q1, h2, e3, hf⟩ := zbind2 hf
  refine zr_newa C0 (atype := .boolean) (t := 3) q627 rfl (by decide) (fun _ => rfl) dX1_outlet_1 e3 ?_
  refine zr_dup C0 dX1_outlet_3 rfl ?_
  refine zr_iconst C0 (v := 0) dX1_outlet_4 (by decide) ?_
  refine zr_iload_n C0 dX1_outlet_5 rfl 1 rfl ?_
  refine zr_i2l C0 dX1_outlet_6 ?_
  refine zr_lconst C0 (v := 0) dX1_outlet_7 (by decide) ?_
  refine zr_aload_n C0 dX1_outlet_8 rfl 0 rfl ?_
  obtain ⟨x4, e5, hf⟩ := zbind hf
  refine zr_get C0 fl_X1_39_X1 dX1_outlet_9 (zgR e5) ?_
  obtain ⟨x6, e7, hf⟩ := zbind hf
  refine zr_get C0 fl_X1_102_X4 dX1_outlet_12 (zgR e7) ?_
  obtain ⟨_, e8, hf⟩ := zbind hf
  obtain ⟨x11, h9, e10, hf⟩ := zbind2 hf
  refine zr_callF_r C0 cv_X1_78_J2 rfl (zcko e8) (m_J2_size C0.2.2.2.2.2.2.1 e10) (by decide) (by decide) rfl rfl (Nat.le_of_ble_eq_true rfl) dX1_outlet_15 rfl ?_
  refine zr_iconst C0 (v := 1) dX1_outlet_20 (by decide) ?_
  refine zr_isub C0 dX1_outlet_21 ?_
  refine zr_i2l C0 dX1_outlet_22 ?_
  obtain ⟨x14, h12, e13, hf⟩ := zbind2 hf
  refine zr_callS_r C0 cv_X1_84 (m_X1_inRange C0.2.2.2.2.2.2.1 e13) (by decide) (by decide) rfl rfl (Nat.le_of_ble_eq_true rfl) dX1_outlet_23 rfl ?_
  obtain ⟨_, e15, hf⟩ := zbind hf
  obtain ⟨h16, e17, hf⟩ := zbind hf
  refine zr_zast C0 dX1_outlet_26 (zgd_b e15) e17 ?_
  obtain ⟨x20, h18, e19, hf⟩ := zbind2 hf
  rcases x20 with x21 | q22
  · have hf := zinl hf
    refine zr_callS_r C0 cv_X1_92 (m_X1_requireIndex C0.2.2.2.2.2.2.1 e19) (by decide) (by decide) rfl rfl (Nat.le_of_ble_eq_true rfl) dX1_outlet_27 rfl ?_
    refine zr_aload_n C0 dX1_outlet_30 rfl 0 rfl ?_
    obtain ⟨x23, e24, hf⟩ := zbind hf
    refine zr_get C0 fl_X1_39_X1 dX1_outlet_31 (zgR e24) ?_
    obtain ⟨x25, e26, hf⟩ := zbind hf
    refine zr_get C0 fl_X1_102_X4 dX1_outlet_34 (zgR e26) ?_
    refine zr_iload_n C0 dX1_outlet_37 rfl 1 rfl ?_
    obtain ⟨_, e27, hf⟩ := zbind hf
    obtain ⟨x30, h28, e29, hf⟩ := zbind2 hf
    refine zr_callF_r C0 cv_X1_96_J2 rfl (zcko e27) (m_J2_get C0.2.2.2.2.2.2.1 e29) (by decide) (by decide) rfl rfl (Nat.le_of_ble_eq_true rfl) dX1_outlet_38 rfl ?_
    obtain ⟨_, e31, hf⟩ := zbind hf
    refine zr_castS C0 (ci := 13) rfl (zcko e31) q1834 dX1_outlet_43 ?_
    refine zretW hf ?_
    exact zr_aret C0 rfl (Or.inl ⟨_, rfl⟩) dX1_outlet_46 rfl
  · have hf := zinr hf
    refine zretW hf ?_
    exact zr_callS_t C0 cv_X1_92 (m_X1_requireIndex C0.2.2.2.2.2.2.1 e19) (by decide) (by decide) rfl rfl (Nat.le_of_ble_eq_true rfl) dX1_outlet_27 (zr_out C0 hno rfl)
def f_X1_outlet (E : zE) (p0 : Nat) (p1 : Int32) (h : zH) : Option ((Nat ⊕ (Nat × Nat)) × zH) := f_X1_outlet_b0 E p0 p1 h
theorem m_X1_outlet {l : Launch} (hst : l.stackTraces = false) {D : zD} {B0 : Nat} {E : zE} {p0 : Nat} {p1 : Int32} {h h' : zH} {r : (Nat ⊕ (Nat × Nat))} (hf : f_X1_outlet E p0 p1 h = some (r, h')) : zMet l yX1_outlet (ws_ yX1_outlet cX1_outlet 2 (Option.some (Jvm.ClassFile.FieldType.object "FranchiseLedger$Outlet"))) 10 154 D B0 E [.ref p0, .int p1] h (zoT zoR r) h' := by
  unfold f_X1_outlet at hf
  refine zMet_of hst (by decide +kernel) rfl rfl (Nat.le_of_ble_eq_true rfl) (fun p e R s m below meth c C0 hno => ?_)
  show zW _ _ _ _ _ _ _ _ _ _ _ _ _ _ _ _ [(0, .ref p0), (1, .int p1)] []
  exact w_X1_outlet_b0 C0 hno hf
def f_X1_requireMonth_b0 (E : zE) (p0 : Nat) (h : zH) : Option ((Unit ⊕ (Nat × Nat)) × zH) :=
  (gR h p0 0 1).bind fun x1 =>
  (gI h x1 4 5).bind fun x3 =>
  if x3 = (60 : Int32) then (
    bnd2 (nO h 22 6 []) fun q6 h7 =>
    (ckt h7 q6 22).bind fun _ =>
    some (.inr (22, q6), h7)
  ) else (
    some (.inl (), h)
  )
theorem w_X1_requireMonth_b0 (C0 : zCx p l e R s m args below meth c D B0 1 "FranchiseLedger" cX1_requireMonth E 9 130 (Option.none : Option Jvm.ClassFile.FieldType) "requireMonth") (hno : ∀ x ∈ c.exceptionTable.toList, False) {r : (Unit ⊕ (Nat × Nat))} {h' : zH} {p0 : Nat} {h : zH} (hf : f_X1_requireMonth_b0 E p0 h = some (r, h')) : zW p l e R s m args below meth c D B0 1 (zEnd D B0 R below args s (zoT zoV r) h') h 0 [(0, .ref p0)] [] := by
  unfold f_X1_requireMonth_b0 at hf
  refine zr_aload_n C0 dX1_requireMonth_0 rfl 0 rfl ?_
  obtain ⟨x1, e2, hf⟩ := zbind hf
  refine zr_get C0 fl_X1_39_X1 dX1_requireMonth_1 (zgR e2) ?_
  obtain ⟨x3, e4, hf⟩ := zbind hf
  refine zr_get C0 fl_X1_111_X4 dX1_requireMonth_4 (zgI e4) ?_
  refine zr_bipush C0 (v := 60) dX1_requireMonth_7 (by decide) ?_
  refine zr_icmp_ne C0 (tgt := 20) dX1_requireMonth_9 (by decide) (fun c5 => ?_) (fun c5 => ?_)
  · have hf := zif_f c5 hf
    refine zretW hf ?_
    exact zr_vret C0 rfl dX1_requireMonth_20 rfl
  · have hf := zif_t c5 hf
    obtain ⟨q6, h7, e8, hf⟩ := zbind2 hf
    refine zr_exc C0 ex_X1_114_116 (by decide) (by decide) dX1_requireMonth_12 dX1_requireMonth_15 dX1_requireMonth_16 (Nat.le_of_ble_eq_true rfl) e8 ?_
    obtain ⟨_, e9, hf⟩ := zbind hf
    refine zretW hf ?_
    exact zr_athrow C0 dX1_requireMonth_19 (zckt e9) (zr_out C0 hno rfl)
def f_X1_requireMonth (E : zE) (p0 : Nat) (h : zH) : Option ((Unit ⊕ (Nat × Nat)) × zH) := f_X1_requireMonth_b0 E p0 h
theorem m_X1_requireMonth {l : Launch} (hst : l.stackTraces = false) {D : zD} {B0 : Nat} {E : zE} {p0 : Nat} {h h' : zH} {r : (Unit ⊕ (Nat × Nat))} (hf : f_X1_requireMonth E p0 h = some (r, h')) : zMet l yX1_requireMonth (ws_ yX1_requireMonth cX1_requireMonth 1 (Option.none : Option Jvm.ClassFile.FieldType)) 9 130 D B0 E [.ref p0] h (zoT zoV r) h' := by
  unfold f_X1_requireMonth at hf
  refine zMet_of hst (by decide +kernel) rfl rfl (Nat.le_of_ble_eq_true rfl) (fun p e R s m below meth c C0 hno => ?_)
  show zW _ _ _ _ _ _ _ _ _ _ _ _ _ _ _ _ [(0, .ref p0)] []
  exact w_X1_requireMonth_b0 C0 hno hf
def f_X1_reportSales_b0 (E : zE) (p0 : Nat) (p1 : Int32) (p2 : Int64) (h : zH) : Option ((Int64 ⊕ (Nat × Nat)) × zH) :=
  (cko h p0 0).bind fun _ =>
  bnd2 (f_X1_outlet E p0 p1 h) fun x4 h2 =>
  Sum.elim (fun x5 => (
    bnd2 (nA h2 3 (1 : Int32) (.inl fun _ => 0)) fun q7 h8 =>
    bnd2 (f_X1_inRange E p2 (0 : Int64) (10000000 : Int64) h8) fun x12 h10 =>
    (zgd .boolean x12).bind fun _ =>
    (sI h10 q7 3 (0 : Int32) x12).bind fun h14 =>
    bnd2 (f_X1_requireArguments E q7 h14) fun x18 h16 =>
    Sum.elim (fun x19 => (
      (cko h16 p0 0).bind fun _ =>
      bnd2 (f_X1_requireMonth E p0 h16) fun x24 h22 =>
      Sum.elim (fun x25 => (
        (cko h22 x5 13).bind fun _ =>
        bnd2 (f_X14_isOpen E x5 h22) fun x30 h28 =>
        if x30 = 0 then (
          some (.inl (-1 : Int64), h28)
        ) else (
          (gL h28 x5 13 2).bind fun x32 =>
          (pF h28 x5 13 2 (.long p2)).bind fun h34 =>
          some (.inl x32, h34)
        )
      )) (fun q26 => (
        some (.inr q26, h22)
      )) x24
    )) (fun q20 => (
      some (.inr q20, h16)
    )) x18
  )) (fun q6 => (
    some (.inr q6, h2)
  )) x4
theorem w_X1_reportSales_b0 (C0 : zCx p l e R s m args below meth c D B0 7 "FranchiseLedger" cX1_reportSales E 11 175 (Option.some Jvm.ClassFile.FieldType.long) "reportSales") (hno : ∀ x ∈ c.exceptionTable.toList, False) {r : (Int64 ⊕ (Nat × Nat))} {h' : zH} {p0 : Nat} {p1 : Int32} {p2 : Int64} {h : zH} (hf : f_X1_reportSales_b0 E p0 p1 p2 h = some (r, h')) : zW p l e R s m args below meth c D B0 7 (zEnd D B0 R below args s (zoT zoL r) h') h 0 [(0, .ref p0), (1, .int p1), (2, .long p2)] [] := by
  unfold f_X1_reportSales_b0 at hf
  refine zr_aload_n C0 dX1_reportSales_0 rfl 0 rfl ?_
  refine zr_iload_n C0 dX1_reportSales_1 rfl 1 rfl ?_
  obtain ⟨_, e1, hf⟩ := zbind hf
  obtain ⟨x4, h2, e3, hf⟩ := zbind2 hf
  rcases x4 with x5 | q6
  · have hf := zinl hf
    refine zr_callV_r C0 cv_X1_121_X1 rfl (zcko e1) (m_X1_outlet C0.2.2.2.2.2.2.1 e3) (by decide) (by decide) rfl rfl (Nat.le_of_ble_eq_true rfl) dX1_reportSales_2 rfl ?_
    refine zr_astore (i := 4) (lv' := [(4, .ref x5), (0, .ref p0), (1, .int p1), (2, .long p2)]) C0 dX1_reportSales_5 (by decide) (by first | rfl | simp [zst1, zst2, zcat_rf]) ?_
    refine zr_iconst C0 (v := 1) dX1_reportSales_7 (by decide) ?_
    obtain ⟨q7, h8, e9, hf⟩ := zbind2 hf
    refine zr_newa C0 (atype := .boolean) (t := 3) q627 rfl (by decide) (fun _ => rfl) dX1_reportSales_8 e9 ?_
    refine zr_dup C0 dX1_reportSales_10 rfl ?_
    refine zr_iconst C0 (v := 0) dX1_reportSales_11 (by decide) ?_
    refine zr_lload_n C0 dX1_reportSales_12 rfl 3 rfl ?_
    refine zr_lconst C0 (v := 0) dX1_reportSales_13 (by decide) ?_
    refine zr_ldc2 C0 (v := 10000000) q1835 dX1_reportSales_14 ?_
    obtain ⟨x12, h10, e11, hf⟩ := zbind2 hf
    refine zr_callS_r C0 cv_X1_84 (m_X1_inRange C0.2.2.2.2.2.2.1 e11) (by decide) (by decide) rfl rfl (Nat.le_of_ble_eq_true rfl) dX1_reportSales_17 rfl ?_
    obtain ⟨_, e13, hf⟩ := zbind hf
    obtain ⟨h14, e15, hf⟩ := zbind hf
    refine zr_zast C0 dX1_reportSales_20 (zgd_b e13) e15 ?_
    obtain ⟨x18, h16, e17, hf⟩ := zbind2 hf
    rcases x18 with x19 | q20
    · have hf := zinl hf
      refine zr_callS_r C0 cv_X1_168 (m_X1_requireArguments C0.2.2.2.2.2.2.1 e17) (by decide) (by decide) rfl rfl (Nat.le_of_ble_eq_true rfl) dX1_reportSales_21 rfl ?_
      refine zr_aload_n C0 dX1_reportSales_24 rfl 1 rfl ?_
      obtain ⟨_, e21, hf⟩ := zbind hf
      obtain ⟨x24, h22, e23, hf⟩ := zbind2 hf
      rcases x24 with x25 | q26
      · have hf := zinl hf
        refine zr_callV_r C0 cv_X1_264_X1 rfl (zcko e21) (m_X1_requireMonth C0.2.2.2.2.2.2.1 e23) (by decide) (by decide) rfl rfl (Nat.le_of_ble_eq_true rfl) dX1_reportSales_25 rfl ?_
        refine zr_aload C0 dX1_reportSales_28 0 rfl ?_
        obtain ⟨_, e27, hf⟩ := zbind hf
        obtain ⟨x30, h28, e29, hf⟩ := zbind2 hf
        refine zr_callV_r C0 cv_X1_267_X14 rfl (zcko e27) (m_X14_isOpen C0.2.2.2.2.2.2.1 e29) (by decide) (by decide) rfl rfl (Nat.le_of_ble_eq_true rfl) dX1_reportSales_30 rfl ?_
        refine zr_if_ne C0 (tgt := 40) dX1_reportSales_33 (by decide) (fun c31 => ?_) (fun c31 => ?_)
        · have hf := zif_f c31 hf
          refine zr_aload C0 dX1_reportSales_40 0 rfl ?_
          obtain ⟨x32, e33, hf⟩ := zbind hf
          refine zr_get C0 fl_X1_272_X14 dX1_reportSales_42 (zgL e33) ?_
          refine zr_lstore (i := 5) (lv' := [(5, .long x32), (4, .ref x5), (0, .ref p0), (1, .int p1), (2, .long p2)]) C0 dX1_reportSales_45 (by decide) (by first | rfl | simp [zst1, zst2, zcat_rf]) ?_
          refine zr_aload C0 dX1_reportSales_47 1 rfl ?_
          refine zr_lload_n C0 dX1_reportSales_49 rfl 4 rfl ?_
          obtain ⟨h34, e35, hf⟩ := zbind hf
          refine zr_put C0 pl_X1_272_X14 dX1_reportSales_50 (fun h => by cases h) rfl rfl e35 ?_
          refine zr_lload C0 dX1_reportSales_53 0 rfl ?_
          refine zretW hf ?_
          exact zr_lret C0 rfl dX1_reportSales_55 rfl
        · have hf := zif_t c31 hf
          refine zr_ldc2 C0 (v := -1) q1855 dX1_reportSales_36 ?_
          refine zretW hf ?_
          exact zr_lret C0 rfl dX1_reportSales_39 rfl
      · have hf := zinr hf
        refine zretW hf ?_
        exact zr_callV_t C0 cv_X1_264_X1 rfl (zcko e21) (m_X1_requireMonth C0.2.2.2.2.2.2.1 e23) (by decide) (by decide) rfl rfl (Nat.le_of_ble_eq_true rfl) dX1_reportSales_25 (zr_out C0 hno rfl)
    · have hf := zinr hf
      refine zretW hf ?_
      exact zr_callS_t C0 cv_X1_168 (m_X1_requireArguments C0.2.2.2.2.2.2.1 e17) (by decide) (by decide) rfl rfl (Nat.le_of_ble_eq_true rfl) dX1_reportSales_21 (zr_out C0 hno rfl)
  · have hf := zinr hf
    refine zretW hf ?_
    exact zr_callV_t C0 cv_X1_121_X1 rfl (zcko e1) (m_X1_outlet C0.2.2.2.2.2.2.1 e3) (by decide) (by decide) rfl rfl (Nat.le_of_ble_eq_true rfl) dX1_reportSales_2 (zr_out C0 hno rfl)
def f_X1_reportSales (E : zE) (p0 : Nat) (p1 : Int32) (p2 : Int64) (h : zH) : Option ((Int64 ⊕ (Nat × Nat)) × zH) := f_X1_reportSales_b0 E p0 p1 p2 h
theorem m_X1_reportSales {l : Launch} (hst : l.stackTraces = false) {D : zD} {B0 : Nat} {E : zE} {p0 : Nat} {p1 : Int32} {p2 : Int64} {h h' : zH} {r : (Int64 ⊕ (Nat × Nat))} (hf : f_X1_reportSales E p0 p1 p2 h = some (r, h')) : zMet l yX1_reportSales (ws_ yX1_reportSales cX1_reportSales 7 (Option.some Jvm.ClassFile.FieldType.long)) 11 175 D B0 E [.ref p0, .int p1, .long p2] h (zoT zoL r) h' := by
  unfold f_X1_reportSales at hf
  refine zMet_of hst (by decide +kernel) rfl rfl (Nat.le_of_ble_eq_true rfl) (fun p e R s m below meth c C0 hno => ?_)
  show zW _ _ _ _ _ _ _ _ _ _ _ _ _ _ _ _ [(0, .ref p0), (1, .int p1), (2, .long p2)] []
  exact w_X1_reportSales_b0 C0 hno hf
def f_X15_x_b0 (E : zE) (p0 : Nat) (h : zH) : Option (Int32 × zH) :=
  (gI h p0 14 2).bind fun x1 =>
  some (x1, h)
theorem w_X15_x_b0 (C0 : zCx p l e R s m args below meth c D B0 1 "FranchiseLedger$Posting" cX15_x E 1 60 (Option.some Jvm.ClassFile.FieldType.int) "x") {r : Int32} {h' : zH} {p0 : Nat} {h : zH} (hf : f_X15_x_b0 E p0 h = some (r, h')) : zW p l e R s m args below meth c D B0 1 (zEnd D B0 R below args s (zoI r) h') h 0 [(0, .ref p0)] [] := by
  unfold f_X15_x_b0 at hf
  refine zr_aload_n C0 dX15_x_0 rfl 0 rfl ?_
  obtain ⟨x1, e2, hf⟩ := zbind hf
  refine zr_get C0 fl_X15_16_X15 dX15_x_1 (zgI e2) ?_
  refine zretW hf ?_
  exact zr_iret C0 (ty := .int) rfl rfl dX15_x_4 rfl
def f_X15_x (E : zE) (p0 : Nat) (h : zH) : Option (Int32 × zH) := f_X15_x_b0 E p0 h
theorem m_X15_x {l : Launch} (hst : l.stackTraces = false) {D : zD} {B0 : Nat} {E : zE} {p0 : Nat} {h h' : zH} {r : Int32} (hf : f_X15_x E p0 h = some (r, h')) : zMet l yX15_x (ws_ yX15_x cX15_x 1 (Option.some Jvm.ClassFile.FieldType.int)) 1 60 D B0 E [.ref p0] h (zoI r) h' := by
  unfold f_X15_x at hf
  refine zMet_of hst (by decide +kernel) rfl rfl (Nat.le_of_ble_eq_true rfl) (fun p e R s m below meth c C0 hno => ?_)
  show zW _ _ _ _ _ _ _ _ _ _ _ _ _ _ _ _ [(0, .ref p0)] []
  exact w_X15_x_b0 C0 hf
def f_X15_y_b0 (E : zE) (p0 : Nat) (h : zH) : Option (Int32 × zH) :=
  (gI h p0 14 3).bind fun x1 =>
  some (x1, h)
theorem w_X15_y_b0 (C0 : zCx p l e R s m args below meth c D B0 1 "FranchiseLedger$Posting" cX15_y E 1 60 (Option.some Jvm.ClassFile.FieldType.int) "y") {r : Int32} {h' : zH} {p0 : Nat} {h : zH} (hf : f_X15_y_b0 E p0 h = some (r, h')) : zW p l e R s m args below meth c D B0 1 (zEnd D B0 R below args s (zoI r) h') h 0 [(0, .ref p0)] [] := by
  unfold f_X15_y_b0 at hf
  refine zr_aload_n C0 dX15_y_0 rfl 0 rfl ?_
  obtain ⟨x1, e2, hf⟩ := zbind hf
  refine zr_get C0 fl_X15_19_X15 dX15_y_1 (zgI e2) ?_
  refine zretW hf ?_
  exact zr_iret C0 (ty := .int) rfl rfl dX15_y_4 rfl
def f_X15_y (E : zE) (p0 : Nat) (h : zH) : Option (Int32 × zH) := f_X15_y_b0 E p0 h
theorem m_X15_y {l : Launch} (hst : l.stackTraces = false) {D : zD} {B0 : Nat} {E : zE} {p0 : Nat} {h h' : zH} {r : Int32} (hf : f_X15_y E p0 h = some (r, h')) : zMet l yX15_y (ws_ yX15_y cX15_y 1 (Option.some Jvm.ClassFile.FieldType.int)) 1 60 D B0 E [.ref p0] h (zoI r) h' := by
  unfold f_X15_y at hf
  refine zMet_of hst (by decide +kernel) rfl rfl (Nat.le_of_ble_eq_true rfl) (fun p e R s m below meth c C0 hno => ?_)
  show zW _ _ _ _ _ _ _ _ _ _ _ _ _ _ _ _ [(0, .ref p0)] []
  exact w_X15_y_b0 C0 hf
def f_X1_isPlace_b29 (E : zE) (s0 : Int32) (h : zH) : Option (Int32 × zH) :=
  (zgd .boolean s0).bind fun _ =>
  some (s0, h)
theorem w_X1_isPlace_b29 (C0 : zCx p l e R s m args below meth c D B0 2 "FranchiseLedger" cX1_isPlace E 2 85 (Option.some Jvm.ClassFile.FieldType.boolean) "isPlace") {r : Int32} {h' : zH} {s0 : Int32} {h : zH} (hf : f_X1_isPlace_b29 E s0 h = some (r, h')) : zW p l e R s m args below meth c D B0 2 (zEnd D B0 R below args s (zoI r) h') h 29 [] [.int s0] := by
  unfold f_X1_isPlace_b29 at hf
  obtain ⟨_, e1, hf⟩ := zbind hf
  refine zretW hf ?_
  exact zr_iret C0 (ty := .boolean) rfl (zgd_n e1) dX1_isPlace_29 rfl
def f_X1_isPlace_b28 (E : zE) (h : zH) : Option (Int32 × zH) :=
  f_X1_isPlace_b29 E (0 : Int32) h
theorem w_X1_isPlace_b28 (C0 : zCx p l e R s m args below meth c D B0 2 "FranchiseLedger" cX1_isPlace E 2 85 (Option.some Jvm.ClassFile.FieldType.boolean) "isPlace") {r : Int32} {h' : zH} {h : zH} (hf : f_X1_isPlace_b28 E  h = some (r, h')) : zW p l e R s m args below meth c D B0 2 (zEnd D B0 R below args s (zoI r) h') h 28 [] [] := by
  unfold f_X1_isPlace_b28 at hf
  refine zr_iconst C0 (v := 0) dX1_isPlace_28 (by decide) ?_
  exact w_X1_isPlace_b29 C0 hf
def f_X1_isPlace_b0 (E : zE) (p0 : Int32) (p1 : Int32) (h : zH) : Option (Int32 × zH) :=
  bnd2 (f_X1_inRange E (p0.toInt64) (0 : Int64) (29 : Int64) h) fun x3 h1 =>
  if x3 = 0 then (
    f_X1_isPlace_b28 E  h1
  ) else (
    bnd2 (f_X1_inRange E (p1.toInt64) (0 : Int64) (29 : Int64) h1) fun x7 h5 =>
    if x7 = 0 then (
      f_X1_isPlace_b28 E  h5
    ) else (
      f_X1_isPlace_b29 E (1 : Int32) h5
    )
  )
theorem w_X1_isPlace_b0 (C0 : zCx p l e R s m args below meth c D B0 2 "FranchiseLedger" cX1_isPlace E 2 85 (Option.some Jvm.ClassFile.FieldType.boolean) "isPlace") {r : Int32} {h' : zH} {p0 : Int32} {p1 : Int32} {h : zH} (hf : f_X1_isPlace_b0 E p0 p1 h = some (r, h')) : zW p l e R s m args below meth c D B0 2 (zEnd D B0 R below args s (zoI r) h') h 0 [(0, .int p0), (1, .int p1)] [] := by
  unfold f_X1_isPlace_b0 at hf
  refine zr_iload_n C0 dX1_isPlace_0 rfl 0 rfl ?_
  refine zr_i2l C0 dX1_isPlace_1 ?_
  refine zr_lconst C0 (v := 0) dX1_isPlace_2 (by decide) ?_
  refine zr_ldc2 C0 (v := 29) q1871 dX1_isPlace_3 ?_
  obtain ⟨x3, h1, e2, hf⟩ := zbind2 hf
  refine zr_callS_r C0 cv_X1_84 (m_X1_inRange C0.2.2.2.2.2.2.1 e2) (by decide) (by decide) rfl rfl (Nat.le_of_ble_eq_true rfl) dX1_isPlace_6 rfl ?_
  refine zr_if_eq C0 (tgt := 28) dX1_isPlace_9 (by decide) (fun c4 => ?_) (fun c4 => ?_)
  · have hf := zif_t c4 hf
    refine zr_sub [] rfl ?_
    exact w_X1_isPlace_b28 C0 hf
  · have hf := zif_f c4 hf
    refine zr_iload_n C0 dX1_isPlace_12 rfl 1 rfl ?_
    refine zr_i2l C0 dX1_isPlace_13 ?_
    refine zr_lconst C0 (v := 0) dX1_isPlace_14 (by decide) ?_
    refine zr_ldc2 C0 (v := 29) q1871 dX1_isPlace_15 ?_
    obtain ⟨x7, h5, e6, hf⟩ := zbind2 hf
    refine zr_callS_r C0 cv_X1_84 (m_X1_inRange C0.2.2.2.2.2.2.1 e6) (by decide) (by decide) rfl rfl (Nat.le_of_ble_eq_true rfl) dX1_isPlace_18 rfl ?_
    refine zr_if_eq C0 (tgt := 28) dX1_isPlace_21 (by decide) (fun c8 => ?_) (fun c8 => ?_)
    · have hf := zif_t c8 hf
      refine zr_sub [] rfl ?_
      exact w_X1_isPlace_b28 C0 hf
    · have hf := zif_f c8 hf
      refine zr_iconst C0 (v := 1) dX1_isPlace_24 (by decide) ?_
      refine zr_goto C0 (tgt := 29) dX1_isPlace_25 (by decide) ?_
      refine zr_sub [] rfl ?_
      exact w_X1_isPlace_b29 C0 hf
def f_X1_isPlace (E : zE) (p0 : Int32) (p1 : Int32) (h : zH) : Option (Int32 × zH) := f_X1_isPlace_b0 E p0 p1 h
theorem m_X1_isPlace {l : Launch} (hst : l.stackTraces = false) {D : zD} {B0 : Nat} {E : zE} {p0 : Int32} {p1 : Int32} {h h' : zH} {r : Int32} (hf : f_X1_isPlace E p0 p1 h = some (r, h')) : zMet l yX1_isPlace (ws_ yX1_isPlace cX1_isPlace 2 (Option.some Jvm.ClassFile.FieldType.boolean)) 2 85 D B0 E [.int p0, .int p1] h (zoI r) h' := by
  unfold f_X1_isPlace at hf
  refine zMet_of hst (by decide +kernel) rfl rfl (Nat.le_of_ble_eq_true rfl) (fun p e R s m below meth c C0 hno => ?_)
  show zW _ _ _ _ _ _ _ _ _ _ _ _ _ _ _ _ [(0, .int p0), (1, .int p1)] []
  exact w_X1_isPlace_b0 C0 hf
def f_X1_isFranchisee_b0 (E : zE) (p0 : Nat) (p1 : Int32) (h : zH) : Option (Int32 × zH) :=
  (gR h p0 0 1).bind fun x1 =>
  (gR h x1 4 0).bind fun x3 =>
  (cko h x3 15).bind fun _ =>
  bnd2 (f_J2_size E x3 h) fun x8 h6 =>
  bnd2 (f_X1_inRange E (p1.toInt64) (0 : Int64) ((x8 - (1 : Int32)).toInt64) h6) fun x11 h9 =>
  (zgd .boolean x11).bind fun _ =>
  some (x11, h9)
theorem w_X1_isFranchisee_b0 (C0 : zCx p l e R s m args below meth c D B0 2 "FranchiseLedger" cX1_isFranchisee E 2 85 (Option.some Jvm.ClassFile.FieldType.boolean) "isFranchisee") {r : Int32} {h' : zH} {p0 : Nat} {p1 : Int32} {h : zH} (hf : f_X1_isFranchisee_b0 E p0 p1 h = some (r, h')) : zW p l e R s m args below meth c D B0 2 (zEnd D B0 R below args s (zoI r) h') h 0 [(0, .ref p0), (1, .int p1)] [] := by
  unfold f_X1_isFranchisee_b0 at hf
  refine zr_iload_n C0 dX1_isFranchisee_0 rfl 1 rfl ?_
  refine zr_i2l C0 dX1_isFranchisee_1 ?_
  refine zr_lconst C0 (v := 0) dX1_isFranchisee_2 (by decide) ?_
  refine zr_aload_n C0 dX1_isFranchisee_3 rfl 0 rfl ?_
  obtain ⟨x1, e2, hf⟩ := zbind hf
  refine zr_get C0 fl_X1_39_X1 dX1_isFranchisee_4 (zgR e2) ?_
  obtain ⟨x3, e4, hf⟩ := zbind hf
  refine zr_get C0 fl_X1_74_X4 dX1_isFranchisee_7 (zgR e4) ?_
  obtain ⟨_, e5, hf⟩ := zbind hf
  obtain ⟨x8, h6, e7, hf⟩ := zbind2 hf
  refine zr_callF_r C0 cv_X1_78_J2 rfl (zcko e5) (m_J2_size C0.2.2.2.2.2.2.1 e7) (by decide) (by decide) rfl rfl (Nat.le_of_ble_eq_true rfl) dX1_isFranchisee_10 rfl ?_
  refine zr_iconst C0 (v := 1) dX1_isFranchisee_15 (by decide) ?_
  refine zr_isub C0 dX1_isFranchisee_16 ?_
  refine zr_i2l C0 dX1_isFranchisee_17 ?_
  obtain ⟨x11, h9, e10, hf⟩ := zbind2 hf
  refine zr_callS_r C0 cv_X1_84 (m_X1_inRange C0.2.2.2.2.2.2.1 e10) (by decide) (by decide) rfl rfl (Nat.le_of_ble_eq_true rfl) dX1_isFranchisee_18 rfl ?_
  obtain ⟨_, e12, hf⟩ := zbind hf
  refine zretW hf ?_
  exact zr_iret C0 (ty := .boolean) rfl (zgd_n e12) dX1_isFranchisee_21 rfl
def f_X1_isFranchisee (E : zE) (p0 : Nat) (p1 : Int32) (h : zH) : Option (Int32 × zH) := f_X1_isFranchisee_b0 E p0 p1 h
theorem m_X1_isFranchisee {l : Launch} (hst : l.stackTraces = false) {D : zD} {B0 : Nat} {E : zE} {p0 : Nat} {p1 : Int32} {h h' : zH} {r : Int32} (hf : f_X1_isFranchisee E p0 p1 h = some (r, h')) : zMet l yX1_isFranchisee (ws_ yX1_isFranchisee cX1_isFranchisee 2 (Option.some Jvm.ClassFile.FieldType.boolean)) 2 85 D B0 E [.ref p0, .int p1] h (zoI r) h' := by
  unfold f_X1_isFranchisee at hf
  refine zMet_of hst (by decide +kernel) rfl rfl (Nat.le_of_ble_eq_true rfl) (fun p e R s m below meth c C0 hno => ?_)
  show zW _ _ _ _ _ _ _ _ _ _ _ _ _ _ _ _ [(0, .ref p0), (1, .int p1)] []
  exact w_X1_isFranchisee_b0 C0 hf
def f_X1_franchisee_b0 (E : zE) (p0 : Nat) (p1 : Int32) (h : zH) : Option ((Nat ⊕ (Nat × Nat)) × zH) :=
  bnd2 (nA h 3 (1 : Int32) (.inl fun _ => 0)) fun q1 h2 =>
  (cko h2 p0 0).bind fun _ =>
  bnd2 (f_X1_isFranchisee E p0 p1 h2) fun x7 h5 =>
  (zgd .boolean x7).bind fun _ =>
  (sI h5 q1 3 (0 : Int32) x7).bind fun h9 =>
  bnd2 (f_X1_requireIndex E q1 h9) fun x13 h11 =>
  Sum.elim (fun x14 => (
    (gR h11 p0 0 1).bind fun x16 =>
    (gR h11 x16 4 0).bind fun x18 =>
    (cko h11 x18 15).bind fun _ =>
    bnd2 (f_J2_get E x18 p1 h11) fun x23 h21 =>
    (cko h21 x23 10).bind fun _ =>
    some (.inl x23, h21)
  )) (fun q15 => (
    some (.inr q15, h11)
  )) x13
theorem w_X1_franchisee_b0 (C0 : zCx p l e R s m args below meth c D B0 2 "FranchiseLedger" cX1_franchisee E 10 154 (Option.some (Jvm.ClassFile.FieldType.object "FranchiseLedger$Franchisee")) "franchisee") (hno : ∀ x ∈ c.exceptionTable.toList, False) {r : (Nat ⊕ (Nat × Nat))} {h' : zH} {p0 : Nat} {p1 : Int32} {h : zH} (hf : f_X1_franchisee_b0 E p0 p1 h = some (r, h')) : zW p l e R s m args below meth c D B0 2 (zEnd D B0 R below args s (zoT zoR r) h') h 0 [(0, .ref p0), (1, .int p1)] [] := by
  unfold f_X1_franchisee_b0 at hf
  refine zr_iconst C0 (v := 1) dX1_franchisee_0 (by decide) ?_
  obtain ⟨q1, h2, e3, hf⟩ := zbind2 hf
  refine zr_newa C0 (atype := .boolean) (t := 3) q627 rfl (by decide) (fun _ => rfl) dX1_franchisee_1 e3 ?_
  refine zr_dup C0 dX1_franchisee_3 rfl ?_
  refine zr_iconst C0 (v := 0) dX1_franchisee_4 (by decide) ?_
  refine zr_aload_n C0 dX1_franchisee_5 rfl 0 rfl ?_
  refine zr_iload_n C0 dX1_franchisee_6 rfl 1 rfl ?_
  obtain ⟨_, e4, hf⟩ := zbind hf
  obtain ⟨x7, h5, e6, hf⟩ := zbind2 hf
  refine zr_callV_r C0 cv_X1_88_X1 rfl (zcko e4) (m_X1_isFranchisee C0.2.2.2.2.2.2.1 e6) (by decide) (by decide) rfl rfl (Nat.le_of_ble_eq_true rfl) dX1_franchisee_7 rfl ?_
  obtain ⟨_, e8, hf⟩ := zbind hf
  obtain ⟨h9, e10, hf⟩ := zbind hf
  refine zr_zast C0 dX1_franchisee_10 (zgd_b e8) e10 ?_
  obtain ⟨x13, h11, e12, hf⟩ := zbind2 hf
  rcases x13 with x14 | q15
  · have hf := zinl hf
    refine zr_callS_r C0 cv_X1_92 (m_X1_requireIndex C0.2.2.2.2.2.2.1 e12) (by decide) (by decide) rfl rfl (Nat.le_of_ble_eq_true rfl) dX1_franchisee_11 rfl ?_
    refine zr_aload_n C0 dX1_franchisee_14 rfl 0 rfl ?_
    obtain ⟨x16, e17, hf⟩ := zbind hf
    refine zr_get C0 fl_X1_39_X1 dX1_franchisee_15 (zgR e17) ?_
    obtain ⟨x18, e19, hf⟩ := zbind hf
    refine zr_get C0 fl_X1_74_X4 dX1_franchisee_18 (zgR e19) ?_
    refine zr_iload_n C0 dX1_franchisee_21 rfl 1 rfl ?_
    obtain ⟨_, e20, hf⟩ := zbind hf
    obtain ⟨x23, h21, e22, hf⟩ := zbind2 hf
    refine zr_callF_r C0 cv_X1_96_J2 rfl (zcko e20) (m_J2_get C0.2.2.2.2.2.2.1 e22) (by decide) (by decide) rfl rfl (Nat.le_of_ble_eq_true rfl) dX1_franchisee_22 rfl ?_
    obtain ⟨_, e24, hf⟩ := zbind hf
    refine zr_castS C0 (ci := 10) rfl (zcko e24) q815 dX1_franchisee_27 ?_
    refine zretW hf ?_
    exact zr_aret C0 rfl (Or.inl ⟨_, rfl⟩) dX1_franchisee_30 rfl
  · have hf := zinr hf
    refine zretW hf ?_
    exact zr_callS_t C0 cv_X1_92 (m_X1_requireIndex C0.2.2.2.2.2.2.1 e12) (by decide) (by decide) rfl rfl (Nat.le_of_ble_eq_true rfl) dX1_franchisee_11 (zr_out C0 hno rfl)
def f_X1_franchisee (E : zE) (p0 : Nat) (p1 : Int32) (h : zH) : Option ((Nat ⊕ (Nat × Nat)) × zH) := f_X1_franchisee_b0 E p0 p1 h
theorem m_X1_franchisee {l : Launch} (hst : l.stackTraces = false) {D : zD} {B0 : Nat} {E : zE} {p0 : Nat} {p1 : Int32} {h h' : zH} {r : (Nat ⊕ (Nat × Nat))} (hf : f_X1_franchisee E p0 p1 h = some (r, h')) : zMet l yX1_franchisee (ws_ yX1_franchisee cX1_franchisee 2 (Option.some (Jvm.ClassFile.FieldType.object "FranchiseLedger$Franchisee"))) 10 154 D B0 E [.ref p0, .int p1] h (zoT zoR r) h' := by
  unfold f_X1_franchisee at hf
  refine zMet_of hst (by decide +kernel) rfl rfl (Nat.le_of_ble_eq_true rfl) (fun p e R s m below meth c C0 hno => ?_)
  show zW _ _ _ _ _ _ _ _ _ _ _ _ _ _ _ _ [(0, .ref p0), (1, .int p1)] []
  exact w_X1_franchisee_b0 C0 hno hf
def f_X11_isActive_b12 (E : zE) (s0 : Int32) (h : zH) : Option (Int32 × zH) :=
  (zgd .boolean s0).bind fun _ =>
  some (s0, h)
theorem w_X11_isActive_b12 (C0 : zCx p l e R s m args below meth c D B0 1 "FranchiseLedger$Franchisee" cX11_isActive E 1 60 (Option.some Jvm.ClassFile.FieldType.boolean) "isActive") {r : Int32} {h' : zH} {s0 : Int32} {h : zH} (hf : f_X11_isActive_b12 E s0 h = some (r, h')) : zW p l e R s m args below meth c D B0 1 (zEnd D B0 R below args s (zoI r) h') h 12 [] [.int s0] := by
  unfold f_X11_isActive_b12 at hf
  obtain ⟨_, e1, hf⟩ := zbind hf
  refine zretW hf ?_
  exact zr_iret C0 (ty := .boolean) rfl (zgd_n e1) dX11_isActive_12 rfl
def f_X11_isActive_b0 (E : zE) (p0 : Nat) (h : zH) : Option (Int32 × zH) :=
  (gI h p0 10 5).bind fun x1 =>
  if x1 = 0 then (
    f_X11_isActive_b12 E (1 : Int32) h
  ) else (
    f_X11_isActive_b12 E (0 : Int32) h
  )
theorem w_X11_isActive_b0 (C0 : zCx p l e R s m args below meth c D B0 1 "FranchiseLedger$Franchisee" cX11_isActive E 1 60 (Option.some Jvm.ClassFile.FieldType.boolean) "isActive") {r : Int32} {h' : zH} {p0 : Nat} {h : zH} (hf : f_X11_isActive_b0 E p0 h = some (r, h')) : zW p l e R s m args below meth c D B0 1 (zEnd D B0 R below args s (zoI r) h') h 0 [(0, .ref p0)] [] := by
  unfold f_X11_isActive_b0 at hf
  refine zr_aload_n C0 dX11_isActive_0 rfl 0 rfl ?_
  obtain ⟨x1, e2, hf⟩ := zbind hf
  refine zr_get C0 fl_X11_27_X11 dX11_isActive_1 (zgI e2) ?_
  refine zr_if_ne C0 (tgt := 11) dX11_isActive_4 (by decide) (fun c3 => ?_) (fun c3 => ?_)
  · have hf := zif_f c3 hf
    refine zr_iconst C0 (v := 0) dX11_isActive_11 (by decide) ?_
    refine zr_sub [] rfl ?_
    exact w_X11_isActive_b12 C0 hf
  · have hf := zif_t c3 hf
    refine zr_iconst C0 (v := 1) dX11_isActive_7 (by decide) ?_
    refine zr_goto C0 (tgt := 12) dX11_isActive_8 (by decide) ?_
    refine zr_sub [] rfl ?_
    exact w_X11_isActive_b12 C0 hf
def f_X11_isActive (E : zE) (p0 : Nat) (h : zH) : Option (Int32 × zH) := f_X11_isActive_b0 E p0 h
theorem m_X11_isActive {l : Launch} (hst : l.stackTraces = false) {D : zD} {B0 : Nat} {E : zE} {p0 : Nat} {h h' : zH} {r : Int32} (hf : f_X11_isActive E p0 h = some (r, h')) : zMet l yX11_isActive (ws_ yX11_isActive cX11_isActive 1 (Option.some Jvm.ClassFile.FieldType.boolean)) 1 60 D B0 E [.ref p0] h (zoI r) h' := by
  unfold f_X11_isActive at hf
  refine zMet_of hst (by decide +kernel) rfl rfl (Nat.le_of_ble_eq_true rfl) (fun p e R s m below meth c C0 hno => ?_)
  show zW _ _ _ _ _ _ _ _ _ _ _ _ _ _ _ _ [(0, .ref p0)] []
  exact w_X11_isActive_b0 C0 hf
def f_X1_deliver_b162 (E : zE) (p6 : Nat) (h : zH) : Option ((Int64 ⊕ (Nat × Nat)) × zH) :=
  (gL h p6 13 2).bind fun x1 =>
  some (.inl x1, h)
theorem w_X1_deliver_b162 (C0 : zCx p l e R s m args below meth c D B0 8 "FranchiseLedger" cX1_deliver E 11 175 (Option.some Jvm.ClassFile.FieldType.long) "deliver") (hno : ∀ x ∈ c.exceptionTable.toList, False) {r : (Int64 ⊕ (Nat × Nat))} {h' : zH} {p6 : Nat} {h : zH} (hf : f_X1_deliver_b162 E p6 h = some (r, h')) : zW p l e R s m args below meth c D B0 8 (zEnd D B0 R below args s (zoT zoL r) h') h 162 [(6, .ref p6)] [] := by
  unfold f_X1_deliver_b162 at hf
  refine zr_aload C0 dX1_deliver_162 0 rfl ?_
  obtain ⟨x1, e2, hf⟩ := zbind hf
  refine zr_get C0 fl_X1_272_X14 dX1_deliver_164 (zgL e2) ?_
  refine zretW hf ?_
  exact zr_lret C0 rfl dX1_deliver_167 rfl
def f_X1_deliver_b0 (E : zE) (p0 : Nat) (p1 : Int32) (p2 : Int32) (p3 : Int32) (p4 : Int64) (h : zH) : Option ((Int64 ⊕ (Nat × Nat)) × zH) :=
  (cko h p0 0).bind fun _ =>
  bnd2 (f_X1_outlet E p0 p1 h) fun x4 h2 =>
  Sum.elim (fun x5 => (
    bnd2 (nA h2 3 (2 : Int32) (.inl fun _ => 0)) fun q7 h8 =>
    bnd2 (f_X1_isPlace E p2 p3 h8) fun x12 h10 =>
    (zgd .boolean x12).bind fun _ =>
    (sI h10 q7 3 (0 : Int32) x12).bind fun h14 =>
    bnd2 (f_X1_inRange E p4 (1 : Int64) (10000000 : Int64) h14) fun x18 h16 =>
    (zgd .boolean x18).bind fun _ =>
    (sI h16 q7 3 (1 : Int32) x18).bind fun h20 =>
    bnd2 (f_X1_requireArguments E q7 h20) fun x24 h22 =>
    Sum.elim (fun x25 => (
      (cko h22 p0 0).bind fun _ =>
      bnd2 (f_X1_requireMonth E p0 h22) fun x30 h28 =>
      Sum.elim (fun x31 => (
        (cko h28 x5 13).bind fun _ =>
        bnd2 (f_X14_isOpen E x5 h28) fun x36 h34 =>
        if x36 = 0 then (
          some (.inl (-1 : Int64), h34)
        ) else (
          (gL h34 x5 13 2).bind fun x38 =>
          if (x38 + p4) ≤ (10000000 : Int64) then (
            (gL h34 x5 13 2).bind fun x41 =>
            (pF h34 x5 13 2 (.long (x41 + p4))).bind fun h43 =>
            (gR h43 p0 0 1).bind fun x45 =>
            (gR h43 x45 4 2).bind fun x47 =>
            (gR h43 x47 5 0).bind fun x49 =>
            bnd2 (f_X1_cell E p2 p3 h43) fun x53 h51 =>
            (dI h51 x49 2 x53).bind fun x54 =>
            if x54 = (-1 : Int32) then (
              f_X1_deliver_b162 E x5 h51
            ) else (
              (gI h51 x5 13 1).bind fun x57 =>
              if x54 = x57 then (
                f_X1_deliver_b162 E x5 h51
              ) else (
                (cko h51 p0 0).bind fun _ =>
                bnd2 (f_X1_franchisee E p0 x54 h51) fun x63 h61 =>
                Sum.elim (fun x64 => (
                  (cko h61 x64 10).bind fun _ =>
                  bnd2 (f_X11_isActive E x64 h61) fun x69 h67 =>
                  if x69 = 0 then (
                    f_X1_deliver_b162 E x5 h67
                  ) else (
                    (gI h67 x5 13 1).bind fun x71 =>
                    (cko h67 p0 0).bind fun _ =>
                    bnd2 (f_X1_franchisee E p0 x71 h67) fun x76 h74 =>
                    Sum.elim (fun x77 => (
                      (cko h74 x77 10).bind fun _ =>
                      bnd2 (f_X11_isActive E x77 h74) fun x82 h80 =>
                      if x82 = 0 then (
                        f_X1_deliver_b162 E x5 h80
                      ) else (
                        (gR h80 p0 0 1).bind fun x84 =>
                        (gR h80 x84 4 3).bind fun x86 =>
                        (gI h80 x5 13 1).bind fun x88 =>
                        (dR h80 x86 5 x88).bind fun x90 =>
                        (dL h80 x90 x54).bind fun x92 =>
                        (sL h80 x90 x54 (x92 + p4)).bind fun h94 =>
                        f_X1_deliver_b162 E x5 h94
                      )
                    )) (fun q78 => (
                      some (.inr q78, h74)
                    )) x76
                  )
                )) (fun q65 => (
                  some (.inr q65, h61)
                )) x63
              )
            )
          ) else (
            some (.inl (-3 : Int64), h34)
          )
        )
      )) (fun q32 => (
        some (.inr q32, h28)
      )) x30
    )) (fun q26 => (
      some (.inr q26, h22)
    )) x24
  )) (fun q6 => (
    some (.inr q6, h2)
  )) x4
theorem w_X1_deliver_b0 (C0 : zCx p l e R s m args below meth c D B0 8 "FranchiseLedger" cX1_deliver E 11 175 (Option.some Jvm.ClassFile.FieldType.long) "deliver") (hno : ∀ x ∈ c.exceptionTable.toList, False) {r : (Int64 ⊕ (Nat × Nat))} {h' : zH} {p0 : Nat} {p1 : Int32} {p2 : Int32} {p3 : Int32} {p4 : Int64} {h : zH} (hf : f_X1_deliver_b0 E p0 p1 p2 p3 p4 h = some (r, h')) : zW p l e R s m args below meth c D B0 8 (zEnd D B0 R below args s (zoT zoL r) h') h 0 [(0, .ref p0), (1, .int p1), (2, .int p2), (3, .int p3), (4, .long p4)] [] := by
  unfold f_X1_deliver_b0 at hf
  refine zr_aload_n C0 dX1_deliver_0 rfl 0 rfl ?_
  refine zr_iload_n C0 dX1_deliver_1 rfl 1 rfl ?_
  obtain ⟨_, e1, hf⟩ := zbind hf
  obtain ⟨x4, h2, e3, hf⟩ := zbind2 hf
  rcases x4 with x5 | q6
  · have hf := zinl hf
    refine zr_callV_r C0 cv_X1_121_X1 rfl (zcko e1) (m_X1_outlet C0.2.2.2.2.2.2.1 e3) (by decide) (by decide) rfl rfl (Nat.le_of_ble_eq_true rfl) dX1_deliver_2 rfl ?_
    refine zr_astore (i := 6) (lv' := [(6, .ref x5), (0, .ref p0), (1, .int p1), (2, .int p2), (3, .int p3), (4, .long p4)]) C0 dX1_deliver_5 (by decide) (by first | rfl | simp [zst1, zst2, zcat_rf]) ?_
    refine zr_iconst C0 (v := 2) dX1_deliver_7 (by decide) ?_
    obtain ⟨q7, h8, e9, hf⟩ := zbind2 hf
    refine zr_newa C0 (atype := .boolean) (t := 3) q627 rfl (by decide) (fun _ => rfl) dX1_deliver_8 e9 ?_
    refine zr_dup C0 dX1_deliver_10 rfl ?_
    refine zr_iconst C0 (v := 0) dX1_deliver_11 (by decide) ?_
    refine zr_iload_n C0 dX1_deliver_12 rfl 3 rfl ?_
    refine zr_iload_n C0 dX1_deliver_13 rfl 4 rfl ?_
    obtain ⟨x12, h10, e11, hf⟩ := zbind2 hf
    refine zr_callS_r C0 cv_X1_164 (m_X1_isPlace C0.2.2.2.2.2.2.1 e11) (by decide) (by decide) rfl rfl (Nat.le_of_ble_eq_true rfl) dX1_deliver_14 rfl ?_
    obtain ⟨_, e13, hf⟩ := zbind hf
    obtain ⟨h14, e15, hf⟩ := zbind hf
    refine zr_zast C0 dX1_deliver_17 (zgd_b e13) e15 ?_
    refine zr_dup C0 dX1_deliver_18 rfl ?_
    refine zr_iconst C0 (v := 1) dX1_deliver_19 (by decide) ?_
    refine zr_lload C0 dX1_deliver_20 5 rfl ?_
    refine zr_lconst C0 (v := 1) dX1_deliver_22 (by decide) ?_
    refine zr_ldc2 C0 (v := 10000000) q1835 dX1_deliver_23 ?_
    obtain ⟨x18, h16, e17, hf⟩ := zbind2 hf
    refine zr_callS_r C0 cv_X1_84 (m_X1_inRange C0.2.2.2.2.2.2.1 e17) (by decide) (by decide) rfl rfl (Nat.le_of_ble_eq_true rfl) dX1_deliver_26 rfl ?_
    obtain ⟨_, e19, hf⟩ := zbind hf
    obtain ⟨h20, e21, hf⟩ := zbind hf
    refine zr_zast C0 dX1_deliver_29 (zgd_b e19) e21 ?_
    obtain ⟨x24, h22, e23, hf⟩ := zbind2 hf
    rcases x24 with x25 | q26
    · have hf := zinl hf
      refine zr_callS_r C0 cv_X1_168 (m_X1_requireArguments C0.2.2.2.2.2.2.1 e23) (by decide) (by decide) rfl rfl (Nat.le_of_ble_eq_true rfl) dX1_deliver_30 rfl ?_
      refine zr_aload_n C0 dX1_deliver_33 rfl 1 rfl ?_
      obtain ⟨_, e27, hf⟩ := zbind hf
      obtain ⟨x30, h28, e29, hf⟩ := zbind2 hf
      rcases x30 with x31 | q32
      · have hf := zinl hf
        refine zr_callV_r C0 cv_X1_264_X1 rfl (zcko e27) (m_X1_requireMonth C0.2.2.2.2.2.2.1 e29) (by decide) (by decide) rfl rfl (Nat.le_of_ble_eq_true rfl) dX1_deliver_34 rfl ?_
        refine zr_aload C0 dX1_deliver_37 0 rfl ?_
        obtain ⟨_, e33, hf⟩ := zbind hf
        obtain ⟨x36, h34, e35, hf⟩ := zbind2 hf
        refine zr_callV_r C0 cv_X1_267_X14 rfl (zcko e33) (m_X14_isOpen C0.2.2.2.2.2.2.1 e35) (by decide) (by decide) rfl rfl (Nat.le_of_ble_eq_true rfl) dX1_deliver_39 rfl ?_
        refine zr_if_ne C0 (tgt := 49) dX1_deliver_42 (by decide) (fun c37 => ?_) (fun c37 => ?_)
        · have hf := zif_f c37 hf
          refine zr_aload C0 dX1_deliver_49 0 rfl ?_
          obtain ⟨x38, e39, hf⟩ := zbind hf
          refine zr_get C0 fl_X1_272_X14 dX1_deliver_51 (zgL e39) ?_
          refine zr_lload C0 dX1_deliver_54 5 rfl ?_
          refine zr_ladd C0 dX1_deliver_56 ?_
          refine zr_ldc2 C0 (v := 10000000) q1835 dX1_deliver_57 ?_
          refine zr_lcmp C0 dX1_deliver_60 ?_
          refine zr_if_le C0 (tgt := 68) dX1_deliver_61 (by decide) (fun c40 => ?_) (fun c40 => ?_)
          · have hf := zif_t (zl_le.mp c40) hf
            refine zr_aload C0 dX1_deliver_68 0 rfl ?_
            refine zr_dup C0 dX1_deliver_70 rfl ?_
            obtain ⟨x41, e42, hf⟩ := zbind hf
            refine zr_get C0 fl_X1_272_X14 dX1_deliver_71 (zgL e42) ?_
            refine zr_lload C0 dX1_deliver_74 5 rfl ?_
            refine zr_ladd C0 dX1_deliver_76 ?_
            obtain ⟨h43, e44, hf⟩ := zbind hf
            refine zr_put C0 pl_X1_272_X14 dX1_deliver_77 (fun h => by cases h) rfl rfl e44 ?_
            refine zr_aload_n C0 dX1_deliver_80 rfl 1 rfl ?_
            obtain ⟨x45, e46, hf⟩ := zbind hf
            refine zr_get C0 fl_X1_39_X1 dX1_deliver_81 (zgR e46) ?_
            obtain ⟨x47, e48, hf⟩ := zbind hf
            refine zr_get C0 fl_X1_171_X4 dX1_deliver_84 (zgR e48) ?_
            obtain ⟨x49, e50, hf⟩ := zbind hf
            refine zr_get C0 fl_X1_175_X5 dX1_deliver_87 (zgR e50) ?_
            refine zr_iload_n C0 dX1_deliver_90 rfl 3 rfl ?_
            refine zr_iload_n C0 dX1_deliver_91 rfl 4 rfl ?_
            obtain ⟨x53, h51, e52, hf⟩ := zbind2 hf
            refine zr_callS_r C0 cv_X1_180 (m_X1_cell C0.2.2.2.2.2.2.1 e52) (by decide) (by decide) rfl rfl (Nat.le_of_ble_eq_true rfl) dX1_deliver_92 rfl ?_
            obtain ⟨x54, e55, hf⟩ := zbind hf
            refine zr_bald C0 dX1_deliver_95 e55 ?_
            refine zr_istore (i := 7) (lv' := [(7, .int x54), (6, .ref x5), (0, .ref p0), (1, .int p1), (2, .int p2), (3, .int p3), (4, .long p4)]) C0 dX1_deliver_96 (by decide) (by first | rfl | simp [zst1, zst2, zcat_rf]) ?_
            refine zr_iload C0 dX1_deliver_98 0 rfl ?_
            refine zr_iconst C0 (v := -1) dX1_deliver_100 (by decide) ?_
            refine zr_icmp_eq C0 (tgt := 162) dX1_deliver_101 (by decide) (fun c56 => ?_) (fun c56 => ?_)
            · have hf := zif_t c56 hf
              refine zr_sub [1] rfl ?_
              exact w_X1_deliver_b162 C0 hno hf
            · have hf := zif_f c56 hf
              refine zr_iload C0 dX1_deliver_104 0 rfl ?_
              refine zr_aload C0 dX1_deliver_106 1 rfl ?_
              obtain ⟨x57, e58, hf⟩ := zbind hf
              refine zr_get C0 fl_X1_125_X14 dX1_deliver_108 (zgI e58) ?_
              refine zr_icmp_eq C0 (tgt := 162) dX1_deliver_111 (by decide) (fun c59 => ?_) (fun c59 => ?_)
              · have hf := zif_t c59 hf
                refine zr_sub [1] rfl ?_
                exact w_X1_deliver_b162 C0 hno hf
              · have hf := zif_f c59 hf
                refine zr_aload_n C0 dX1_deliver_114 rfl 2 rfl ?_
                refine zr_iload C0 dX1_deliver_115 0 rfl ?_
                obtain ⟨_, e60, hf⟩ := zbind hf
                obtain ⟨x63, h61, e62, hf⟩ := zbind2 hf
                rcases x63 with x64 | q65
                · have hf := zinl hf
                  refine zr_callV_r C0 cv_X1_134_X1 rfl (zcko e60) (m_X1_franchisee C0.2.2.2.2.2.2.1 e62) (by decide) (by decide) rfl rfl (Nat.le_of_ble_eq_true rfl) dX1_deliver_117 rfl ?_
                  obtain ⟨_, e66, hf⟩ := zbind hf
                  obtain ⟨x69, h67, e68, hf⟩ := zbind2 hf
                  refine zr_callV_r C0 cv_X1_208_X11 rfl (zcko e66) (m_X11_isActive C0.2.2.2.2.2.2.1 e68) (by decide) (by decide) rfl rfl (Nat.le_of_ble_eq_true rfl) dX1_deliver_120 rfl ?_
                  refine zr_if_eq C0 (tgt := 162) dX1_deliver_123 (by decide) (fun c70 => ?_) (fun c70 => ?_)
                  · have hf := zif_t c70 hf
                    refine zr_sub [1] rfl ?_
                    exact w_X1_deliver_b162 C0 hno hf
                  · have hf := zif_f c70 hf
                    refine zr_aload_n C0 dX1_deliver_126 rfl 2 rfl ?_
                    refine zr_aload C0 dX1_deliver_127 1 rfl ?_
                    obtain ⟨x71, e72, hf⟩ := zbind hf
                    refine zr_get C0 fl_X1_125_X14 dX1_deliver_129 (zgI e72) ?_
                    obtain ⟨_, e73, hf⟩ := zbind hf
                    obtain ⟨x76, h74, e75, hf⟩ := zbind2 hf
                    rcases x76 with x77 | q78
                    · have hf := zinl hf
                      refine zr_callV_r C0 cv_X1_134_X1 rfl (zcko e73) (m_X1_franchisee C0.2.2.2.2.2.2.1 e75) (by decide) (by decide) rfl rfl (Nat.le_of_ble_eq_true rfl) dX1_deliver_132 rfl ?_
                      obtain ⟨_, e79, hf⟩ := zbind hf
                      obtain ⟨x82, h80, e81, hf⟩ := zbind2 hf
                      refine zr_callV_r C0 cv_X1_208_X11 rfl (zcko e79) (m_X11_isActive C0.2.2.2.2.2.2.1 e81) (by decide) (by decide) rfl rfl (Nat.le_of_ble_eq_true rfl) dX1_deliver_135 rfl ?_
                      refine zr_if_eq C0 (tgt := 162) dX1_deliver_138 (by decide) (fun c83 => ?_) (fun c83 => ?_)
                      · have hf := zif_t c83 hf
                        refine zr_sub [1] rfl ?_
                        exact w_X1_deliver_b162 C0 hno hf
                      · have hf := zif_f c83 hf
                        refine zr_aload_n C0 dX1_deliver_141 rfl 2 rfl ?_
                        obtain ⟨x84, e85, hf⟩ := zbind hf
                        refine zr_get C0 fl_X1_39_X1 dX1_deliver_142 (zgR e85) ?_
                        obtain ⟨x86, e87, hf⟩ := zbind hf
                        refine zr_get C0 fl_X1_276_X4 dX1_deliver_145 (zgR e87) ?_
                        refine zr_aload C0 dX1_deliver_148 1 rfl ?_
                        obtain ⟨x88, e89, hf⟩ := zbind hf
                        refine zr_get C0 fl_X1_125_X14 dX1_deliver_150 (zgI e89) ?_
                        obtain ⟨x90, e91, hf⟩ := zbind hf
                        refine zr_aald C0 rfl dX1_deliver_153 e91 ?_
                        refine zr_iload C0 dX1_deliver_154 0 rfl ?_
                        refine zr_dup2_11 C0 dX1_deliver_156 rfl rfl ?_
                        obtain ⟨x92, e93, hf⟩ := zbind hf
                        refine zr_lald C0 dX1_deliver_157 e93 ?_
                        refine zr_lload C0 dX1_deliver_158 6 rfl ?_
                        refine zr_ladd C0 dX1_deliver_160 ?_
                        obtain ⟨h94, e95, hf⟩ := zbind hf
                        refine zr_last C0 dX1_deliver_161 e95 ?_
                        refine zr_sub [1] rfl ?_
                        exact w_X1_deliver_b162 C0 hno hf
                    · have hf := zinr hf
                      refine zretW hf ?_
                      exact zr_callV_t C0 cv_X1_134_X1 rfl (zcko e73) (m_X1_franchisee C0.2.2.2.2.2.2.1 e75) (by decide) (by decide) rfl rfl (Nat.le_of_ble_eq_true rfl) dX1_deliver_132 (zr_out C0 hno rfl)
                · have hf := zinr hf
                  refine zretW hf ?_
                  exact zr_callV_t C0 cv_X1_134_X1 rfl (zcko e60) (m_X1_franchisee C0.2.2.2.2.2.2.1 e62) (by decide) (by decide) rfl rfl (Nat.le_of_ble_eq_true rfl) dX1_deliver_117 (zr_out C0 hno rfl)
          · have hf := zif_f (zl_len.mp c40) hf
            refine zr_ldc2 C0 (v := -3) q1872 dX1_deliver_64 ?_
            refine zretW hf ?_
            exact zr_lret C0 rfl dX1_deliver_67 rfl
        · have hf := zif_t c37 hf
          refine zr_ldc2 C0 (v := -1) q1855 dX1_deliver_45 ?_
          refine zretW hf ?_
          exact zr_lret C0 rfl dX1_deliver_48 rfl
      · have hf := zinr hf
        refine zretW hf ?_
        exact zr_callV_t C0 cv_X1_264_X1 rfl (zcko e27) (m_X1_requireMonth C0.2.2.2.2.2.2.1 e29) (by decide) (by decide) rfl rfl (Nat.le_of_ble_eq_true rfl) dX1_deliver_34 (zr_out C0 hno rfl)
    · have hf := zinr hf
      refine zretW hf ?_
      exact zr_callS_t C0 cv_X1_168 (m_X1_requireArguments C0.2.2.2.2.2.2.1 e23) (by decide) (by decide) rfl rfl (Nat.le_of_ble_eq_true rfl) dX1_deliver_30 (zr_out C0 hno rfl)
  · have hf := zinr hf
    refine zretW hf ?_
    exact zr_callV_t C0 cv_X1_121_X1 rfl (zcko e1) (m_X1_outlet C0.2.2.2.2.2.2.1 e3) (by decide) (by decide) rfl rfl (Nat.le_of_ble_eq_true rfl) dX1_deliver_2 (zr_out C0 hno rfl)
def f_X1_deliver (E : zE) (p0 : Nat) (p1 : Int32) (p2 : Int32) (p3 : Int32) (p4 : Int64) (h : zH) : Option ((Int64 ⊕ (Nat × Nat)) × zH) := f_X1_deliver_b0 E p0 p1 p2 p3 p4 h
theorem m_X1_deliver {l : Launch} (hst : l.stackTraces = false) {D : zD} {B0 : Nat} {E : zE} {p0 : Nat} {p1 : Int32} {p2 : Int32} {p3 : Int32} {p4 : Int64} {h h' : zH} {r : (Int64 ⊕ (Nat × Nat))} (hf : f_X1_deliver E p0 p1 p2 p3 p4 h = some (r, h')) : zMet l yX1_deliver (ws_ yX1_deliver cX1_deliver 8 (Option.some Jvm.ClassFile.FieldType.long)) 11 175 D B0 E [.ref p0, .int p1, .int p2, .int p3, .long p4] h (zoT zoL r) h' := by
  unfold f_X1_deliver at hf
  refine zMet_of hst (by decide +kernel) rfl rfl (Nat.le_of_ble_eq_true rfl) (fun p e R s m below meth c C0 hno => ?_)
  show zW _ _ _ _ _ _ _ _ _ _ _ _ _ _ _ _ [(0, .ref p0), (1, .int p1), (2, .int p2), (3, .int p3), (4, .long p4)] []
  exact w_X1_deliver_b0 C0 hno hf
def f_X1_isAmount_b0 (E : zE) (p0 : Int64) (h : zH) : Option (Int32 × zH) :=
  bnd2 (f_X1_inRange E p0 (1 : Int64) (1000000000 : Int64) h) fun x3 h1 =>
  (zgd .boolean x3).bind fun _ =>
  some (x3, h1)
theorem w_X1_isAmount_b0 (C0 : zCx p l e R s m args below meth c D B0 2 "FranchiseLedger" cX1_isAmount E 2 85 (Option.some Jvm.ClassFile.FieldType.boolean) "isAmount") {r : Int32} {h' : zH} {p0 : Int64} {h : zH} (hf : f_X1_isAmount_b0 E p0 h = some (r, h')) : zW p l e R s m args below meth c D B0 2 (zEnd D B0 R below args s (zoI r) h') h 0 [(0, .long p0)] [] := by
  unfold f_X1_isAmount_b0 at hf
  refine zr_lload_n C0 dX1_isAmount_0 rfl 0 rfl ?_
  refine zr_lconst C0 (v := 1) dX1_isAmount_1 (by decide) ?_
  refine zr_ldc2 C0 (v := 1000000000) q1893 dX1_isAmount_2 ?_
  obtain ⟨x3, h1, e2, hf⟩ := zbind2 hf
  refine zr_callS_r C0 cv_X1_84 (m_X1_inRange C0.2.2.2.2.2.2.1 e2) (by decide) (by decide) rfl rfl (Nat.le_of_ble_eq_true rfl) dX1_isAmount_5 rfl ?_
  obtain ⟨_, e4, hf⟩ := zbind hf
  refine zretW hf ?_
  exact zr_iret C0 (ty := .boolean) rfl (zgd_n e4) dX1_isAmount_8 rfl
def f_X1_isAmount (E : zE) (p0 : Int64) (h : zH) : Option (Int32 × zH) := f_X1_isAmount_b0 E p0 h
theorem m_X1_isAmount {l : Launch} (hst : l.stackTraces = false) {D : zD} {B0 : Nat} {E : zE} {p0 : Int64} {h h' : zH} {r : Int32} (hf : f_X1_isAmount E p0 h = some (r, h')) : zMet l yX1_isAmount (ws_ yX1_isAmount cX1_isAmount 2 (Option.some Jvm.ClassFile.FieldType.boolean)) 2 85 D B0 E [.long p0] h (zoI r) h' := by
  unfold f_X1_isAmount at hf
  refine zMet_of hst (by decide +kernel) rfl rfl (Nat.le_of_ble_eq_true rfl) (fun p e R s m below meth c C0 hno => ?_)
  show zW _ _ _ _ _ _ _ _ _ _ _ _ _ _ _ _ [(0, .long p0)] []
  exact w_X1_isAmount_b0 C0 hf
def f_X1_pay_b0 (E : zE) (p0 : Nat) (p1 : Int32) (p2 : Int64) (h : zH) : Option ((Int64 ⊕ (Nat × Nat)) × zH) :=
  (cko h p0 0).bind fun _ =>
  bnd2 (f_X1_franchisee E p0 p1 h) fun x4 h2 =>
  Sum.elim (fun x5 => (
    bnd2 (nA h2 3 (1 : Int32) (.inl fun _ => 0)) fun q7 h8 =>
    bnd2 (f_X1_isAmount E p2 h8) fun x12 h10 =>
    (zgd .boolean x12).bind fun _ =>
    (sI h10 q7 3 (0 : Int32) x12).bind fun h14 =>
    bnd2 (f_X1_requireArguments E q7 h14) fun x18 h16 =>
    Sum.elim (fun x19 => (
      (gL h16 x5 10 8).bind fun x21 =>
      (pF h16 x5 10 8 (.long (x21 - p2))).bind fun h23 =>
      (gL h23 x5 10 8).bind fun x25 =>
      some (.inl x25, h23)
    )) (fun q20 => (
      some (.inr q20, h16)
    )) x18
  )) (fun q6 => (
    some (.inr q6, h2)
  )) x4
theorem w_X1_pay_b0 (C0 : zCx p l e R s m args below meth c D B0 5 "FranchiseLedger" cX1_pay E 11 175 (Option.some Jvm.ClassFile.FieldType.long) "pay") (hno : ∀ x ∈ c.exceptionTable.toList, False) {r : (Int64 ⊕ (Nat × Nat))} {h' : zH} {p0 : Nat} {p1 : Int32} {p2 : Int64} {h : zH} (hf : f_X1_pay_b0 E p0 p1 p2 h = some (r, h')) : zW p l e R s m args below meth c D B0 5 (zEnd D B0 R below args s (zoT zoL r) h') h 0 [(0, .ref p0), (1, .int p1), (2, .long p2)] [] := by
  unfold f_X1_pay_b0 at hf
  refine zr_aload_n C0 dX1_pay_0 rfl 0 rfl ?_
  refine zr_iload_n C0 dX1_pay_1 rfl 1 rfl ?_
  obtain ⟨_, e1, hf⟩ := zbind hf
  obtain ⟨x4, h2, e3, hf⟩ := zbind2 hf
  rcases x4 with x5 | q6
  · have hf := zinl hf
    refine zr_callV_r C0 cv_X1_134_X1 rfl (zcko e1) (m_X1_franchisee C0.2.2.2.2.2.2.1 e3) (by decide) (by decide) rfl rfl (Nat.le_of_ble_eq_true rfl) dX1_pay_2 rfl ?_
    refine zr_astore (i := 4) (lv' := [(4, .ref x5), (0, .ref p0), (1, .int p1), (2, .long p2)]) C0 dX1_pay_5 (by decide) (by first | rfl | simp [zst1, zst2, zcat_rf]) ?_
    refine zr_iconst C0 (v := 1) dX1_pay_7 (by decide) ?_
    obtain ⟨q7, h8, e9, hf⟩ := zbind2 hf
    refine zr_newa C0 (atype := .boolean) (t := 3) q627 rfl (by decide) (fun _ => rfl) dX1_pay_8 e9 ?_
    refine zr_dup C0 dX1_pay_10 rfl ?_
    refine zr_iconst C0 (v := 0) dX1_pay_11 (by decide) ?_
    refine zr_lload_n C0 dX1_pay_12 rfl 3 rfl ?_
    obtain ⟨x12, h10, e11, hf⟩ := zbind2 hf
    refine zr_callS_r C0 cv_X1_311 (m_X1_isAmount C0.2.2.2.2.2.2.1 e11) (by decide) (by decide) rfl rfl (Nat.le_of_ble_eq_true rfl) dX1_pay_13 rfl ?_
    obtain ⟨_, e13, hf⟩ := zbind hf
    obtain ⟨h14, e15, hf⟩ := zbind hf
    refine zr_zast C0 dX1_pay_16 (zgd_b e13) e15 ?_
    obtain ⟨x18, h16, e17, hf⟩ := zbind2 hf
    rcases x18 with x19 | q20
    · have hf := zinl hf
      refine zr_callS_r C0 cv_X1_168 (m_X1_requireArguments C0.2.2.2.2.2.2.1 e17) (by decide) (by decide) rfl rfl (Nat.le_of_ble_eq_true rfl) dX1_pay_17 rfl ?_
      refine zr_aload C0 dX1_pay_20 0 rfl ?_
      refine zr_dup C0 dX1_pay_22 rfl ?_
      obtain ⟨x21, e22, hf⟩ := zbind hf
      refine zr_get C0 fl_X1_153_X11 dX1_pay_23 (zgL e22) ?_
      refine zr_lload_n C0 dX1_pay_26 rfl 3 rfl ?_
      refine zr_lsub C0 dX1_pay_27 ?_
      obtain ⟨h23, e24, hf⟩ := zbind hf
      refine zr_put C0 pl_X1_153_X11 dX1_pay_28 (fun h => by cases h) rfl rfl e24 ?_
      refine zr_aload C0 dX1_pay_31 0 rfl ?_
      obtain ⟨x25, e26, hf⟩ := zbind hf
      refine zr_get C0 fl_X1_153_X11 dX1_pay_33 (zgL e26) ?_
      refine zretW hf ?_
      exact zr_lret C0 rfl dX1_pay_36 rfl
    · have hf := zinr hf
      refine zretW hf ?_
      exact zr_callS_t C0 cv_X1_168 (m_X1_requireArguments C0.2.2.2.2.2.2.1 e17) (by decide) (by decide) rfl rfl (Nat.le_of_ble_eq_true rfl) dX1_pay_17 (zr_out C0 hno rfl)
  · have hf := zinr hf
    refine zretW hf ?_
    exact zr_callV_t C0 cv_X1_134_X1 rfl (zcko e1) (m_X1_franchisee C0.2.2.2.2.2.2.1 e3) (by decide) (by decide) rfl rfl (Nat.le_of_ble_eq_true rfl) dX1_pay_2 (zr_out C0 hno rfl)
def f_X1_pay (E : zE) (p0 : Nat) (p1 : Int32) (p2 : Int64) (h : zH) : Option ((Int64 ⊕ (Nat × Nat)) × zH) := f_X1_pay_b0 E p0 p1 p2 h
theorem m_X1_pay {l : Launch} (hst : l.stackTraces = false) {D : zD} {B0 : Nat} {E : zE} {p0 : Nat} {p1 : Int32} {p2 : Int64} {h h' : zH} {r : (Int64 ⊕ (Nat × Nat))} (hf : f_X1_pay E p0 p1 p2 h = some (r, h')) : zMet l yX1_pay (ws_ yX1_pay cX1_pay 5 (Option.some Jvm.ClassFile.FieldType.long)) 11 175 D B0 E [.ref p0, .int p1, .long p2] h (zoT zoL r) h' := by
  unfold f_X1_pay at hf
  refine zMet_of hst (by decide +kernel) rfl rfl (Nat.le_of_ble_eq_true rfl) (fun p e R s m below meth c C0 hno => ?_)
  show zW _ _ _ _ _ _ _ _ _ _ _ _ _ _ _ _ [(0, .ref p0), (1, .int p1), (2, .long p2)] []
  exact w_X1_pay_b0 C0 hno hf
def f_X11_allowance_b0 (E : zE) (p0 : Nat) (h : zH) : Option (Int64 × zH) :=
  (gL h p0 10 9).bind fun x1 =>
  (gL h p0 10 10).bind fun x3 =>
  some (((x1 / (2 : Int64)) - x3), h)
theorem w_X11_allowance_b0 (C0 : zCx p l e R s m args below meth c D B0 1 "FranchiseLedger$Franchisee" cX11_allowance E 1 60 (Option.some Jvm.ClassFile.FieldType.long) "allowance") {r : Int64} {h' : zH} {p0 : Nat} {h : zH} (hf : f_X11_allowance_b0 E p0 h = some (r, h')) : zW p l e R s m args below meth c D B0 1 (zEnd D B0 R below args s (zoL r) h') h 0 [(0, .ref p0)] [] := by
  unfold f_X11_allowance_b0 at hf
  refine zr_aload_n C0 dX11_allowance_0 rfl 0 rfl ?_
  obtain ⟨x1, e2, hf⟩ := zbind hf
  refine zr_get C0 fl_X11_60_X11 dX11_allowance_1 (zgL e2) ?_
  refine zr_ldc2 C0 (v := 2) q1903 dX11_allowance_4 ?_
  refine zr_ldiv C0 dX11_allowance_7 (by decide) ?_
  refine zr_aload_n C0 dX11_allowance_8 rfl 0 rfl ?_
  obtain ⟨x3, e4, hf⟩ := zbind hf
  refine zr_get C0 fl_X11_63_X11 dX11_allowance_9 (zgL e4) ?_
  refine zr_lsub C0 dX11_allowance_12 ?_
  refine zretW hf ?_
  exact zr_lret C0 rfl dX11_allowance_13 rfl
def f_X11_allowance (E : zE) (p0 : Nat) (h : zH) : Option (Int64 × zH) := f_X11_allowance_b0 E p0 h
theorem m_X11_allowance {l : Launch} (hst : l.stackTraces = false) {D : zD} {B0 : Nat} {E : zE} {p0 : Nat} {h h' : zH} {r : Int64} (hf : f_X11_allowance E p0 h = some (r, h')) : zMet l yX11_allowance (ws_ yX11_allowance cX11_allowance 1 (Option.some Jvm.ClassFile.FieldType.long)) 1 60 D B0 E [.ref p0] h (zoL r) h' := by
  unfold f_X11_allowance at hf
  refine zMet_of hst (by decide +kernel) rfl rfl (Nat.le_of_ble_eq_true rfl) (fun p e R s m below meth c C0 hno => ?_)
  show zW _ _ _ _ _ _ _ _ _ _ _ _ _ _ _ _ [(0, .ref p0)] []
  exact w_X11_allowance_b0 C0 hf
def f_X1_grant_b50 (E : zE) (h : zH) : Option ((Int32 ⊕ (Nat × Nat)) × zH) :=
  some (.inl (0 : Int32), h)
theorem w_X1_grant_b50 (C0 : zCx p l e R s m args below meth c D B0 5 "FranchiseLedger" cX1_grant E 11 175 (Option.some Jvm.ClassFile.FieldType.boolean) "grant") (hno : ∀ x ∈ c.exceptionTable.toList, False) {r : (Int32 ⊕ (Nat × Nat))} {h' : zH} {h : zH} (hf : f_X1_grant_b50 E  h = some (r, h')) : zW p l e R s m args below meth c D B0 5 (zEnd D B0 R below args s (zoT zoI r) h') h 50 [] [] := by
  unfold f_X1_grant_b50 at hf
  refine zr_iconst C0 (v := 0) dX1_grant_50 (by decide) ?_
  refine zretW hf ?_
  exact zr_iret C0 (ty := .boolean) rfl (by decide) dX1_grant_51 rfl
def f_X1_grant_b0 (E : zE) (p0 : Nat) (p1 : Int32) (p2 : Int64) (h : zH) : Option ((Int32 ⊕ (Nat × Nat)) × zH) :=
  (cko h p0 0).bind fun _ =>
  bnd2 (f_X1_franchisee E p0 p1 h) fun x4 h2 =>
  Sum.elim (fun x5 => (
    bnd2 (nA h2 3 (1 : Int32) (.inl fun _ => 0)) fun q7 h8 =>
    bnd2 (f_X1_isAmount E p2 h8) fun x12 h10 =>
    (zgd .boolean x12).bind fun _ =>
    (sI h10 q7 3 (0 : Int32) x12).bind fun h14 =>
    bnd2 (f_X1_requireArguments E q7 h14) fun x18 h16 =>
    Sum.elim (fun x19 => (
      (cko h16 x5 10).bind fun _ =>
      bnd2 (f_X11_isActive E x5 h16) fun x24 h22 =>
      if x24 = 0 then (
        f_X1_grant_b50 E  h22
      ) else (
        (cko h22 x5 10).bind fun _ =>
        bnd2 (f_X11_allowance E x5 h22) fun x29 h27 =>
        if x29 < p2 then (
          f_X1_grant_b50 E  h27
        ) else (
          (gR h27 p0 0 1).bind fun x31 =>
          (cko h27 x31 4).bind fun _ =>
          bnd2 (f_X4_fund E x31 h27) fun x36 h34 =>
          if p2 ≤ x36 then (
            (gL h34 x5 10 10).bind fun x38 =>
            (pF h34 x5 10 10 (.long (x38 + p2))).bind fun h40 =>
            (gL h40 x5 10 8).bind fun x42 =>
            (pF h40 x5 10 8 (.long (x42 - p2))).bind fun h44 =>
            (gR h44 p0 0 1).bind fun x46 =>
            (gR h44 x46 4 4).bind fun x48 =>
            (dL h44 x48 (2 : Int32)).bind fun x50 =>
            (sL h44 x48 (2 : Int32) (x50 + p2)).bind fun h52 =>
            some (.inl (1 : Int32), h52)
          ) else (
            f_X1_grant_b50 E  h34
          )
        )
      )
    )) (fun q20 => (
      some (.inr q20, h16)
    )) x18
  )) (fun q6 => (
    some (.inr q6, h2)
  )) x4
theorem w_X1_grant_b0 (C0 : zCx p l e R s m args below meth c D B0 5 "FranchiseLedger" cX1_grant E 11 175 (Option.some Jvm.ClassFile.FieldType.boolean) "grant") (hno : ∀ x ∈ c.exceptionTable.toList, False) {r : (Int32 ⊕ (Nat × Nat))} {h' : zH} {p0 : Nat} {p1 : Int32} {p2 : Int64} {h : zH} (hf : f_X1_grant_b0 E p0 p1 p2 h = some (r, h')) : zW p l e R s m args below meth c D B0 5 (zEnd D B0 R below args s (zoT zoI r) h') h 0 [(0, .ref p0), (1, .int p1), (2, .long p2)] [] := by
  unfold f_X1_grant_b0 at hf
  refine zr_aload_n C0 dX1_grant_0 rfl 0 rfl ?_
  refine zr_iload_n C0 dX1_grant_1 rfl 1 rfl ?_
  obtain ⟨_, e1, hf⟩ := zbind hf
  obtain ⟨x4, h2, e3, hf⟩ := zbind2 hf
  rcases x4 with x5 | q6
  · have hf := zinl hf
    refine zr_callV_r C0 cv_X1_134_X1 rfl (zcko e1) (m_X1_franchisee C0.2.2.2.2.2.2.1 e3) (by decide) (by decide) rfl rfl (Nat.le_of_ble_eq_true rfl) dX1_grant_2 rfl ?_
    refine zr_astore (i := 4) (lv' := [(4, .ref x5), (0, .ref p0), (1, .int p1), (2, .long p2)]) C0 dX1_grant_5 (by decide) (by first | rfl | simp [zst1, zst2, zcat_rf]) ?_
    refine zr_iconst C0 (v := 1) dX1_grant_7 (by decide) ?_
    obtain ⟨q7, h8, e9, hf⟩ := zbind2 hf
    refine zr_newa C0 (atype := .boolean) (t := 3) q627 rfl (by decide) (fun _ => rfl) dX1_grant_8 e9 ?_
    refine zr_dup C0 dX1_grant_10 rfl ?_
    refine zr_iconst C0 (v := 0) dX1_grant_11 (by decide) ?_
    refine zr_lload_n C0 dX1_grant_12 rfl 3 rfl ?_
    obtain ⟨x12, h10, e11, hf⟩ := zbind2 hf
    refine zr_callS_r C0 cv_X1_311 (m_X1_isAmount C0.2.2.2.2.2.2.1 e11) (by decide) (by decide) rfl rfl (Nat.le_of_ble_eq_true rfl) dX1_grant_13 rfl ?_
    obtain ⟨_, e13, hf⟩ := zbind hf
    obtain ⟨h14, e15, hf⟩ := zbind hf
    refine zr_zast C0 dX1_grant_16 (zgd_b e13) e15 ?_
    obtain ⟨x18, h16, e17, hf⟩ := zbind2 hf
    rcases x18 with x19 | q20
    · have hf := zinl hf
      refine zr_callS_r C0 cv_X1_168 (m_X1_requireArguments C0.2.2.2.2.2.2.1 e17) (by decide) (by decide) rfl rfl (Nat.le_of_ble_eq_true rfl) dX1_grant_17 rfl ?_
      refine zr_aload C0 dX1_grant_20 0 rfl ?_
      obtain ⟨_, e21, hf⟩ := zbind hf
      obtain ⟨x24, h22, e23, hf⟩ := zbind2 hf
      refine zr_callV_r C0 cv_X1_208_X11 rfl (zcko e21) (m_X11_isActive C0.2.2.2.2.2.2.1 e23) (by decide) (by decide) rfl rfl (Nat.le_of_ble_eq_true rfl) dX1_grant_22 rfl ?_
      refine zr_if_eq C0 (tgt := 50) dX1_grant_25 (by decide) (fun c25 => ?_) (fun c25 => ?_)
      · have hf := zif_t c25 hf
        refine zr_sub [] rfl ?_
        exact w_X1_grant_b50 C0 hno hf
      · have hf := zif_f c25 hf
        refine zr_lload_n C0 dX1_grant_28 rfl 3 rfl ?_
        refine zr_aload C0 dX1_grant_29 0 rfl ?_
        obtain ⟨_, e26, hf⟩ := zbind hf
        obtain ⟨x29, h27, e28, hf⟩ := zbind2 hf
        refine zr_callV_r C0 cv_X1_160_X11 rfl (zcko e26) (m_X11_allowance C0.2.2.2.2.2.2.1 e28) (by decide) (by decide) rfl rfl (Nat.le_of_ble_eq_true rfl) dX1_grant_31 rfl ?_
        refine zr_lcmp C0 dX1_grant_34 ?_
        refine zr_if_gt C0 (tgt := 50) dX1_grant_35 (by decide) (fun c30 => ?_) (fun c30 => ?_)
        · have hf := zif_t (zl_gt.mp c30) hf
          refine zr_sub [] rfl ?_
          exact w_X1_grant_b50 C0 hno hf
        · have hf := zif_f (zl_gtn.mp c30) hf
          refine zr_lload_n C0 dX1_grant_38 rfl 3 rfl ?_
          refine zr_aload_n C0 dX1_grant_39 rfl 1 rfl ?_
          obtain ⟨x31, e32, hf⟩ := zbind hf
          refine zr_get C0 fl_X1_39_X1 dX1_grant_40 (zgR e32) ?_
          obtain ⟨_, e33, hf⟩ := zbind hf
          obtain ⟨x36, h34, e35, hf⟩ := zbind2 hf
          refine zr_callV_r C0 cv_X1_327_X4 rfl (zcko e33) (m_X4_fund C0.2.2.2.2.2.2.1 e35) (by decide) (by decide) rfl rfl (Nat.le_of_ble_eq_true rfl) dX1_grant_43 rfl ?_
          refine zr_lcmp C0 dX1_grant_46 ?_
          refine zr_if_le C0 (tgt := 52) dX1_grant_47 (by decide) (fun c37 => ?_) (fun c37 => ?_)
          · have hf := zif_t (zl_le.mp c37) hf
            refine zr_aload C0 dX1_grant_52 0 rfl ?_
            refine zr_dup C0 dX1_grant_54 rfl ?_
            obtain ⟨x38, e39, hf⟩ := zbind hf
            refine zr_get C0 fl_X1_335_X11 dX1_grant_55 (zgL e39) ?_
            refine zr_lload_n C0 dX1_grant_58 rfl 3 rfl ?_
            refine zr_ladd C0 dX1_grant_59 ?_
            obtain ⟨h40, e41, hf⟩ := zbind hf
            refine zr_put C0 pl_X1_335_X11 dX1_grant_60 (fun h => by cases h) rfl rfl e41 ?_
            refine zr_aload C0 dX1_grant_63 0 rfl ?_
            refine zr_dup C0 dX1_grant_65 rfl ?_
            obtain ⟨x42, e43, hf⟩ := zbind hf
            refine zr_get C0 fl_X1_153_X11 dX1_grant_66 (zgL e43) ?_
            refine zr_lload_n C0 dX1_grant_69 rfl 3 rfl ?_
            refine zr_lsub C0 dX1_grant_70 ?_
            obtain ⟨h44, e45, hf⟩ := zbind hf
            refine zr_put C0 pl_X1_153_X11 dX1_grant_71 (fun h => by cases h) rfl rfl e45 ?_
            refine zr_aload_n C0 dX1_grant_74 rfl 1 rfl ?_
            obtain ⟨x46, e47, hf⟩ := zbind hf
            refine zr_get C0 fl_X1_39_X1 dX1_grant_75 (zgR e47) ?_
            obtain ⟨x48, e49, hf⟩ := zbind hf
            refine zr_get C0 fl_X1_332_X4 dX1_grant_78 (zgR e49) ?_
            refine zr_iconst C0 (v := 2) dX1_grant_81 (by decide) ?_
            refine zr_dup2_11 C0 dX1_grant_82 rfl rfl ?_
            obtain ⟨x50, e51, hf⟩ := zbind hf
            refine zr_lald C0 dX1_grant_83 e51 ?_
            refine zr_lload_n C0 dX1_grant_84 rfl 3 rfl ?_
            refine zr_ladd C0 dX1_grant_85 ?_
            obtain ⟨h52, e53, hf⟩ := zbind hf
            refine zr_last C0 dX1_grant_86 e53 ?_
            refine zr_iconst C0 (v := 1) dX1_grant_87 (by decide) ?_
            refine zretW hf ?_
            exact zr_iret C0 (ty := .boolean) rfl (by decide) dX1_grant_88 rfl
          · have hf := zif_f (zl_len.mp c37) hf
            refine zr_sub [] rfl ?_
            exact w_X1_grant_b50 C0 hno hf
    · have hf := zinr hf
      refine zretW hf ?_
      exact zr_callS_t C0 cv_X1_168 (m_X1_requireArguments C0.2.2.2.2.2.2.1 e17) (by decide) (by decide) rfl rfl (Nat.le_of_ble_eq_true rfl) dX1_grant_17 (zr_out C0 hno rfl)
  · have hf := zinr hf
    refine zretW hf ?_
    exact zr_callV_t C0 cv_X1_134_X1 rfl (zcko e1) (m_X1_franchisee C0.2.2.2.2.2.2.1 e3) (by decide) (by decide) rfl rfl (Nat.le_of_ble_eq_true rfl) dX1_grant_2 (zr_out C0 hno rfl)
def f_X1_grant (E : zE) (p0 : Nat) (p1 : Int32) (p2 : Int64) (h : zH) : Option ((Int32 ⊕ (Nat × Nat)) × zH) := f_X1_grant_b0 E p0 p1 p2 h
theorem m_X1_grant {l : Launch} (hst : l.stackTraces = false) {D : zD} {B0 : Nat} {E : zE} {p0 : Nat} {p1 : Int32} {p2 : Int64} {h h' : zH} {r : (Int32 ⊕ (Nat × Nat))} (hf : f_X1_grant E p0 p1 p2 h = some (r, h')) : zMet l yX1_grant (ws_ yX1_grant cX1_grant 5 (Option.some Jvm.ClassFile.FieldType.boolean)) 11 175 D B0 E [.ref p0, .int p1, .long p2] h (zoT zoI r) h' := by
  unfold f_X1_grant at hf
  refine zMet_of hst (by decide +kernel) rfl rfl (Nat.le_of_ble_eq_true rfl) (fun p e R s m below meth c C0 hno => ?_)
  show zW _ _ _ _ _ _ _ _ _ _ _ _ _ _ _ _ [(0, .ref p0), (1, .int p1), (2, .long p2)] []
  exact w_X1_grant_b0 C0 hno hf
def f_X1_campaign_b0 (E : zE) (p0 : Nat) (p1 : Int64) (h : zH) : Option ((Int32 ⊕ (Nat × Nat)) × zH) :=
  bnd2 (nA h 3 (1 : Int32) (.inl fun _ => 0)) fun q1 h2 =>
  bnd2 (f_X1_isAmount E p1 h2) fun x6 h4 =>
  (zgd .boolean x6).bind fun _ =>
  (sI h4 q1 3 (0 : Int32) x6).bind fun h8 =>
  bnd2 (f_X1_requireArguments E q1 h8) fun x12 h10 =>
  Sum.elim (fun x13 => (
    (gR h10 p0 0 1).bind fun x15 =>
    (cko h10 x15 4).bind fun _ =>
    bnd2 (f_X4_fund E x15 h10) fun x20 h18 =>
    if p1 ≤ x20 then (
      (gR h18 p0 0 1).bind fun x22 =>
      (gR h18 x22 4 4).bind fun x24 =>
      (dL h18 x24 (1 : Int32)).bind fun x26 =>
      (sL h18 x24 (1 : Int32) (x26 + p1)).bind fun h28 =>
      some (.inl (1 : Int32), h28)
    ) else (
      some (.inl (0 : Int32), h18)
    )
  )) (fun q14 => (
    some (.inr q14, h10)
  )) x12
theorem w_X1_campaign_b0 (C0 : zCx p l e R s m args below meth c D B0 3 "FranchiseLedger" cX1_campaign E 10 167 (Option.some Jvm.ClassFile.FieldType.boolean) "campaign") (hno : ∀ x ∈ c.exceptionTable.toList, False) {r : (Int32 ⊕ (Nat × Nat))} {h' : zH} {p0 : Nat} {p1 : Int64} {h : zH} (hf : f_X1_campaign_b0 E p0 p1 h = some (r, h')) : zW p l e R s m args below meth c D B0 3 (zEnd D B0 R below args s (zoT zoI r) h') h 0 [(0, .ref p0), (1, .long p1)] [] := by
  unfold f_X1_campaign_b0 at hf
  refine zr_iconst C0 (v := 1) dX1_campaign_0 (by decide) ?_
  obtain ⟨q1, h2, e3, hf⟩ := zbind2 hf
  refine zr_newa C0 (atype := .boolean) (t := 3) q627 rfl (by decide) (fun _ => rfl) dX1_campaign_1 e3 ?_
  refine zr_dup C0 dX1_campaign_3 rfl ?_
  refine zr_iconst C0 (v := 0) dX1_campaign_4 (by decide) ?_
  refine zr_lload_n C0 dX1_campaign_5 rfl 1 rfl ?_
  obtain ⟨x6, h4, e5, hf⟩ := zbind2 hf
  refine zr_callS_r C0 cv_X1_311 (m_X1_isAmount C0.2.2.2.2.2.2.1 e5) (by decide) (by decide) rfl rfl (Nat.le_of_ble_eq_true rfl) dX1_campaign_6 rfl ?_
  obtain ⟨_, e7, hf⟩ := zbind hf
  obtain ⟨h8, e9, hf⟩ := zbind hf
  refine zr_zast C0 dX1_campaign_9 (zgd_b e7) e9 ?_
  obtain ⟨x12, h10, e11, hf⟩ := zbind2 hf
  rcases x12 with x13 | q14
  · have hf := zinl hf
    refine zr_callS_r C0 cv_X1_168 (m_X1_requireArguments C0.2.2.2.2.2.2.1 e11) (by decide) (by decide) rfl rfl (Nat.le_of_ble_eq_true rfl) dX1_campaign_10 rfl ?_
    refine zr_lload_n C0 dX1_campaign_13 rfl 1 rfl ?_
    refine zr_aload_n C0 dX1_campaign_14 rfl 0 rfl ?_
    obtain ⟨x15, e16, hf⟩ := zbind hf
    refine zr_get C0 fl_X1_39_X1 dX1_campaign_15 (zgR e16) ?_
    obtain ⟨_, e17, hf⟩ := zbind hf
    obtain ⟨x20, h18, e19, hf⟩ := zbind2 hf
    refine zr_callV_r C0 cv_X1_327_X4 rfl (zcko e17) (m_X4_fund C0.2.2.2.2.2.2.1 e19) (by decide) (by decide) rfl rfl (Nat.le_of_ble_eq_true rfl) dX1_campaign_18 rfl ?_
    refine zr_lcmp C0 dX1_campaign_21 ?_
    refine zr_if_le C0 (tgt := 27) dX1_campaign_22 (by decide) (fun c21 => ?_) (fun c21 => ?_)
    · have hf := zif_t (zl_le.mp c21) hf
      refine zr_aload_n C0 dX1_campaign_27 rfl 0 rfl ?_
      obtain ⟨x22, e23, hf⟩ := zbind hf
      refine zr_get C0 fl_X1_39_X1 dX1_campaign_28 (zgR e23) ?_
      obtain ⟨x24, e25, hf⟩ := zbind hf
      refine zr_get C0 fl_X1_332_X4 dX1_campaign_31 (zgR e25) ?_
      refine zr_iconst C0 (v := 1) dX1_campaign_34 (by decide) ?_
      refine zr_dup2_11 C0 dX1_campaign_35 rfl rfl ?_
      obtain ⟨x26, e27, hf⟩ := zbind hf
      refine zr_lald C0 dX1_campaign_36 e27 ?_
      refine zr_lload_n C0 dX1_campaign_37 rfl 1 rfl ?_
      refine zr_ladd C0 dX1_campaign_38 ?_
      obtain ⟨h28, e29, hf⟩ := zbind hf
      refine zr_last C0 dX1_campaign_39 e29 ?_
      refine zr_iconst C0 (v := 1) dX1_campaign_40 (by decide) ?_
      refine zretW hf ?_
      exact zr_iret C0 (ty := .boolean) rfl (by decide) dX1_campaign_41 rfl
    · have hf := zif_f (zl_len.mp c21) hf
      refine zr_iconst C0 (v := 0) dX1_campaign_25 (by decide) ?_
      refine zretW hf ?_
      exact zr_iret C0 (ty := .boolean) rfl (by decide) dX1_campaign_26 rfl
  · have hf := zinr hf
    refine zretW hf ?_
    exact zr_callS_t C0 cv_X1_168 (m_X1_requireArguments C0.2.2.2.2.2.2.1 e11) (by decide) (by decide) rfl rfl (Nat.le_of_ble_eq_true rfl) dX1_campaign_10 (zr_out C0 hno rfl)
def f_X1_campaign (E : zE) (p0 : Nat) (p1 : Int64) (h : zH) : Option ((Int32 ⊕ (Nat × Nat)) × zH) := f_X1_campaign_b0 E p0 p1 h
theorem m_X1_campaign {l : Launch} (hst : l.stackTraces = false) {D : zD} {B0 : Nat} {E : zE} {p0 : Nat} {p1 : Int64} {h h' : zH} {r : (Int32 ⊕ (Nat × Nat))} (hf : f_X1_campaign E p0 p1 h = some (r, h')) : zMet l yX1_campaign (ws_ yX1_campaign cX1_campaign 3 (Option.some Jvm.ClassFile.FieldType.boolean)) 10 167 D B0 E [.ref p0, .long p1] h (zoT zoI r) h' := by
  unfold f_X1_campaign at hf
  refine zMet_of hst (by decide +kernel) rfl rfl (Nat.le_of_ble_eq_true rfl) (fun p e R s m below meth c C0 hno => ?_)
  show zW _ _ _ _ _ _ _ _ _ _ _ _ _ _ _ _ [(0, .ref p0), (1, .long p1)] []
  exact w_X1_campaign_b0 C0 hno hf
def f_X4_sales_b69 (E : zE) (k5 : Nat → Int32 → Int32 → Int64 → Int32 → zH → Option (Int64 × zH)) (p0 : Nat) (p1 : Int32) (p2 : Int32) (p5 : Int32) (s0 : Int64) (s1 : Int64) (h : zH) : Option (Int64 × zH) :=
  k5 p0 p1 p2 (s0 + s1) (p5 + 1) h
theorem w_X4_sales_b69 (C0 : zCx p l e R s m args below meth c D B0 6 "FranchiseLedger$Books" cX4_sales E 4 124 (Option.some Jvm.ClassFile.FieldType.long) "sales") {r : Int64} {h' : zH} {k5 : Nat → Int32 → Int32 → Int64 → Int32 → zH → Option (Int64 × zH)} (hk5 : ∀ (p0 : Nat) (p1 : Int32) (p2 : Int32) (p3 : Int64) (p5 : Int32) (h : zH), k5 p0 p1 p2 p3 p5 h = some (r, h') → zW p l e R s m args below meth c D B0 6 (zEnd D B0 R below args s (zoL r) h') h 5 [(0, .ref p0), (1, .int p1), (2, .int p2), (3, .long p3), (5, .int p5)] []) {p0 : Nat} {p1 : Int32} {p2 : Int32} {p5 : Int32} {s0 : Int64} {s1 : Int64} {h : zH} (hf : f_X4_sales_b69 E k5 p0 p1 p2 p5 s0 s1 h = some (r, h')) : zW p l e R s m args below meth c D B0 6 (zEnd D B0 R below args s (zoL r) h') h 69 [(0, .ref p0), (1, .int p1), (2, .int p2), (5, .int p5)] [.long s1, .long s0] := by
  unfold f_X4_sales_b69 at hf
  refine zr_ladd C0 dX4_sales_69 ?_
  refine zr_lstore_n (i := 3) (lv' := [(3, .long (s0 + s1)), (0, .ref p0), (1, .int p1), (2, .int p2), (5, .int p5)]) C0 dX4_sales_70 rfl (by decide) (by first | rfl | simp [zst1, zst2, zcat_rf]) ?_
  refine zr_iinc (lv' := [(5, .int (p5 + 1)), (3, .long (s0 + s1)), (0, .ref p0), (1, .int p1), (2, .int p2)]) C0 dX4_sales_71 4 rfl rfl (by decide) (by first | rfl | simp [zst1, zst2, zcat_rf]) ?_
  refine zr_goto C0 (tgt := 5) dX4_sales_74 (by decide) ?_
  refine zr_sub [2, 3, 4, 1, 0] rfl ?_
  exact hk5 _ _ _ _ _ _ hf
def f_X4_sales_l5 (E : zE) : Nat → Nat → Int32 → Int32 → Int64 → Int32 → zH → Option (Int64 × zH)
  | 0, _, _, _, _, _, _ => none
  | n + 1, p0, p1, p2, p3, p5, h =>
    (gR h p0 4 1).bind fun x1 =>
    (cko h x1 15).bind fun _ =>
    bnd2 (f_J2_size E x1 h) fun x6 h4 =>
    if x6 ≤ p5 then (
      some (p3, h4)
    ) else (
      (gR h4 p0 4 1).bind fun x8 =>
      (cko h4 x8 15).bind fun _ =>
      bnd2 (f_J2_get E x8 p5 h4) fun x13 h11 =>
      (cko h11 x13 13).bind fun _ =>
      (gI h11 x13 13 1).bind fun x15 =>
      if x15 = p1 then (
        (gR h11 p0 4 1).bind fun x18 =>
        (cko h11 x18 15).bind fun _ =>
        bnd2 (f_J2_get E x18 p5 h11) fun x23 h21 =>
        (cko h21 x23 13).bind fun _ =>
        (gL h21 x23 13 2).bind fun x25 =>
        f_X4_sales_b69 E (f_X4_sales_l5 E n) p0 p1 p2 p5 p3 ((x25 * (p2.toInt64)) / (100 : Int64)) h21
      ) else (
        f_X4_sales_b69 E (f_X4_sales_l5 E n) p0 p1 p2 p5 p3 (0 : Int64) h11
      )
    )
theorem w_X4_sales_l5 (C0 : zCx p l e R s m args below meth c D B0 6 "FranchiseLedger$Books" cX4_sales E 4 124 (Option.some Jvm.ClassFile.FieldType.long) "sales") {r : Int64} {h' : zH} : ∀ (n : Nat) (p0 : Nat) (p1 : Int32) (p2 : Int32) (p3 : Int64) (p5 : Int32) (h : zH), f_X4_sales_l5 E n p0 p1 p2 p3 p5 h = some (r, h') → zW p l e R s m args below meth c D B0 6 (zEnd D B0 R below args s (zoL r) h') h 5 [(0, .ref p0), (1, .int p1), (2, .int p2), (3, .long p3), (5, .int p5)] [] := by
  intro n
  induction n with
  | zero =>
    intro p0 p1 p2 p3 p5 h hf
    unfold f_X4_sales_l5 at hf
    cases hf
  | succ n ih =>
    intro p0 p1 p2 p3 p5 h hf
    unfold f_X4_sales_l5 at hf
    refine zr_iload C0 dX4_sales_5 4 rfl ?_
    refine zr_aload_n C0 dX4_sales_7 rfl 0 rfl ?_
    obtain ⟨x1, e2, hf⟩ := zbind hf
    refine zr_get C0 fl_X4_24_X4 dX4_sales_8 (zgR e2) ?_
    obtain ⟨_, e3, hf⟩ := zbind hf
    obtain ⟨x6, h4, e5, hf⟩ := zbind2 hf
    refine zr_callF_r C0 cv_X4_46_J2 rfl (zcko e3) (m_J2_size C0.2.2.2.2.2.2.1 e5) (by decide) (by decide) rfl rfl (Nat.le_of_ble_eq_true rfl) dX4_sales_11 rfl ?_
    refine zr_icmp_ge C0 (tgt := 77) dX4_sales_16 (by decide) (fun c7 => ?_) (fun c7 => ?_)
    · have hf := zif_t c7 hf
      refine zr_lload_n C0 dX4_sales_77 rfl 3 rfl ?_
      refine zretW hf ?_
      exact zr_lret C0 rfl dX4_sales_78 rfl
    · have hf := zif_f c7 hf
      refine zr_lload_n C0 dX4_sales_19 rfl 3 rfl ?_
      refine zr_aload_n C0 dX4_sales_20 rfl 0 rfl ?_
      obtain ⟨x8, e9, hf⟩ := zbind hf
      refine zr_get C0 fl_X4_24_X4 dX4_sales_21 (zgR e9) ?_
      refine zr_iload C0 dX4_sales_24 4 rfl ?_
      obtain ⟨_, e10, hf⟩ := zbind hf
      obtain ⟨x13, h11, e12, hf⟩ := zbind2 hf
      refine zr_callF_r C0 cv_X4_52_J2 rfl (zcko e10) (m_J2_get C0.2.2.2.2.2.2.1 e12) (by decide) (by decide) rfl rfl (Nat.le_of_ble_eq_true rfl) dX4_sales_26 rfl ?_
      obtain ⟨_, e14, hf⟩ := zbind hf
      refine zr_castS C0 (ci := 13) rfl (zcko e14) q1055 dX4_sales_31 ?_
      obtain ⟨x15, e16, hf⟩ := zbind hf
      refine zr_get C0 fl_X4_75_X14 dX4_sales_34 (zgI e16) ?_
      refine zr_iload_n C0 dX4_sales_37 rfl 1 rfl ?_
      refine zr_icmp_ne C0 (tgt := 68) dX4_sales_38 (by decide) (fun c17 => ?_) (fun c17 => ?_)
      · have hf := zif_f c17 hf
        refine zr_lconst C0 (v := 0) dX4_sales_68 (by decide) ?_
        refine zr_sub [0, 1, 2, 4] rfl ?_
        exact w_X4_sales_b69 C0 ih hf
      · have hf := zif_t c17 hf
        refine zr_aload_n C0 dX4_sales_41 rfl 0 rfl ?_
        obtain ⟨x18, e19, hf⟩ := zbind hf
        refine zr_get C0 fl_X4_24_X4 dX4_sales_42 (zgR e19) ?_
        refine zr_iload C0 dX4_sales_45 4 rfl ?_
        obtain ⟨_, e20, hf⟩ := zbind hf
        obtain ⟨x23, h21, e22, hf⟩ := zbind2 hf
        refine zr_callF_r C0 cv_X4_52_J2 rfl (zcko e20) (m_J2_get C0.2.2.2.2.2.2.1 e22) (by decide) (by decide) rfl rfl (Nat.le_of_ble_eq_true rfl) dX4_sales_47 rfl ?_
        obtain ⟨_, e24, hf⟩ := zbind hf
        refine zr_castS C0 (ci := 13) rfl (zcko e24) q1055 dX4_sales_52 ?_
        obtain ⟨x25, e26, hf⟩ := zbind hf
        refine zr_get C0 fl_X4_78_X14 dX4_sales_55 (zgL e26) ?_
        refine zr_iload_n C0 dX4_sales_58 rfl 2 rfl ?_
        refine zr_i2l C0 dX4_sales_59 ?_
        refine zr_lmul C0 dX4_sales_60 ?_
        refine zr_ldc2 C0 (v := 100) q1934 dX4_sales_61 ?_
        refine zr_ldiv C0 dX4_sales_64 (by decide) ?_
        refine zr_goto C0 (tgt := 69) dX4_sales_65 (by decide) ?_
        refine zr_sub [0, 1, 2, 4] rfl ?_
        exact w_X4_sales_b69 C0 ih hf
def f_X4_sales_b0 (E : zE) (p0 : Nat) (p1 : Int32) (p2 : Int32) (h : zH) : Option (Int64 × zH) :=
  f_X4_sales_l5 E E.1 p0 p1 p2 (0 : Int64) (0 : Int32) h
theorem w_X4_sales_b0 (C0 : zCx p l e R s m args below meth c D B0 6 "FranchiseLedger$Books" cX4_sales E 4 124 (Option.some Jvm.ClassFile.FieldType.long) "sales") {r : Int64} {h' : zH} {p0 : Nat} {p1 : Int32} {p2 : Int32} {h : zH} (hf : f_X4_sales_b0 E p0 p1 p2 h = some (r, h')) : zW p l e R s m args below meth c D B0 6 (zEnd D B0 R below args s (zoL r) h') h 0 [(0, .ref p0), (1, .int p1), (2, .int p2)] [] := by
  unfold f_X4_sales_b0 at hf
  refine zr_lconst C0 (v := 0) dX4_sales_0 (by decide) ?_
  refine zr_lstore_n (i := 3) (lv' := [(3, .long (0 : Int64)), (0, .ref p0), (1, .int p1), (2, .int p2)]) C0 dX4_sales_1 rfl (by decide) (by first | rfl | simp [zst1, zst2, zcat_rf]) ?_
  refine zr_iconst C0 (v := 0) dX4_sales_2 (by decide) ?_
  refine zr_istore (i := 5) (lv' := [(5, .int (0 : Int32)), (3, .long (0 : Int64)), (0, .ref p0), (1, .int p1), (2, .int p2)]) C0 dX4_sales_3 (by decide) (by first | rfl | simp [zst1, zst2, zcat_rf]) ?_
  refine zr_sub [2, 3, 4, 1, 0] rfl ?_
  exact w_X4_sales_l5 C0 _ _ _ _ _ _ _ hf
def f_X4_sales (E : zE) (p0 : Nat) (p1 : Int32) (p2 : Int32) (h : zH) : Option (Int64 × zH) := f_X4_sales_b0 E p0 p1 p2 h
theorem m_X4_sales {l : Launch} (hst : l.stackTraces = false) {D : zD} {B0 : Nat} {E : zE} {p0 : Nat} {p1 : Int32} {p2 : Int32} {h h' : zH} {r : Int64} (hf : f_X4_sales E p0 p1 p2 h = some (r, h')) : zMet l yX4_sales (ws_ yX4_sales cX4_sales 6 (Option.some Jvm.ClassFile.FieldType.long)) 4 124 D B0 E [.ref p0, .int p1, .int p2] h (zoL r) h' := by
  unfold f_X4_sales at hf
  refine zMet_of hst (by decide +kernel) rfl rfl (Nat.le_of_ble_eq_true rfl) (fun p e R s m below meth c C0 hno => ?_)
  show zW _ _ _ _ _ _ _ _ _ _ _ _ _ _ _ _ [(0, .ref p0), (1, .int p1), (2, .int p2)] []
  exact w_X4_sales_b0 C0 hf
def f_X4_planOf_b0 (E : zE) (p0 : Nat) (p1 : Int32) (h : zH) : Option (Nat × zH) :=
  (gR h p0 4 6).bind fun x1 =>
  (gR h x1 0 0).bind fun x3 =>
  (gR h x3 2 0).bind fun x5 =>
  (gR h p0 4 0).bind fun x7 =>
  (cko h x7 15).bind fun _ =>
  bnd2 (f_J2_get E x7 p1 h) fun x12 h10 =>
  (cko h10 x12 10).bind fun _ =>
  (gI h10 x12 10 3).bind fun x14 =>
  (cko h10 x5 15).bind fun _ =>
  bnd2 (f_J2_get E x5 x14 h10) fun x19 h17 =>
  (cko h17 x19 8).bind fun _ =>
  some (x19, h17)
theorem w_X4_planOf_b0 (C0 : zCx p l e R s m args below meth c D B0 2 "FranchiseLedger$Books" cX4_planOf E 4 124 (Option.some (Jvm.ClassFile.FieldType.object "FranchiseLedger$Plan")) "planOf") {r : Nat} {h' : zH} {p0 : Nat} {p1 : Int32} {h : zH} (hf : f_X4_planOf_b0 E p0 p1 h = some (r, h')) : zW p l e R s m args below meth c D B0 2 (zEnd D B0 R below args s (zoR r) h') h 0 [(0, .ref p0), (1, .int p1)] [] := by
  unfold f_X4_planOf_b0 at hf
  refine zr_aload_n C0 dX4_planOf_0 rfl 0 rfl ?_
  obtain ⟨x1, e2, hf⟩ := zbind hf
  refine zr_get C0 fl_X4_3_X4 dX4_planOf_1 (zgR e2) ?_
  obtain ⟨x3, e4, hf⟩ := zbind hf
  refine zr_get C0 fl_X4_95_X1 dX4_planOf_4 (zgR e4) ?_
  obtain ⟨x5, e6, hf⟩ := zbind hf
  refine zr_get C0 fl_X4_99_X2 dX4_planOf_7 (zgR e6) ?_
  refine zr_aload_n C0 dX4_planOf_10 rfl 0 rfl ?_
  obtain ⟨x7, e8, hf⟩ := zbind hf
  refine zr_get C0 fl_X4_20_X4 dX4_planOf_11 (zgR e8) ?_
  refine zr_iload_n C0 dX4_planOf_14 rfl 1 rfl ?_
  obtain ⟨_, e9, hf⟩ := zbind hf
  obtain ⟨x12, h10, e11, hf⟩ := zbind2 hf
  refine zr_callF_r C0 cv_X4_52_J2 rfl (zcko e9) (m_J2_get C0.2.2.2.2.2.2.1 e11) (by decide) (by decide) rfl rfl (Nat.le_of_ble_eq_true rfl) dX4_planOf_15 rfl ?_
  obtain ⟨_, e13, hf⟩ := zbind hf
  refine zr_castS C0 (ci := 10) rfl (zcko e13) q843 dX4_planOf_20 ?_
  obtain ⟨x14, e15, hf⟩ := zbind hf
  refine zr_get C0 fl_X4_104_X11 dX4_planOf_23 (zgI e15) ?_
  obtain ⟨_, e16, hf⟩ := zbind hf
  obtain ⟨x19, h17, e18, hf⟩ := zbind2 hf
  refine zr_callF_r C0 cv_X4_52_J2 rfl (zcko e16) (m_J2_get C0.2.2.2.2.2.2.1 e18) (by decide) (by decide) rfl rfl (Nat.le_of_ble_eq_true rfl) dX4_planOf_26 rfl ?_
  obtain ⟨_, e20, hf⟩ := zbind hf
  refine zr_castS C0 (ci := 8) rfl (zcko e20) q1939 dX4_planOf_31 ?_
  refine zretW hf ?_
  exact zr_aret C0 rfl (Or.inl ⟨_, rfl⟩) dX4_planOf_34 rfl
def f_X4_planOf (E : zE) (p0 : Nat) (p1 : Int32) (h : zH) : Option (Nat × zH) := f_X4_planOf_b0 E p0 p1 h
theorem m_X4_planOf {l : Launch} (hst : l.stackTraces = false) {D : zD} {B0 : Nat} {E : zE} {p0 : Nat} {p1 : Int32} {h h' : zH} {r : Nat} (hf : f_X4_planOf E p0 p1 h = some (r, h')) : zMet l yX4_planOf (ws_ yX4_planOf cX4_planOf 2 (Option.some (Jvm.ClassFile.FieldType.object "FranchiseLedger$Plan"))) 4 124 D B0 E [.ref p0, .int p1] h (zoR r) h' := by
  unfold f_X4_planOf at hf
  refine zMet_of hst (by decide +kernel) rfl rfl (Nat.le_of_ble_eq_true rfl) (fun p e R s m below meth c C0 hno => ?_)
  show zW _ _ _ _ _ _ _ _ _ _ _ _ _ _ _ _ [(0, .ref p0), (1, .int p1)] []
  exact w_X4_planOf_b0 C0 hf
def f_X16_rounded_b0 (E : zE) (p0 : Int64) (h : zH) : Option (Int64 × zH) :=
  some (((p0 + (5000 : Int64)) / (10000 : Int64)), h)
theorem w_X16_rounded_b0 (C0 : zCx p l e R s m args below meth c D B0 2 "FranchiseLedger$Rated" cX16_rounded E 1 60 (Option.some Jvm.ClassFile.FieldType.long) "rounded") {r : Int64} {h' : zH} {p0 : Int64} {h : zH} (hf : f_X16_rounded_b0 E p0 h = some (r, h')) : zW p l e R s m args below meth c D B0 2 (zEnd D B0 R below args s (zoL r) h') h 0 [(0, .long p0)] [] := by
  unfold f_X16_rounded_b0 at hf
  refine zr_lload_n C0 dX16_rounded_0 rfl 0 rfl ?_
  refine zr_ldc2 C0 (v := 5000) q1965 dX16_rounded_1 ?_
  refine zr_ladd C0 dX16_rounded_4 ?_
  refine zr_ldc2 C0 (v := 10000) q1966 dX16_rounded_5 ?_
  refine zr_ldiv C0 dX16_rounded_8 (by decide) ?_
  refine zretW hf ?_
  exact zr_lret C0 rfl dX16_rounded_9 rfl
def f_X16_rounded (E : zE) (p0 : Int64) (h : zH) : Option (Int64 × zH) := f_X16_rounded_b0 E p0 h
theorem m_X16_rounded {l : Launch} (hst : l.stackTraces = false) {D : zD} {B0 : Nat} {E : zE} {p0 : Int64} {h h' : zH} {r : Int64} (hf : f_X16_rounded E p0 h = some (r, h')) : zMet l yX16_rounded (ws_ yX16_rounded cX16_rounded 2 (Option.some Jvm.ClassFile.FieldType.long)) 1 60 D B0 E [.long p0] h (zoL r) h' := by
  unfold f_X16_rounded at hf
  refine zMet_of hst (by decide +kernel) rfl rfl (Nat.le_of_ble_eq_true rfl) (fun p e R s m below meth c C0 hno => ?_)
  show zW _ _ _ _ _ _ _ _ _ _ _ _ _ _ _ _ [(0, .long p0)] []
  exact w_X16_rounded_b0 C0 hf
def f_X10_threshold_b0 (E : zE) (p0 : Nat) (h : zH) : Option (Int64 × zH) :=
  (gL h p0 9 0).bind fun x1 =>
  some (x1, h)
theorem w_X10_threshold_b0 (C0 : zCx p l e R s m args below meth c D B0 1 "FranchiseLedger$Tier" cX10_threshold E 1 60 (Option.some Jvm.ClassFile.FieldType.long) "threshold") {r : Int64} {h' : zH} {p0 : Nat} {h : zH} (hf : f_X10_threshold_b0 E p0 h = some (r, h')) : zW p l e R s m args below meth c D B0 1 (zEnd D B0 R below args s (zoL r) h') h 0 [(0, .ref p0)] [] := by
  unfold f_X10_threshold_b0 at hf
  refine zr_aload_n C0 dX10_threshold_0 rfl 0 rfl ?_
  obtain ⟨x1, e2, hf⟩ := zbind hf
  refine zr_get C0 fl_X10_7_X10 dX10_threshold_1 (zgL e2) ?_
  refine zretW hf ?_
  exact zr_lret C0 rfl dX10_threshold_4 rfl
def f_X10_threshold (E : zE) (p0 : Nat) (h : zH) : Option (Int64 × zH) := f_X10_threshold_b0 E p0 h
theorem m_X10_threshold {l : Launch} (hst : l.stackTraces = false) {D : zD} {B0 : Nat} {E : zE} {p0 : Nat} {h h' : zH} {r : Int64} (hf : f_X10_threshold E p0 h = some (r, h')) : zMet l yX10_threshold (ws_ yX10_threshold cX10_threshold 1 (Option.some Jvm.ClassFile.FieldType.long)) 1 60 D B0 E [.ref p0] h (zoL r) h' := by
  unfold f_X10_threshold at hf
  refine zMet_of hst (by decide +kernel) rfl rfl (Nat.le_of_ble_eq_true rfl) (fun p e R s m below meth c C0 hno => ?_)
  show zW _ _ _ _ _ _ _ _ _ _ _ _ _ _ _ _ [(0, .ref p0)] []
  exact w_X10_threshold_b0 C0 hf
def f_J12_min_2_b11 (E : zE) (s0 : Int64) (h : zH) : Option (Int64 × zH) :=
  some (s0, h)
theorem w_J12_min_2_b11 (C0 : zCx p l e R s m args below meth c D B0 4 "java/lang/Math" cJ12_min_2 E 1 60 (Option.some Jvm.ClassFile.FieldType.long) "min") {r : Int64} {h' : zH} {s0 : Int64} {h : zH} (hf : f_J12_min_2_b11 E s0 h = some (r, h')) : zW p l e R s m args below meth c D B0 4 (zEnd D B0 R below args s (zoL r) h') h 11 [] [.long s0] := by
  unfold f_J12_min_2_b11 at hf
  refine zretW hf ?_
  exact zr_lret C0 rfl dJ12_min_2_11 rfl
def f_J12_min_2_b0 (E : zE) (p0 : Int64) (p2 : Int64) (h : zH) : Option (Int64 × zH) :=
  if p2 < p0 then (
    f_J12_min_2_b11 E p2 h
  ) else (
    f_J12_min_2_b11 E p0 h
  )
theorem w_J12_min_2_b0 (C0 : zCx p l e R s m args below meth c D B0 4 "java/lang/Math" cJ12_min_2 E 1 60 (Option.some Jvm.ClassFile.FieldType.long) "min") {r : Int64} {h' : zH} {p0 : Int64} {p2 : Int64} {h : zH} (hf : f_J12_min_2_b0 E p0 p2 h = some (r, h')) : zW p l e R s m args below meth c D B0 4 (zEnd D B0 R below args s (zoL r) h') h 0 [(0, .long p0), (2, .long p2)] [] := by
  unfold f_J12_min_2_b0 at hf
  refine zr_lload_n C0 dJ12_min_2_0 rfl 0 rfl ?_
  refine zr_lload_n C0 dJ12_min_2_1 rfl 1 rfl ?_
  refine zr_lcmp C0 dJ12_min_2_2 ?_
  refine zr_if_gt C0 (tgt := 10) dJ12_min_2_3 (by decide) (fun c1 => ?_) (fun c1 => ?_)
  · have hf := zif_t (zl_gt.mp c1) hf
    refine zr_lload_n C0 dJ12_min_2_10 rfl 1 rfl ?_
    refine zr_sub [] rfl ?_
    exact w_J12_min_2_b11 C0 hf
  · have hf := zif_f (zl_gtn.mp c1) hf
    refine zr_lload_n C0 dJ12_min_2_6 rfl 0 rfl ?_
    refine zr_goto C0 (tgt := 11) dJ12_min_2_7 (by decide) ?_
    refine zr_sub [] rfl ?_
    exact w_J12_min_2_b11 C0 hf
def f_J12_min_2 (E : zE) (p0 : Int64) (p2 : Int64) (h : zH) : Option (Int64 × zH) := f_J12_min_2_b0 E p0 p2 h
theorem m_J12_min_2 {l : Launch} (hst : l.stackTraces = false) {D : zD} {B0 : Nat} {E : zE} {p0 : Int64} {p2 : Int64} {h h' : zH} {r : Int64} (hf : f_J12_min_2 E p0 p2 h = some (r, h')) : zMet l yJ12_min_2 (ws_ yJ12_min_2 cJ12_min_2 4 (Option.some Jvm.ClassFile.FieldType.long)) 1 60 D B0 E [.long p0, .long p2] h (zoL r) h' := by
  unfold f_J12_min_2 at hf
  refine zMet_ofF hst (by decide +kernel) rfl rfl (Nat.le_of_ble_eq_true rfl) (fun p e R s m below meth c C0 hno => ?_)
  show zW _ _ _ _ _ _ _ _ _ _ _ _ _ _ _ _ [(0, .long p0), (2, .long p2)] []
  exact w_J12_min_2_b0 C0 hf
def f_X10_rate_b0 (E : zE) (p0 : Nat) (h : zH) : Option (Int32 × zH) :=
  (gI h p0 9 1).bind fun x1 =>
  some (x1, h)
theorem w_X10_rate_b0 (C0 : zCx p l e R s m args below meth c D B0 1 "FranchiseLedger$Tier" cX10_rate E 1 60 (Option.some Jvm.ClassFile.FieldType.int) "rate") {r : Int32} {h' : zH} {p0 : Nat} {h : zH} (hf : f_X10_rate_b0 E p0 h = some (r, h')) : zW p l e R s m args below meth c D B0 1 (zEnd D B0 R below args s (zoI r) h') h 0 [(0, .ref p0)] [] := by
  unfold f_X10_rate_b0 at hf
  refine zr_aload_n C0 dX10_rate_0 rfl 0 rfl ?_
  obtain ⟨x1, e2, hf⟩ := zbind hf
  refine zr_get C0 fl_X10_13_X10 dX10_rate_1 (zgI e2) ?_
  refine zretW hf ?_
  exact zr_iret C0 (ty := .int) rfl rfl dX10_rate_4 rfl
def f_X10_rate (E : zE) (p0 : Nat) (h : zH) : Option (Int32 × zH) := f_X10_rate_b0 E p0 h
theorem m_X10_rate {l : Launch} (hst : l.stackTraces = false) {D : zD} {B0 : Nat} {E : zE} {p0 : Nat} {h h' : zH} {r : Int32} (hf : f_X10_rate E p0 h = some (r, h')) : zMet l yX10_rate (ws_ yX10_rate cX10_rate 1 (Option.some Jvm.ClassFile.FieldType.int)) 1 60 D B0 E [.ref p0] h (zoI r) h' := by
  unfold f_X10_rate at hf
  refine zMet_of hst (by decide +kernel) rfl rfl (Nat.le_of_ble_eq_true rfl) (fun p e R s m below meth c C0 hno => ?_)
  show zW _ _ _ _ _ _ _ _ _ _ _ _ _ _ _ _ [(0, .ref p0)] []
  exact w_X10_rate_b0 C0 hf
def f_X9_royalty_b60 (E : zE) (k5 : Nat → Int64 → Int64 → Int32 → zH → Option (Int64 × zH)) (p0 : Nat) (p1 : Int64) (p3 : Int64) (p5 : Int32) (s0 : Int64) (h : zH) : Option (Int64 × zH) :=
  bnd2 (f_J12_min_2 E p1 s0 h) fun x3 h1 =>
  (gR h1 p0 8 1).bind fun x4 =>
  (cko h1 x4 15).bind fun _ =>
  bnd2 (f_J2_get E x4 p5 h1) fun x9 h7 =>
  (cko h7 x9 9).bind fun _ =>
  (cko h7 x9 9).bind fun _ =>
  bnd2 (f_X10_threshold E x9 h7) fun x14 h12 =>
  bnd2 (f_J12_max_2 E (0 : Int64) (x3 - x14) h12) fun x17 h15 =>
  (gR h15 p0 8 1).bind fun x18 =>
  (cko h15 x18 15).bind fun _ =>
  bnd2 (f_J2_get E x18 p5 h15) fun x23 h21 =>
  (cko h21 x23 9).bind fun _ =>
  (cko h21 x23 9).bind fun _ =>
  bnd2 (f_X10_rate E x23 h21) fun x28 h26 =>
  k5 p0 p1 (p3 + (x17 * (x28.toInt64))) (p5 + 1) h26
theorem w_X9_royalty_b60 (C0 : zCx p l e R s m args below meth c D B0 10 "FranchiseLedger$Plan" cX9_royalty E 4 124 (Option.some Jvm.ClassFile.FieldType.long) "royalty") {r : Int64} {h' : zH} {k5 : Nat → Int64 → Int64 → Int32 → zH → Option (Int64 × zH)} (hk5 : ∀ (p0 : Nat) (p1 : Int64) (p3 : Int64) (p5 : Int32) (h : zH), k5 p0 p1 p3 p5 h = some (r, h') → zW p l e R s m args below meth c D B0 10 (zEnd D B0 R below args s (zoL r) h') h 5 [(0, .ref p0), (1, .long p1), (3, .long p3), (5, .int p5)] []) {p0 : Nat} {p1 : Int64} {p3 : Int64} {p5 : Int32} {s0 : Int64} {h : zH} (hf : f_X9_royalty_b60 E k5 p0 p1 p3 p5 s0 h = some (r, h')) : zW p l e R s m args below meth c D B0 10 (zEnd D B0 R below args s (zoL r) h') h 60 [(0, .ref p0), (1, .long p1), (3, .long p3), (5, .int p5)] [.long s0] := by
  unfold f_X9_royalty_b60 at hf
  refine zr_lstore (i := 6) (lv' := [(6, .long s0), (0, .ref p0), (1, .long p1), (3, .long p3), (5, .int p5)]) C0 dX9_royalty_60 (by decide) (by first | rfl | simp [zst1, zst2, zcat_rf]) ?_
  refine zr_lload_n C0 dX9_royalty_62 rfl 2 rfl ?_
  refine zr_lload C0 dX9_royalty_63 0 rfl ?_
  obtain ⟨x3, h1, e2, hf⟩ := zbind2 hf
  refine zr_callS_r C0 cv_X9_45 (m_J12_min_2 C0.2.2.2.2.2.2.1 e2) (by decide) (by decide) rfl rfl (Nat.le_of_ble_eq_true rfl) dX9_royalty_65 rfl ?_
  refine zr_aload_n C0 dX9_royalty_68 rfl 1 rfl ?_
  obtain ⟨x4, e5, hf⟩ := zbind hf
  refine zr_get C0 fl_X9_12_X9 dX9_royalty_69 (zgR e5) ?_
  refine zr_iload C0 dX9_royalty_72 4 rfl ?_
  obtain ⟨_, e6, hf⟩ := zbind hf
  obtain ⟨x9, h7, e8, hf⟩ := zbind2 hf
  refine zr_callF_r C0 cv_X9_31_J2 rfl (zcko e6) (m_J2_get C0.2.2.2.2.2.2.1 e8) (by decide) (by decide) rfl rfl (Nat.le_of_ble_eq_true rfl) dX9_royalty_74 rfl ?_
  obtain ⟨_, e10, hf⟩ := zbind hf
  refine zr_castS C0 (ci := 9) rfl (zcko e10) q1948 dX9_royalty_79 ?_
  obtain ⟨_, e11, hf⟩ := zbind hf
  obtain ⟨x14, h12, e13, hf⟩ := zbind2 hf
  refine zr_callV_r C0 cv_X9_37_X10 rfl (zcko e11) (m_X10_threshold C0.2.2.2.2.2.2.1 e13) (by decide) (by decide) rfl rfl (Nat.le_of_ble_eq_true rfl) dX9_royalty_82 rfl ?_
  refine zr_lsub C0 dX9_royalty_85 ?_
  refine zr_lstore (i := 8) (lv' := [(8, .long (x3 - x14)), (6, .long s0), (0, .ref p0), (1, .long p1), (3, .long p3), (5, .int p5)]) C0 dX9_royalty_86 (by decide) (by first | rfl | simp [zst1, zst2, zcat_rf]) ?_
  refine zr_lload_n C0 dX9_royalty_88 rfl 4 rfl ?_
  refine zr_lconst C0 (v := 0) dX9_royalty_89 (by decide) ?_
  refine zr_lload C0 dX9_royalty_90 0 rfl ?_
  obtain ⟨x17, h15, e16, hf⟩ := zbind2 hf
  refine zr_callS_r C0 cv_X9_51 (m_J12_max_2 C0.2.2.2.2.2.2.1 e16) (by decide) (by decide) rfl rfl (Nat.le_of_ble_eq_true rfl) dX9_royalty_92 rfl ?_
  refine zr_aload_n C0 dX9_royalty_95 rfl 2 rfl ?_
  obtain ⟨x18, e19, hf⟩ := zbind hf
  refine zr_get C0 fl_X9_12_X9 dX9_royalty_96 (zgR e19) ?_
  refine zr_iload C0 dX9_royalty_99 5 rfl ?_
  obtain ⟨_, e20, hf⟩ := zbind hf
  obtain ⟨x23, h21, e22, hf⟩ := zbind2 hf
  refine zr_callF_r C0 cv_X9_31_J2 rfl (zcko e20) (m_J2_get C0.2.2.2.2.2.2.1 e22) (by decide) (by decide) rfl rfl (Nat.le_of_ble_eq_true rfl) dX9_royalty_101 rfl ?_
  obtain ⟨_, e24, hf⟩ := zbind hf
  refine zr_castS C0 (ci := 9) rfl (zcko e24) q1948 dX9_royalty_106 ?_
  obtain ⟨_, e25, hf⟩ := zbind hf
  obtain ⟨x28, h26, e27, hf⟩ := zbind2 hf
  refine zr_callV_r C0 cv_X9_54_X10 rfl (zcko e25) (m_X10_rate C0.2.2.2.2.2.2.1 e27) (by decide) (by decide) rfl rfl (Nat.le_of_ble_eq_true rfl) dX9_royalty_109 rfl ?_
  refine zr_i2l C0 dX9_royalty_112 ?_
  refine zr_lmul C0 dX9_royalty_113 ?_
  refine zr_ladd C0 dX9_royalty_114 ?_
  refine zr_lstore_n (i := 3) (lv' := [(3, .long (p3 + (x17 * (x28.toInt64)))), (8, .long (x3 - x14)), (6, .long s0), (0, .ref p0), (1, .long p1), (5, .int p5)]) C0 dX9_royalty_115 rfl (by decide) (by first | rfl | simp [zst1, zst2, zcat_rf]) ?_
  refine zr_iinc (lv' := [(5, .int (p5 + 1)), (3, .long (p3 + (x17 * (x28.toInt64)))), (8, .long (x3 - x14)), (6, .long s0), (0, .ref p0), (1, .long p1)]) C0 dX9_royalty_116 5 rfl rfl (by decide) (by first | rfl | simp [zst1, zst2, zcat_rf]) ?_
  refine zr_goto C0 (tgt := 5) dX9_royalty_119 (by decide) ?_
  refine zr_sub [4, 5, 1, 0] rfl ?_
  exact hk5 _ _ _ _ _ hf
def f_X9_royalty_l5 (E : zE) : Nat → Nat → Int64 → Int64 → Int32 → zH → Option (Int64 × zH)
  | 0, _, _, _, _, _ => none
  | n + 1, p0, p1, p3, p5, h =>
    (gR h p0 8 1).bind fun x1 =>
    (cko h x1 15).bind fun _ =>
    bnd2 (f_J2_size E x1 h) fun x6 h4 =>
    if x6 ≤ p5 then (
      bnd2 (f_X16_rounded E p3 h4) fun x10 h8 =>
      some (x10, h8)
    ) else (
      (gR h4 p0 8 1).bind fun x11 =>
      (cko h4 x11 15).bind fun _ =>
      bnd2 (f_J2_size E x11 h4) fun x16 h14 =>
      if x16 ≤ (p5 + (1 : Int32)) then (
        f_X9_royalty_b60 E (f_X9_royalty_l5 E n) p0 p1 p3 p5 (9223372036854775807 : Int64) h14
      ) else (
        (gR h14 p0 8 1).bind fun x18 =>
        (cko h14 x18 15).bind fun _ =>
        bnd2 (f_J2_get E x18 (p5 + (1 : Int32)) h14) fun x23 h21 =>
        (cko h21 x23 9).bind fun _ =>
        (cko h21 x23 9).bind fun _ =>
        bnd2 (f_X10_threshold E x23 h21) fun x28 h26 =>
        f_X9_royalty_b60 E (f_X9_royalty_l5 E n) p0 p1 p3 p5 x28 h26
      )
    )
theorem w_X9_royalty_l5 (C0 : zCx p l e R s m args below meth c D B0 10 "FranchiseLedger$Plan" cX9_royalty E 4 124 (Option.some Jvm.ClassFile.FieldType.long) "royalty") {r : Int64} {h' : zH} : ∀ (n : Nat) (p0 : Nat) (p1 : Int64) (p3 : Int64) (p5 : Int32) (h : zH), f_X9_royalty_l5 E n p0 p1 p3 p5 h = some (r, h') → zW p l e R s m args below meth c D B0 10 (zEnd D B0 R below args s (zoL r) h') h 5 [(0, .ref p0), (1, .long p1), (3, .long p3), (5, .int p5)] [] := by
  intro n
  induction n with
  | zero =>
    intro p0 p1 p3 p5 h hf
    unfold f_X9_royalty_l5 at hf
    cases hf
  | succ n ih =>
    intro p0 p1 p3 p5 h hf
    unfold f_X9_royalty_l5 at hf
    refine zr_iload C0 dX9_royalty_5 3 rfl ?_
    refine zr_aload_n C0 dX9_royalty_7 rfl 0 rfl ?_
    obtain ⟨x1, e2, hf⟩ := zbind hf
    refine zr_get C0 fl_X9_12_X9 dX9_royalty_8 (zgR e2) ?_
    obtain ⟨_, e3, hf⟩ := zbind hf
    obtain ⟨x6, h4, e5, hf⟩ := zbind2 hf
    refine zr_callF_r C0 cv_X9_25_J2 rfl (zcko e3) (m_J2_size C0.2.2.2.2.2.2.1 e5) (by decide) (by decide) rfl rfl (Nat.le_of_ble_eq_true rfl) dX9_royalty_11 rfl ?_
    refine zr_icmp_ge C0 (tgt := 122) dX9_royalty_16 (by decide) (fun c7 => ?_) (fun c7 => ?_)
    · have hf := zif_t c7 hf
      refine zr_lload_n C0 dX9_royalty_122 rfl 2 rfl ?_
      obtain ⟨x10, h8, e9, hf⟩ := zbind2 hf
      refine zr_callS_r C0 cv_X9_57 (m_X16_rounded C0.2.2.2.2.2.2.1 e9) (by decide) (by decide) rfl rfl (Nat.le_of_ble_eq_true rfl) dX9_royalty_123 rfl ?_
      refine zretW hf ?_
      exact zr_lret C0 rfl dX9_royalty_126 rfl
    · have hf := zif_f c7 hf
      refine zr_iload C0 dX9_royalty_19 3 rfl ?_
      refine zr_iconst C0 (v := 1) dX9_royalty_21 (by decide) ?_
      refine zr_iadd C0 dX9_royalty_22 ?_
      refine zr_aload_n C0 dX9_royalty_23 rfl 0 rfl ?_
      obtain ⟨x11, e12, hf⟩ := zbind hf
      refine zr_get C0 fl_X9_12_X9 dX9_royalty_24 (zgR e12) ?_
      obtain ⟨_, e13, hf⟩ := zbind hf
      obtain ⟨x16, h14, e15, hf⟩ := zbind2 hf
      refine zr_callF_r C0 cv_X9_25_J2 rfl (zcko e13) (m_J2_size C0.2.2.2.2.2.2.1 e15) (by decide) (by decide) rfl rfl (Nat.le_of_ble_eq_true rfl) dX9_royalty_27 rfl ?_
      refine zr_icmp_ge C0 (tgt := 57) dX9_royalty_32 (by decide) (fun c17 => ?_) (fun c17 => ?_)
      · have hf := zif_t c17 hf
        refine zr_ldc2 C0 (v := 9223372036854775807) q1953 dX9_royalty_57 ?_
        exact w_X9_royalty_b60 C0 ih hf
      · have hf := zif_f c17 hf
        refine zr_aload_n C0 dX9_royalty_35 rfl 0 rfl ?_
        obtain ⟨x18, e19, hf⟩ := zbind hf
        refine zr_get C0 fl_X9_12_X9 dX9_royalty_36 (zgR e19) ?_
        refine zr_iload C0 dX9_royalty_39 3 rfl ?_
        refine zr_iconst C0 (v := 1) dX9_royalty_41 (by decide) ?_
        refine zr_iadd C0 dX9_royalty_42 ?_
        obtain ⟨_, e20, hf⟩ := zbind hf
        obtain ⟨x23, h21, e22, hf⟩ := zbind2 hf
        refine zr_callF_r C0 cv_X9_31_J2 rfl (zcko e20) (m_J2_get C0.2.2.2.2.2.2.1 e22) (by decide) (by decide) rfl rfl (Nat.le_of_ble_eq_true rfl) dX9_royalty_43 rfl ?_
        obtain ⟨_, e24, hf⟩ := zbind hf
        refine zr_castS C0 (ci := 9) rfl (zcko e24) q1948 dX9_royalty_48 ?_
        obtain ⟨_, e25, hf⟩ := zbind hf
        obtain ⟨x28, h26, e27, hf⟩ := zbind2 hf
        refine zr_callV_r C0 cv_X9_37_X10 rfl (zcko e25) (m_X10_threshold C0.2.2.2.2.2.2.1 e27) (by decide) (by decide) rfl rfl (Nat.le_of_ble_eq_true rfl) dX9_royalty_51 rfl ?_
        refine zr_goto C0 (tgt := 60) dX9_royalty_54 (by decide) ?_
        exact w_X9_royalty_b60 C0 ih hf
def f_X9_royalty_b0 (E : zE) (p0 : Nat) (p1 : Int64) (h : zH) : Option (Int64 × zH) :=
  f_X9_royalty_l5 E E.1 p0 p1 (0 : Int64) (0 : Int32) h
theorem w_X9_royalty_b0 (C0 : zCx p l e R s m args below meth c D B0 10 "FranchiseLedger$Plan" cX9_royalty E 4 124 (Option.some Jvm.ClassFile.FieldType.long) "royalty") {r : Int64} {h' : zH} {p0 : Nat} {p1 : Int64} {h : zH} (hf : f_X9_royalty_b0 E p0 p1 h = some (r, h')) : zW p l e R s m args below meth c D B0 10 (zEnd D B0 R below args s (zoL r) h') h 0 [(0, .ref p0), (1, .long p1)] [] := by
  unfold f_X9_royalty_b0 at hf
  refine zr_lconst C0 (v := 0) dX9_royalty_0 (by decide) ?_
  refine zr_lstore_n (i := 3) (lv' := [(3, .long (0 : Int64)), (0, .ref p0), (1, .long p1)]) C0 dX9_royalty_1 rfl (by decide) (by first | rfl | simp [zst1, zst2, zcat_rf]) ?_
  refine zr_iconst C0 (v := 0) dX9_royalty_2 (by decide) ?_
  refine zr_istore (i := 5) (lv' := [(5, .int (0 : Int32)), (3, .long (0 : Int64)), (0, .ref p0), (1, .long p1)]) C0 dX9_royalty_3 (by decide) (by first | rfl | simp [zst1, zst2, zcat_rf]) ?_
  refine zr_sub [2, 3, 1, 0] rfl ?_
  exact w_X9_royalty_l5 C0 _ _ _ _ _ _ hf
def f_X9_royalty (E : zE) (p0 : Nat) (p1 : Int64) (h : zH) : Option (Int64 × zH) := f_X9_royalty_b0 E p0 p1 h
theorem m_X9_royalty {l : Launch} (hst : l.stackTraces = false) {D : zD} {B0 : Nat} {E : zE} {p0 : Nat} {p1 : Int64} {h h' : zH} {r : Int64} (hf : f_X9_royalty E p0 p1 h = some (r, h')) : zMet l yX9_royalty (ws_ yX9_royalty cX9_royalty 10 (Option.some Jvm.ClassFile.FieldType.long)) 4 124 D B0 E [.ref p0, .long p1] h (zoL r) h' := by
  unfold f_X9_royalty at hf
  refine zMet_of hst (by decide +kernel) rfl rfl (Nat.le_of_ble_eq_true rfl) (fun p e R s m below meth c C0 hno => ?_)
  show zW _ _ _ _ _ _ _ _ _ _ _ _ _ _ _ _ [(0, .ref p0), (1, .long p1)] []
  exact w_X9_royalty_b0 C0 hf
def f_X3_rate_b0 (E : zE) (p0 : Nat) (h : zH) : Option (Int32 × zH) :=
  (gI h p0 3 0).bind fun x1 =>
  some (x1, h)
theorem w_X3_rate_b0 (C0 : zCx p l e R s m args below meth c D B0 1 "FranchiseLedger$Rate" cX3_rate E 1 60 (Option.some Jvm.ClassFile.FieldType.int) "rate") {r : Int32} {h' : zH} {p0 : Nat} {h : zH} (hf : f_X3_rate_b0 E p0 h = some (r, h')) : zW p l e R s m args below meth c D B0 1 (zEnd D B0 R below args s (zoI r) h') h 0 [(0, .ref p0)] [] := by
  unfold f_X3_rate_b0 at hf
  refine zr_aload_n C0 dX3_rate_0 rfl 0 rfl ?_
  obtain ⟨x1, e2, hf⟩ := zbind hf
  refine zr_get C0 fl_X3_7_X3 dX3_rate_1 (zgI e2) ?_
  refine zretW hf ?_
  exact zr_iret C0 (ty := .int) rfl rfl dX3_rate_4 rfl
def f_X3_rate (E : zE) (p0 : Nat) (h : zH) : Option (Int32 × zH) := f_X3_rate_b0 E p0 h
theorem m_X3_rate {l : Launch} (hst : l.stackTraces = false) {D : zD} {B0 : Nat} {E : zE} {p0 : Nat} {h h' : zH} {r : Int32} (hf : f_X3_rate E p0 h = some (r, h')) : zMet l yX3_rate (ws_ yX3_rate cX3_rate 1 (Option.some Jvm.ClassFile.FieldType.int)) 1 60 D B0 E [.ref p0] h (zoI r) h' := by
  unfold f_X3_rate at hf
  refine zMet_of hst (by decide +kernel) rfl rfl (Nat.le_of_ble_eq_true rfl) (fun p e R s m below meth c C0 hno => ?_)
  show zW _ _ _ _ _ _ _ _ _ _ _ _ _ _ _ _ [(0, .ref p0)] []
  exact w_X3_rate_b0 C0 hf
def f_X16_of_b0 (E : zE) (p0 : Nat) (p1 : Int64) (h : zH) : Option (Int64 × zH) :=
  (cko h p0 3).bind fun _ =>
  bnd2 (f_X3_rate E p0 h) fun x4 h2 =>
  bnd2 (f_X16_rounded E (p1 * (x4.toInt64)) h2) fun x7 h5 =>
  some (x7, h5)
theorem w_X16_of_b0 (C0 : zCx p l e R s m args below meth c D B0 3 "FranchiseLedger$Rated" cX16_of E 2 81 (Option.some Jvm.ClassFile.FieldType.long) "of") {r : Int64} {h' : zH} {p0 : Nat} {p1 : Int64} {h : zH} (hf : f_X16_of_b0 E p0 p1 h = some (r, h')) : zW p l e R s m args below meth c D B0 3 (zEnd D B0 R below args s (zoL r) h') h 0 [(0, .ref p0), (1, .long p1)] [] := by
  unfold f_X16_of_b0 at hf
  refine zr_lload_n C0 dX16_of_0 rfl 1 rfl ?_
  refine zr_aload_n C0 dX16_of_1 rfl 0 rfl ?_
  obtain ⟨_, e1, hf⟩ := zbind hf
  obtain ⟨x4, h2, e3, hf⟩ := zbind2 hf
  refine zr_callF_r C0 cv_X16_7_X3 rfl (zcko e1) (m_X3_rate C0.2.2.2.2.2.2.1 e3) (by decide) (by decide) rfl rfl (Nat.le_of_ble_eq_true rfl) dX16_of_2 rfl ?_
  refine zr_i2l C0 dX16_of_7 ?_
  refine zr_lmul C0 dX16_of_8 ?_
  obtain ⟨x7, h5, e6, hf⟩ := zbind2 hf
  refine zr_callS_r C0 cv_X16_13 (m_X16_rounded C0.2.2.2.2.2.2.1 e6) (by decide) (by decide) rfl rfl (Nat.le_of_ble_eq_true rfl) dX16_of_9 rfl ?_
  refine zretW hf ?_
  exact zr_lret C0 rfl dX16_of_12 rfl
def f_X16_of (E : zE) (p0 : Nat) (p1 : Int64) (h : zH) : Option (Int64 × zH) := f_X16_of_b0 E p0 p1 h
theorem m_X16_of {l : Launch} (hst : l.stackTraces = false) {D : zD} {B0 : Nat} {E : zE} {p0 : Nat} {p1 : Int64} {h h' : zH} {r : Int64} (hf : f_X16_of E p0 p1 h = some (r, h')) : zMet l yX16_of (ws_ yX16_of cX16_of 3 (Option.some Jvm.ClassFile.FieldType.long)) 2 81 D B0 E [.ref p0, .long p1] h (zoL r) h' := by
  unfold f_X16_of at hf
  refine zMet_of hst (by decide +kernel) rfl rfl (Nat.le_of_ble_eq_true rfl) (fun p e R s m below meth c C0 hno => ?_)
  show zW _ _ _ _ _ _ _ _ _ _ _ _ _ _ _ _ [(0, .ref p0), (1, .long p1)] []
  exact w_X16_of_b0 C0 hf
def f_X4_credit_b0 (E : zE) (p0 : Nat) (p1 : Int32) (p2 : Int32) (h : zH) : Option (Int64 × zH) :=
  (gR h p0 4 6).bind fun x1 =>
  (gR h x1 0 0).bind fun x3 =>
  (gL h x3 2 5).bind fun x5 =>
  (gR h p0 4 6).bind fun x7 =>
  (gR h x7 0 0).bind fun x9 =>
  (gR h x9 2 2).bind fun x11 =>
  (gR h p0 4 3).bind fun x13 =>
  (dR h x13 5 p1).bind fun x15 =>
  (dL h x15 p2).bind fun x17 =>
  (cko h x11 3).bind fun _ =>
  bnd2 (f_X16_of E x11 x17 h) fun x22 h20 =>
  bnd2 (f_J12_min_2 E x5 x22 h20) fun x25 h23 =>
  some (x25, h23)
theorem w_X4_credit_b0 (C0 : zCx p l e R s m args below meth c D B0 3 "FranchiseLedger$Books" cX4_credit E 3 103 (Option.some Jvm.ClassFile.FieldType.long) "credit") {r : Int64} {h' : zH} {p0 : Nat} {p1 : Int32} {p2 : Int32} {h : zH} (hf : f_X4_credit_b0 E p0 p1 p2 h = some (r, h')) : zW p l e R s m args below meth c D B0 3 (zEnd D B0 R below args s (zoL r) h') h 0 [(0, .ref p0), (1, .int p1), (2, .int p2)] [] := by
  unfold f_X4_credit_b0 at hf
  refine zr_aload_n C0 dX4_credit_0 rfl 0 rfl ?_
  obtain ⟨x1, e2, hf⟩ := zbind hf
  refine zr_get C0 fl_X4_3_X4 dX4_credit_1 (zgR e2) ?_
  obtain ⟨x3, e4, hf⟩ := zbind hf
  refine zr_get C0 fl_X4_95_X1 dX4_credit_4 (zgR e4) ?_
  obtain ⟨x5, e6, hf⟩ := zbind hf
  refine zr_get C0 fl_X4_111_X2 dX4_credit_7 (zgL e6) ?_
  refine zr_aload_n C0 dX4_credit_10 rfl 0 rfl ?_
  obtain ⟨x7, e8, hf⟩ := zbind hf
  refine zr_get C0 fl_X4_3_X4 dX4_credit_11 (zgR e8) ?_
  obtain ⟨x9, e10, hf⟩ := zbind hf
  refine zr_get C0 fl_X4_95_X1 dX4_credit_14 (zgR e10) ?_
  obtain ⟨x11, e12, hf⟩ := zbind hf
  refine zr_get C0 fl_X4_114_X2 dX4_credit_17 (zgR e12) ?_
  refine zr_aload_n C0 dX4_credit_20 rfl 0 rfl ?_
  obtain ⟨x13, e14, hf⟩ := zbind hf
  refine zr_get C0 fl_X4_36_X4 dX4_credit_21 (zgR e14) ?_
  refine zr_iload_n C0 dX4_credit_24 rfl 1 rfl ?_
  obtain ⟨x15, e16, hf⟩ := zbind hf
  refine zr_aald C0 rfl dX4_credit_25 e16 ?_
  refine zr_iload_n C0 dX4_credit_26 rfl 2 rfl ?_
  obtain ⟨x17, e18, hf⟩ := zbind hf
  refine zr_lald C0 dX4_credit_27 e18 ?_
  obtain ⟨_, e19, hf⟩ := zbind hf
  obtain ⟨x22, h20, e21, hf⟩ := zbind2 hf
  refine zr_callD_r C0 (by decide +kernel) (zcko e19) (m_X16_of C0.2.2.2.2.2.2.1 e21) (by decide) (by decide) rfl rfl (Nat.le_of_ble_eq_true rfl) dX4_credit_28 rfl ?_
  obtain ⟨x25, h23, e24, hf⟩ := zbind2 hf
  refine zr_callS_r C0 cv_X4_124 (m_J12_min_2 C0.2.2.2.2.2.2.1 e24) (by decide) (by decide) rfl rfl (Nat.le_of_ble_eq_true rfl) dX4_credit_31 rfl ?_
  refine zretW hf ?_
  exact zr_lret C0 rfl dX4_credit_34 rfl
def f_X4_credit (E : zE) (p0 : Nat) (p1 : Int32) (p2 : Int32) (h : zH) : Option (Int64 × zH) := f_X4_credit_b0 E p0 p1 p2 h
theorem m_X4_credit {l : Launch} (hst : l.stackTraces = false) {D : zD} {B0 : Nat} {E : zE} {p0 : Nat} {p1 : Int32} {p2 : Int32} {h h' : zH} {r : Int64} (hf : f_X4_credit E p0 p1 p2 h = some (r, h')) : zMet l yX4_credit (ws_ yX4_credit cX4_credit 3 (Option.some Jvm.ClassFile.FieldType.long)) 3 103 D B0 E [.ref p0, .int p1, .int p2] h (zoL r) h' := by
  unfold f_X4_credit at hf
  refine zMet_of hst (by decide +kernel) rfl rfl (Nat.le_of_ble_eq_true rfl) (fun p e R s m below meth c C0 hno => ?_)
  show zW _ _ _ _ _ _ _ _ _ _ _ _ _ _ _ _ [(0, .ref p0), (1, .int p1), (2, .int p2)] []
  exact w_X4_credit_b0 C0 hf
def f_X4_statement_l105 (E : zE) : Nat → Nat → Int32 → Nat → Int32 → zH → Option (Nat × zH)
  | 0, _, _, _, _, _ => none
  | n + 1, p0, p1, p3, p7, h =>
    (gR h p0 4 0).bind fun x1 =>
    (cko h x1 15).bind fun _ =>
    bnd2 (f_J2_size E x1 h) fun x6 h4 =>
    if x6 ≤ p7 then (
      (dL h4 p3 (0 : Int32)).bind fun x8 =>
      (dL h4 p3 (1 : Int32)).bind fun x10 =>
      (dL h4 p3 (2 : Int32)).bind fun x12 =>
      (dL h4 p3 (3 : Int32)).bind fun x14 =>
      (dL h4 p3 (4 : Int32)).bind fun x16 =>
      (sL h4 p3 (5 : Int32) ((((x8 + x10) + x12) + x14) - x16)).bind fun h18 =>
      some (p3, h18)
    ) else (
      (dL h4 p3 (3 : Int32)).bind fun x20 =>
      (cko h4 p0 4).bind fun _ =>
      bnd2 (f_X4_credit E p0 p1 p7 h4) fun x25 h23 =>
      (sL h23 p3 (3 : Int32) (x20 + x25)).bind fun h26 =>
      (dL h26 p3 (4 : Int32)).bind fun x28 =>
      (cko h26 p0 4).bind fun _ =>
      bnd2 (f_X4_credit E p0 p7 p1 h26) fun x33 h31 =>
      (sL h31 p3 (4 : Int32) (x28 + x33)).bind fun h34 =>
      f_X4_statement_l105 E n p0 p1 p3 (p7 + 1) h34
    )
theorem w_X4_statement_l105 (C0 : zCx p l e R s m args below meth c D B0 8 "FranchiseLedger$Books" cX4_statement E 5 153 (Option.some (Jvm.ClassFile.FieldType.array Jvm.ClassFile.FieldType.long)) "statement") {r : Nat} {h' : zH} : ∀ (n : Nat) (p0 : Nat) (p1 : Int32) (p3 : Nat) (p7 : Int32) (h : zH), f_X4_statement_l105 E n p0 p1 p3 p7 h = some (r, h') → zW p l e R s m args below meth c D B0 8 (zEnd D B0 R below args s (zoR r) h') h 105 [(0, .ref p0), (1, .int p1), (3, .ref p3), (7, .int p7)] [] := by
  intro n
  induction n with
  | zero =>
    intro p0 p1 p3 p7 h hf
    unfold f_X4_statement_l105 at hf
    cases hf
  | succ n ih =>
    intro p0 p1 p3 p7 h hf
    unfold f_X4_statement_l105 at hf
    refine zr_iload C0 dX4_statement_105 3 rfl ?_
    refine zr_aload_n C0 dX4_statement_107 rfl 0 rfl ?_
    obtain ⟨x1, e2, hf⟩ := zbind hf
    refine zr_get C0 fl_X4_20_X4 dX4_statement_108 (zgR e2) ?_
    obtain ⟨_, e3, hf⟩ := zbind hf
    obtain ⟨x6, h4, e5, hf⟩ := zbind2 hf
    refine zr_callF_r C0 cv_X4_46_J2 rfl (zcko e3) (m_J2_size C0.2.2.2.2.2.2.1 e5) (by decide) (by decide) rfl rfl (Nat.le_of_ble_eq_true rfl) dX4_statement_111 rfl ?_
    refine zr_icmp_ge C0 (tgt := 151) dX4_statement_116 (by decide) (fun c7 => ?_) (fun c7 => ?_)
    · have hf := zif_t c7 hf
      refine zr_aload_n C0 dX4_statement_151 rfl 2 rfl ?_
      refine zr_iconst C0 (v := 5) dX4_statement_152 (by decide) ?_
      refine zr_aload_n C0 dX4_statement_153 rfl 2 rfl ?_
      refine zr_iconst C0 (v := 0) dX4_statement_154 (by decide) ?_
      obtain ⟨x8, e9, hf⟩ := zbind hf
      refine zr_lald C0 dX4_statement_155 e9 ?_
      refine zr_aload_n C0 dX4_statement_156 rfl 2 rfl ?_
      refine zr_iconst C0 (v := 1) dX4_statement_157 (by decide) ?_
      obtain ⟨x10, e11, hf⟩ := zbind hf
      refine zr_lald C0 dX4_statement_158 e11 ?_
      refine zr_ladd C0 dX4_statement_159 ?_
      refine zr_aload_n C0 dX4_statement_160 rfl 2 rfl ?_
      refine zr_iconst C0 (v := 2) dX4_statement_161 (by decide) ?_
      obtain ⟨x12, e13, hf⟩ := zbind hf
      refine zr_lald C0 dX4_statement_162 e13 ?_
      refine zr_ladd C0 dX4_statement_163 ?_
      refine zr_aload_n C0 dX4_statement_164 rfl 2 rfl ?_
      refine zr_iconst C0 (v := 3) dX4_statement_165 (by decide) ?_
      obtain ⟨x14, e15, hf⟩ := zbind hf
      refine zr_lald C0 dX4_statement_166 e15 ?_
      refine zr_ladd C0 dX4_statement_167 ?_
      refine zr_aload_n C0 dX4_statement_168 rfl 2 rfl ?_
      refine zr_iconst C0 (v := 4) dX4_statement_169 (by decide) ?_
      obtain ⟨x16, e17, hf⟩ := zbind hf
      refine zr_lald C0 dX4_statement_170 e17 ?_
      refine zr_lsub C0 dX4_statement_171 ?_
      obtain ⟨h18, e19, hf⟩ := zbind hf
      refine zr_last C0 dX4_statement_172 e19 ?_
      refine zr_aload_n C0 dX4_statement_173 rfl 2 rfl ?_
      refine zretW hf ?_
      exact zr_aret C0 rfl (Or.inr ⟨_, rfl⟩) dX4_statement_174 rfl
    · have hf := zif_f c7 hf
      refine zr_aload_n C0 dX4_statement_119 rfl 2 rfl ?_
      refine zr_iconst C0 (v := 3) dX4_statement_120 (by decide) ?_
      refine zr_dup2_11 C0 dX4_statement_121 rfl rfl ?_
      obtain ⟨x20, e21, hf⟩ := zbind hf
      refine zr_lald C0 dX4_statement_122 e21 ?_
      refine zr_aload_n C0 dX4_statement_123 rfl 0 rfl ?_
      refine zr_iload_n C0 dX4_statement_124 rfl 1 rfl ?_
      refine zr_iload C0 dX4_statement_125 3 rfl ?_
      obtain ⟨_, e22, hf⟩ := zbind hf
      obtain ⟨x25, h23, e24, hf⟩ := zbind2 hf
      refine zr_callV_r C0 cv_X4_153_X4 rfl (zcko e22) (m_X4_credit C0.2.2.2.2.2.2.1 e24) (by decide) (by decide) rfl rfl (Nat.le_of_ble_eq_true rfl) dX4_statement_127 rfl ?_
      refine zr_ladd C0 dX4_statement_130 ?_
      obtain ⟨h26, e27, hf⟩ := zbind hf
      refine zr_last C0 dX4_statement_131 e27 ?_
      refine zr_aload_n C0 dX4_statement_132 rfl 2 rfl ?_
      refine zr_iconst C0 (v := 4) dX4_statement_133 (by decide) ?_
      refine zr_dup2_11 C0 dX4_statement_134 rfl rfl ?_
      obtain ⟨x28, e29, hf⟩ := zbind hf
      refine zr_lald C0 dX4_statement_135 e29 ?_
      refine zr_aload_n C0 dX4_statement_136 rfl 0 rfl ?_
      refine zr_iload C0 dX4_statement_137 3 rfl ?_
      refine zr_iload_n C0 dX4_statement_139 rfl 1 rfl ?_
      obtain ⟨_, e30, hf⟩ := zbind hf
      obtain ⟨x33, h31, e32, hf⟩ := zbind2 hf
      refine zr_callV_r C0 cv_X4_153_X4 rfl (zcko e30) (m_X4_credit C0.2.2.2.2.2.2.1 e32) (by decide) (by decide) rfl rfl (Nat.le_of_ble_eq_true rfl) dX4_statement_140 rfl ?_
      refine zr_ladd C0 dX4_statement_143 ?_
      obtain ⟨h34, e35, hf⟩ := zbind hf
      refine zr_last C0 dX4_statement_144 e35 ?_
      refine zr_iinc (lv' := [(7, .int (p7 + 1)), (0, .ref p0), (1, .int p1), (3, .ref p3)]) C0 dX4_statement_145 3 rfl rfl (by decide) (by first | rfl | simp [zst1, zst2, zcat_rf]) ?_
      refine zr_goto C0 (tgt := 105) dX4_statement_148 (by decide) ?_
      refine zr_sub [1, 2, 3, 0] rfl ?_
      exact ih _ _ _ _ _ hf
def f_X4_statement_b101 (E : zE) (p0 : Nat) (p1 : Int32) (p3 : Nat) (s0 : Nat) (s1 : Int32) (s2 : Int64) (h : zH) : Option (Nat × zH) :=
  (sL h s0 s1 s2).bind fun h1 =>
  f_X4_statement_l105 E E.1 p0 p1 p3 (0 : Int32) h1
theorem w_X4_statement_b101 (C0 : zCx p l e R s m args below meth c D B0 8 "FranchiseLedger$Books" cX4_statement E 5 153 (Option.some (Jvm.ClassFile.FieldType.array Jvm.ClassFile.FieldType.long)) "statement") {r : Nat} {h' : zH} {p0 : Nat} {p1 : Int32} {p3 : Nat} {s0 : Nat} {s1 : Int32} {s2 : Int64} {h : zH} (hf : f_X4_statement_b101 E p0 p1 p3 s0 s1 s2 h = some (r, h')) : zW p l e R s m args below meth c D B0 8 (zEnd D B0 R below args s (zoR r) h') h 101 [(0, .ref p0), (1, .int p1), (3, .ref p3)] [.long s2, .int s1, .ref s0] := by
  unfold f_X4_statement_b101 at hf
  obtain ⟨h1, e2, hf⟩ := zbind hf
  refine zr_last C0 dX4_statement_101 e2 ?_
  refine zr_iconst C0 (v := 0) dX4_statement_102 (by decide) ?_
  refine zr_istore (i := 7) (lv' := [(7, .int (0 : Int32)), (0, .ref p0), (1, .int p1), (3, .ref p3)]) C0 dX4_statement_103 (by decide) (by first | rfl | simp [zst1, zst2, zcat_rf]) ?_
  refine zr_sub [1, 2, 3, 0] rfl ?_
  exact w_X4_statement_l105 C0 _ _ _ _ _ _ hf
def f_X4_statement_b0 (E : zE) (p0 : Nat) (p1 : Int32) (p2 : Int32) (h : zH) : Option (Nat × zH) :=
  bnd2 (nA h 1 (7 : Int32) (.inr (.inl fun _ => 0))) fun q1 h2 =>
  (gR h2 p0 4 0).bind fun x4 =>
  (cko h2 x4 15).bind fun _ =>
  bnd2 (f_J2_get E x4 p1 h2) fun x9 h7 =>
  (cko h7 x9 10).bind fun _ =>
  (cko h7 x9 10).bind fun _ =>
  bnd2 (f_X11_isActive E x9 h7) fun x14 h12 =>
  if x14 = 0 then (
    some (q1, h12)
  ) else (
    (cko h12 p0 4).bind fun _ =>
    bnd2 (f_X4_sales E p0 p1 p2 h12) fun x19 h17 =>
    (cko h17 p0 4).bind fun _ =>
    bnd2 (f_X4_planOf E p0 p1 h17) fun x23 h21 =>
    (cko h21 x23 8).bind fun _ =>
    bnd2 (f_X9_royalty E x23 x19 h21) fun x27 h25 =>
    (sL h25 q1 (0 : Int32) x27).bind fun h28 =>
    (cko h28 p0 4).bind fun _ =>
    bnd2 (f_X4_planOf E p0 p1 h28) fun x33 h31 =>
    (gR h31 x33 8 0).bind fun x34 =>
    (cko h31 x34 3).bind fun _ =>
    bnd2 (f_X16_of E x34 x19 h31) fun x39 h37 =>
    (sL h37 q1 (1 : Int32) x39).bind fun h40 =>
    (gL h40 x9 10 8).bind fun x42 =>
    if x42 ≤ (0 : Int64) then (
      f_X4_statement_b101 E p0 p1 q1 q1 (2 : Int32) (0 : Int64) h40
    ) else (
      (gR h40 p0 4 6).bind fun x45 =>
      (gR h40 x45 0 0).bind fun x47 =>
      (gR h40 x47 2 3).bind fun x49 =>
      (gL h40 x9 10 8).bind fun x51 =>
      (cko h40 x49 3).bind fun _ =>
      bnd2 (f_X16_of E x49 x51 h40) fun x56 h54 =>
      f_X4_statement_b101 E p0 p1 q1 q1 (2 : Int32) x56 h54
    )
  )
theorem w_X4_statement_b0 (C0 : zCx p l e R s m args below meth c D B0 8 "FranchiseLedger$Books" cX4_statement E 5 153 (Option.some (Jvm.ClassFile.FieldType.array Jvm.ClassFile.FieldType.long)) "statement") {r : Nat} {h' : zH} {p0 : Nat} {p1 : Int32} {p2 : Int32} {h : zH} (hf : f_X4_statement_b0 E p0 p1 p2 h = some (r, h')) : zW p l e R s m args below meth c D B0 8 (zEnd D B0 R below args s (zoR r) h') h 0 [(0, .ref p0), (1, .int p1), (2, .int p2)] [] := by
  unfold f_X4_statement_b0 at hf
  refine zr_bipush C0 (v := 7) dX4_statement_0 (by decide) ?_
  obtain ⟨q1, h2, e3, hf⟩ := zbind2 hf
  refine zr_newa C0 (atype := .long) (t := 1) q661 rfl (by decide) (fun _ => rfl) dX4_statement_2 e3 ?_
  refine zr_astore_n (i := 3) (lv' := [(3, .ref q1), (0, .ref p0), (1, .int p1), (2, .int p2)]) C0 dX4_statement_4 rfl (by decide) (by first | rfl | simp [zst1, zst2, zcat_rf]) ?_
  refine zr_aload_n C0 dX4_statement_5 rfl 1 rfl ?_
  obtain ⟨x4, e5, hf⟩ := zbind hf
  refine zr_get C0 fl_X4_20_X4 dX4_statement_6 (zgR e5) ?_
  refine zr_iload_n C0 dX4_statement_9 rfl 2 rfl ?_
  obtain ⟨_, e6, hf⟩ := zbind hf
  obtain ⟨x9, h7, e8, hf⟩ := zbind2 hf
  refine zr_callF_r C0 cv_X4_52_J2 rfl (zcko e6) (m_J2_get C0.2.2.2.2.2.2.1 e8) (by decide) (by decide) rfl rfl (Nat.le_of_ble_eq_true rfl) dX4_statement_10 rfl ?_
  obtain ⟨_, e10, hf⟩ := zbind hf
  refine zr_castS C0 (ci := 10) rfl (zcko e10) q843 dX4_statement_15 ?_
  refine zr_astore (i := 4) (lv' := [(4, .ref x9), (3, .ref q1), (0, .ref p0), (1, .int p1), (2, .int p2)]) C0 dX4_statement_18 (by decide) (by first | rfl | simp [zst1, zst2, zcat_rf]) ?_
  refine zr_aload C0 dX4_statement_20 0 rfl ?_
  obtain ⟨_, e11, hf⟩ := zbind hf
  obtain ⟨x14, h12, e13, hf⟩ := zbind2 hf
  refine zr_callV_r C0 cv_X4_130_X11 rfl (zcko e11) (m_X11_isActive C0.2.2.2.2.2.2.1 e13) (by decide) (by decide) rfl rfl (Nat.le_of_ble_eq_true rfl) dX4_statement_22 rfl ?_
  refine zr_if_ne C0 (tgt := 30) dX4_statement_25 (by decide) (fun c15 => ?_) (fun c15 => ?_)
  · have hf := zif_f c15 hf
    refine zr_aload_n C0 dX4_statement_30 rfl 2 rfl ?_
    refine zr_iload_n C0 dX4_statement_31 rfl 3 rfl ?_
    refine zr_iload_n C0 dX4_statement_32 rfl 4 rfl ?_
    obtain ⟨_, e16, hf⟩ := zbind hf
    obtain ⟨x19, h17, e18, hf⟩ := zbind2 hf
    refine zr_callV_r C0 cv_X4_134_X4 rfl (zcko e16) (m_X4_sales C0.2.2.2.2.2.2.1 e18) (by decide) (by decide) rfl rfl (Nat.le_of_ble_eq_true rfl) dX4_statement_33 rfl ?_
    refine zr_lstore (i := 5) (lv' := [(5, .long x19), (4, .ref x9), (3, .ref q1), (0, .ref p0), (1, .int p1), (2, .int p2)]) C0 dX4_statement_36 (by decide) (by first | rfl | simp [zst1, zst2, zcat_rf]) ?_
    refine zr_aload_n C0 dX4_statement_38 rfl 2 rfl ?_
    refine zr_iconst C0 (v := 0) dX4_statement_39 (by decide) ?_
    refine zr_aload_n C0 dX4_statement_40 rfl 3 rfl ?_
    refine zr_iload_n C0 dX4_statement_41 rfl 4 rfl ?_
    obtain ⟨_, e20, hf⟩ := zbind hf
    obtain ⟨x23, h21, e22, hf⟩ := zbind2 hf
    refine zr_callV_r C0 cv_X4_137_X4 rfl (zcko e20) (m_X4_planOf C0.2.2.2.2.2.2.1 e22) (by decide) (by decide) rfl rfl (Nat.le_of_ble_eq_true rfl) dX4_statement_42 rfl ?_
    refine zr_lload C0 dX4_statement_45 0 rfl ?_
    obtain ⟨_, e24, hf⟩ := zbind hf
    obtain ⟨x27, h25, e26, hf⟩ := zbind2 hf
    refine zr_callV_r C0 cv_X4_141_X9 rfl (zcko e24) (m_X9_royalty C0.2.2.2.2.2.2.1 e26) (by decide) (by decide) rfl rfl (Nat.le_of_ble_eq_true rfl) dX4_statement_47 rfl ?_
    obtain ⟨h28, e29, hf⟩ := zbind hf
    refine zr_last C0 dX4_statement_50 e29 ?_
    refine zr_aload_n C0 dX4_statement_51 rfl 2 rfl ?_
    refine zr_iconst C0 (v := 1) dX4_statement_52 (by decide) ?_
    refine zr_aload_n C0 dX4_statement_53 rfl 3 rfl ?_
    refine zr_iload_n C0 dX4_statement_54 rfl 4 rfl ?_
    obtain ⟨_, e30, hf⟩ := zbind hf
    obtain ⟨x33, h31, e32, hf⟩ := zbind2 hf
    refine zr_callV_r C0 cv_X4_137_X4 rfl (zcko e30) (m_X4_planOf C0.2.2.2.2.2.2.1 e32) (by decide) (by decide) rfl rfl (Nat.le_of_ble_eq_true rfl) dX4_statement_55 rfl ?_
    obtain ⟨x34, e35, hf⟩ := zbind hf
    refine zr_get C0 fl_X4_144_X9 dX4_statement_58 (zgR e35) ?_
    refine zr_lload C0 dX4_statement_61 0 rfl ?_
    obtain ⟨_, e36, hf⟩ := zbind hf
    obtain ⟨x39, h37, e38, hf⟩ := zbind2 hf
    refine zr_callD_r C0 (by decide +kernel) (zcko e36) (m_X16_of C0.2.2.2.2.2.2.1 e38) (by decide) (by decide) rfl rfl (Nat.le_of_ble_eq_true rfl) dX4_statement_63 rfl ?_
    obtain ⟨h40, e41, hf⟩ := zbind hf
    refine zr_last C0 dX4_statement_66 e41 ?_
    refine zr_aload_n C0 dX4_statement_67 rfl 2 rfl ?_
    refine zr_iconst C0 (v := 2) dX4_statement_68 (by decide) ?_
    refine zr_aload C0 dX4_statement_69 1 rfl ?_
    obtain ⟨x42, e43, hf⟩ := zbind hf
    refine zr_get C0 fl_X4_147_X11 dX4_statement_71 (zgL e43) ?_
    refine zr_lconst C0 (v := 0) dX4_statement_74 (by decide) ?_
    refine zr_lcmp C0 dX4_statement_75 ?_
    refine zr_if_le C0 (tgt := 100) dX4_statement_76 (by decide) (fun c44 => ?_) (fun c44 => ?_)
    · have hf := zif_t (zl_le.mp c44) hf
      refine zr_lconst C0 (v := 0) dX4_statement_100 (by decide) ?_
      refine zr_sub [3, 4, 2] rfl ?_
      exact w_X4_statement_b101 C0 hf
    · have hf := zif_f (zl_len.mp c44) hf
      refine zr_aload_n C0 dX4_statement_79 rfl 3 rfl ?_
      obtain ⟨x45, e46, hf⟩ := zbind hf
      refine zr_get C0 fl_X4_3_X4 dX4_statement_80 (zgR e46) ?_
      obtain ⟨x47, e48, hf⟩ := zbind hf
      refine zr_get C0 fl_X4_95_X1 dX4_statement_83 (zgR e48) ?_
      obtain ⟨x49, e50, hf⟩ := zbind hf
      refine zr_get C0 fl_X4_150_X2 dX4_statement_86 (zgR e50) ?_
      refine zr_aload C0 dX4_statement_89 1 rfl ?_
      obtain ⟨x51, e52, hf⟩ := zbind hf
      refine zr_get C0 fl_X4_147_X11 dX4_statement_91 (zgL e52) ?_
      obtain ⟨_, e53, hf⟩ := zbind hf
      obtain ⟨x56, h54, e55, hf⟩ := zbind2 hf
      refine zr_callD_r C0 (by decide +kernel) (zcko e53) (m_X16_of C0.2.2.2.2.2.2.1 e55) (by decide) (by decide) rfl rfl (Nat.le_of_ble_eq_true rfl) dX4_statement_94 rfl ?_
      refine zr_goto C0 (tgt := 101) dX4_statement_97 (by decide) ?_
      refine zr_sub [3, 4, 2] rfl ?_
      exact w_X4_statement_b101 C0 hf
  · have hf := zif_t c15 hf
    refine zr_aload_n C0 dX4_statement_28 rfl 1 rfl ?_
    refine zretW hf ?_
    exact zr_aret C0 rfl (Or.inr ⟨_, rfl⟩) dX4_statement_29 rfl
def f_X4_statement (E : zE) (p0 : Nat) (p1 : Int32) (p2 : Int32) (h : zH) : Option (Nat × zH) := f_X4_statement_b0 E p0 p1 p2 h
theorem m_X4_statement {l : Launch} (hst : l.stackTraces = false) {D : zD} {B0 : Nat} {E : zE} {p0 : Nat} {p1 : Int32} {p2 : Int32} {h h' : zH} {r : Nat} (hf : f_X4_statement E p0 p1 p2 h = some (r, h')) : zMet l yX4_statement (ws_ yX4_statement cX4_statement 8 (Option.some (Jvm.ClassFile.FieldType.array Jvm.ClassFile.FieldType.long))) 5 153 D B0 E [.ref p0, .int p1, .int p2] h (zoR r) h' := by
  unfold f_X4_statement at hf
  refine zMet_of hst (by decide +kernel) rfl rfl (Nat.le_of_ble_eq_true rfl) (fun p e R s m below meth c C0 hno => ?_)
  show zW _ _ _ _ _ _ _ _ _ _ _ _ _ _ _ _ [(0, .ref p0), (1, .int p1), (2, .int p2)] []
  exact w_X4_statement_b0 C0 hf
def f_X4_book_b28 (E : zE) (p1 : Nat) (p2 : Nat) (s0 : Nat) (s1 : Int32) (h : zH) : Option (Unit × zH) :=
  (pF h s0 10 7 (.int s1)).bind fun h1 =>
  (gL h1 p1 10 8).bind fun x3 =>
  (dL h1 p2 (5 : Int32)).bind fun x5 =>
  (pF h1 p1 10 8 (.long (x3 + x5))).bind fun h7 =>
  (gL h7 p1 10 9).bind fun x9 =>
  (dL h7 p2 (1 : Int32)).bind fun x11 =>
  (pF h7 p1 10 9 (.long (x9 + x11))).bind fun h13 =>
  some ((), h13)
theorem w_X4_book_b28 (C0 : zCx p l e R s m args below meth c D B0 3 "FranchiseLedger$Books" cX4_book E 2 80 (Option.none : Option Jvm.ClassFile.FieldType) "book") {r : Unit} {h' : zH} {p1 : Nat} {p2 : Nat} {s0 : Nat} {s1 : Int32} {h : zH} (hf : f_X4_book_b28 E p1 p2 s0 s1 h = some (r, h')) : zW p l e R s m args below meth c D B0 3 (zEnd D B0 R below args s (zoV r) h') h 28 [(1, .ref p1), (2, .ref p2)] [.int s1, .ref s0] := by
  unfold f_X4_book_b28 at hf
  obtain ⟨h1, e2, hf⟩ := zbind hf
  refine zr_put C0 pl_X4_155_X11 dX4_book_28 (fun h => by cases h) rfl rfl e2 ?_
  refine zr_aload_n C0 dX4_book_31 rfl 0 rfl ?_
  refine zr_dup C0 dX4_book_32 rfl ?_
  obtain ⟨x3, e4, hf⟩ := zbind hf
  refine zr_get C0 fl_X4_147_X11 dX4_book_33 (zgL e4) ?_
  refine zr_aload_n C0 dX4_book_36 rfl 1 rfl ?_
  refine zr_iconst C0 (v := 5) dX4_book_37 (by decide) ?_
  obtain ⟨x5, e6, hf⟩ := zbind hf
  refine zr_lald C0 dX4_book_38 e6 ?_
  refine zr_ladd C0 dX4_book_39 ?_
  obtain ⟨h7, e8, hf⟩ := zbind hf
  refine zr_put C0 pl_X4_147_X11 dX4_book_40 (fun h => by cases h) rfl rfl e8 ?_
  refine zr_aload_n C0 dX4_book_43 rfl 0 rfl ?_
  refine zr_dup C0 dX4_book_44 rfl ?_
  obtain ⟨x9, e10, hf⟩ := zbind hf
  refine zr_get C0 fl_X4_158_X11 dX4_book_45 (zgL e10) ?_
  refine zr_aload_n C0 dX4_book_48 rfl 1 rfl ?_
  refine zr_iconst C0 (v := 1) dX4_book_49 (by decide) ?_
  obtain ⟨x11, e12, hf⟩ := zbind hf
  refine zr_lald C0 dX4_book_50 e12 ?_
  refine zr_ladd C0 dX4_book_51 ?_
  obtain ⟨h13, e14, hf⟩ := zbind hf
  refine zr_put C0 pl_X4_158_X11 dX4_book_52 (fun h => by cases h) rfl rfl e14 ?_
  refine zretW hf ?_
  exact zr_vret C0 rfl dX4_book_55 rfl
def f_X4_book_b0 (E : zE) (p0 : Nat) (p1 : Nat) (p2 : Nat) (h : zH) : Option (Unit × zH) :=
  (cko h p1 10).bind fun _ =>
  bnd2 (f_X11_isActive E p1 h) fun x4 h2 =>
  if x4 = 0 then (
    some ((), h2)
  ) else (
    (gL h2 p1 10 8).bind fun x6 =>
    if x6 ≤ (0 : Int64) then (
      f_X4_book_b28 E p1 p2 p1 (0 : Int32) h2
    ) else (
      (gI h2 p1 10 7).bind fun x9 =>
      f_X4_book_b28 E p1 p2 p1 (x9 + (1 : Int32)) h2
    )
  )
theorem w_X4_book_b0 (C0 : zCx p l e R s m args below meth c D B0 3 "FranchiseLedger$Books" cX4_book E 2 80 (Option.none : Option Jvm.ClassFile.FieldType) "book") {r : Unit} {h' : zH} {p0 : Nat} {p1 : Nat} {p2 : Nat} {h : zH} (hf : f_X4_book_b0 E p0 p1 p2 h = some (r, h')) : zW p l e R s m args below meth c D B0 3 (zEnd D B0 R below args s (zoV r) h') h 0 [(0, .ref p0), (1, .ref p1), (2, .ref p2)] [] := by
  unfold f_X4_book_b0 at hf
  refine zr_aload_n C0 dX4_book_0 rfl 1 rfl ?_
  obtain ⟨_, e1, hf⟩ := zbind hf
  obtain ⟨x4, h2, e3, hf⟩ := zbind2 hf
  refine zr_callV_r C0 cv_X4_130_X11 rfl (zcko e1) (m_X11_isActive C0.2.2.2.2.2.2.1 e3) (by decide) (by decide) rfl rfl (Nat.le_of_ble_eq_true rfl) dX4_book_1 rfl ?_
  refine zr_if_ne C0 (tgt := 8) dX4_book_4 (by decide) (fun c5 => ?_) (fun c5 => ?_)
  · have hf := zif_f c5 hf
    refine zr_aload_n C0 dX4_book_8 rfl 1 rfl ?_
    refine zr_aload_n C0 dX4_book_9 rfl 1 rfl ?_
    obtain ⟨x6, e7, hf⟩ := zbind hf
    refine zr_get C0 fl_X4_147_X11 dX4_book_10 (zgL e7) ?_
    refine zr_lconst C0 (v := 0) dX4_book_13 (by decide) ?_
    refine zr_lcmp C0 dX4_book_14 ?_
    refine zr_if_le C0 (tgt := 27) dX4_book_15 (by decide) (fun c8 => ?_) (fun c8 => ?_)
    · have hf := zif_t (zl_le.mp c8) hf
      refine zr_iconst C0 (v := 0) dX4_book_27 (by decide) ?_
      refine zr_sub [1, 2] rfl ?_
      exact w_X4_book_b28 C0 hf
    · have hf := zif_f (zl_len.mp c8) hf
      refine zr_aload_n C0 dX4_book_18 rfl 1 rfl ?_
      obtain ⟨x9, e10, hf⟩ := zbind hf
      refine zr_get C0 fl_X4_155_X11 dX4_book_19 (zgI e10) ?_
      refine zr_iconst C0 (v := 1) dX4_book_22 (by decide) ?_
      refine zr_iadd C0 dX4_book_23 ?_
      refine zr_goto C0 (tgt := 28) dX4_book_24 (by decide) ?_
      refine zr_sub [1, 2] rfl ?_
      exact w_X4_book_b28 C0 hf
  · have hf := zif_t c5 hf
    refine zretW hf ?_
    exact zr_vret C0 rfl dX4_book_7 rfl
def f_X4_book (E : zE) (p0 : Nat) (p1 : Nat) (p2 : Nat) (h : zH) : Option (Unit × zH) := f_X4_book_b0 E p0 p1 p2 h
theorem m_X4_book {l : Launch} (hst : l.stackTraces = false) {D : zD} {B0 : Nat} {E : zE} {p0 : Nat} {p1 : Nat} {p2 : Nat} {h h' : zH} {r : Unit} (hf : f_X4_book E p0 p1 p2 h = some (r, h')) : zMet l yX4_book (ws_ yX4_book cX4_book 3 (Option.none : Option Jvm.ClassFile.FieldType)) 2 80 D B0 E [.ref p0, .ref p1, .ref p2] h (zoV r) h' := by
  unfold f_X4_book at hf
  refine zMet_of hst (by decide +kernel) rfl rfl (Nat.le_of_ble_eq_true rfl) (fun p e R s m below meth c C0 hno => ?_)
  show zW _ _ _ _ _ _ _ _ _ _ _ _ _ _ _ _ [(0, .ref p0), (1, .ref p1), (2, .ref p2)] []
  exact w_X4_book_b0 C0 hf
def f_X4_endMonth_l74 (E : zE) : Nat → Nat → Int32 → zH → Option (Unit × zH)
  | 0, _, _, _ => none
  | n + 1, p0, p1, h =>
    (gR h p0 4 1).bind fun x1 =>
    (cko h x1 15).bind fun _ =>
    bnd2 (f_J2_size E x1 h) fun x6 h4 =>
    if x6 ≤ p1 then (
      (gI h4 p0 4 5).bind fun x8 =>
      (pF h4 p0 4 5 (.int (x8 + (1 : Int32)))).bind fun h10 =>
      some ((), h10)
    ) else (
      (gR h4 p0 4 1).bind fun x12 =>
      (cko h4 x12 15).bind fun _ =>
      bnd2 (f_J2_get E x12 p1 h4) fun x17 h15 =>
      (cko h15 x17 13).bind fun _ =>
      (pF h15 x17 13 2 (.long (0 : Int64))).bind fun h19 =>
      f_X4_endMonth_l74 E n p0 (p1 + 1) h19
    )
theorem w_X4_endMonth_l74 (C0 : zCx p l e R s m args below meth c D B0 3 "FranchiseLedger$Books" cX4_endMonth E 5 149 (Option.none : Option Jvm.ClassFile.FieldType) "endMonth") {r : Unit} {h' : zH} : ∀ (n : Nat) (p0 : Nat) (p1 : Int32) (h : zH), f_X4_endMonth_l74 E n p0 p1 h = some (r, h') → zW p l e R s m args below meth c D B0 3 (zEnd D B0 R below args s (zoV r) h') h 74 [(0, .ref p0), (1, .int p1)] [] := by
  intro n
  induction n with
  | zero =>
    intro p0 p1 h hf
    unfold f_X4_endMonth_l74 at hf
    cases hf
  | succ n ih =>
    intro p0 p1 h hf
    unfold f_X4_endMonth_l74 at hf
    refine zr_iload_n C0 dX4_endMonth_74 rfl 1 rfl ?_
    refine zr_aload_n C0 dX4_endMonth_75 rfl 0 rfl ?_
    obtain ⟨x1, e2, hf⟩ := zbind hf
    refine zr_get C0 fl_X4_24_X4 dX4_endMonth_76 (zgR e2) ?_
    obtain ⟨_, e3, hf⟩ := zbind hf
    obtain ⟨x6, h4, e5, hf⟩ := zbind2 hf
    refine zr_callF_r C0 cv_X4_46_J2 rfl (zcko e3) (m_J2_size C0.2.2.2.2.2.2.1 e5) (by decide) (by decide) rfl rfl (Nat.le_of_ble_eq_true rfl) dX4_endMonth_79 rfl ?_
    refine zr_icmp_ge C0 (tgt := 110) dX4_endMonth_84 (by decide) (fun c7 => ?_) (fun c7 => ?_)
    · have hf := zif_t c7 hf
      refine zr_aload_n C0 dX4_endMonth_110 rfl 0 rfl ?_
      refine zr_dup C0 dX4_endMonth_111 rfl ?_
      obtain ⟨x8, e9, hf⟩ := zbind hf
      refine zr_get C0 fl_X4_58_X4 dX4_endMonth_112 (zgI e9) ?_
      refine zr_iconst C0 (v := 1) dX4_endMonth_115 (by decide) ?_
      refine zr_iadd C0 dX4_endMonth_116 ?_
      obtain ⟨h10, e11, hf⟩ := zbind hf
      refine zr_put C0 pl_X4_58_X4 dX4_endMonth_117 (fun h => by cases h) rfl rfl e11 ?_
      refine zretW hf ?_
      exact zr_vret C0 rfl dX4_endMonth_120 rfl
    · have hf := zif_f c7 hf
      refine zr_aload_n C0 dX4_endMonth_87 rfl 0 rfl ?_
      obtain ⟨x12, e13, hf⟩ := zbind hf
      refine zr_get C0 fl_X4_24_X4 dX4_endMonth_88 (zgR e13) ?_
      refine zr_iload_n C0 dX4_endMonth_91 rfl 1 rfl ?_
      obtain ⟨_, e14, hf⟩ := zbind hf
      obtain ⟨x17, h15, e16, hf⟩ := zbind2 hf
      refine zr_callF_r C0 cv_X4_52_J2 rfl (zcko e14) (m_J2_get C0.2.2.2.2.2.2.1 e16) (by decide) (by decide) rfl rfl (Nat.le_of_ble_eq_true rfl) dX4_endMonth_92 rfl ?_
      obtain ⟨_, e18, hf⟩ := zbind hf
      refine zr_castS C0 (ci := 13) rfl (zcko e18) q1055 dX4_endMonth_97 ?_
      refine zr_lconst C0 (v := 0) dX4_endMonth_100 (by decide) ?_
      obtain ⟨h19, e20, hf⟩ := zbind hf
      refine zr_put C0 pl_X4_78_X14 dX4_endMonth_101 (fun h => by cases h) rfl rfl e20 ?_
      refine zr_iinc (lv' := [(1, .int (p1 + 1)), (0, .ref p0)]) C0 dX4_endMonth_104 1 rfl rfl (by decide) (by first | rfl | simp [zst1, zst2, zcat_rf]) ?_
      refine zr_goto C0 (tgt := 74) dX4_endMonth_107 (by decide) ?_
      refine zr_sub [1, 0] rfl ?_
      exact ih _ _ _ hf
def f_X4_endMonth_l45 (E : zE) (k2 : Nat → Int32 → zH → Option (Unit × zH)) : Nat → Nat → Int32 → Int32 → zH → Option (Unit × zH)
  | 0, _, _, _, _ => none
  | n + 1, p0, p1, p2, h =>
    if (8 : Int32) ≤ p2 then (
      k2 p0 (p1 + 1) h
    ) else (
      (gR h p0 4 3).bind fun x2 =>
      (dR h x2 5 p1).bind fun x4 =>
      (sL h x4 p2 (0 : Int64)).bind fun h6 =>
      f_X4_endMonth_l45 E k2 n p0 p1 (p2 + 1) h6
    )
theorem w_X4_endMonth_l45 (C0 : zCx p l e R s m args below meth c D B0 3 "FranchiseLedger$Books" cX4_endMonth E 5 149 (Option.none : Option Jvm.ClassFile.FieldType) "endMonth") {r : Unit} {h' : zH} {k2 : Nat → Int32 → zH → Option (Unit × zH)} (hk2 : ∀ (p0 : Nat) (p1 : Int32) (h : zH), k2 p0 p1 h = some (r, h') → zW p l e R s m args below meth c D B0 3 (zEnd D B0 R below args s (zoV r) h') h 2 [(0, .ref p0), (1, .int p1)] []) : ∀ (n : Nat) (p0 : Nat) (p1 : Int32) (p2 : Int32) (h : zH), f_X4_endMonth_l45 E k2 n p0 p1 p2 h = some (r, h') → zW p l e R s m args below meth c D B0 3 (zEnd D B0 R below args s (zoV r) h') h 45 [(0, .ref p0), (1, .int p1), (2, .int p2)] [] := by
  intro n
  induction n with
  | zero =>
    intro p0 p1 p2 h hf
    unfold f_X4_endMonth_l45 at hf
    cases hf
  | succ n ih =>
    intro p0 p1 p2 h hf
    unfold f_X4_endMonth_l45 at hf
    refine zr_iload_n C0 dX4_endMonth_45 rfl 2 rfl ?_
    refine zr_bipush C0 (v := 8) dX4_endMonth_46 (by decide) ?_
    refine zr_icmp_ge C0 (tgt := 66) dX4_endMonth_48 (by decide) (fun c1 => ?_) (fun c1 => ?_)
    · have hf := zif_t c1 hf
      refine zr_iinc (lv' := [(1, .int (p1 + 1)), (0, .ref p0), (2, .int p2)]) C0 dX4_endMonth_66 1 rfl rfl (by decide) (by first | rfl | simp [zst1, zst2, zcat_rf]) ?_
      refine zr_goto C0 (tgt := 2) dX4_endMonth_69 (by decide) ?_
      refine zr_sub [1, 0] rfl ?_
      exact hk2 _ _ _ hf
    · have hf := zif_f c1 hf
      refine zr_aload_n C0 dX4_endMonth_51 rfl 0 rfl ?_
      obtain ⟨x2, e3, hf⟩ := zbind hf
      refine zr_get C0 fl_X4_36_X4 dX4_endMonth_52 (zgR e3) ?_
      refine zr_iload_n C0 dX4_endMonth_55 rfl 1 rfl ?_
      obtain ⟨x4, e5, hf⟩ := zbind hf
      refine zr_aald C0 rfl dX4_endMonth_56 e5 ?_
      refine zr_iload_n C0 dX4_endMonth_57 rfl 2 rfl ?_
      refine zr_lconst C0 (v := 0) dX4_endMonth_58 (by decide) ?_
      obtain ⟨h6, e7, hf⟩ := zbind hf
      refine zr_last C0 dX4_endMonth_59 e7 ?_
      refine zr_iinc (lv' := [(2, .int (p2 + 1)), (0, .ref p0), (1, .int p1)]) C0 dX4_endMonth_60 2 rfl rfl (by decide) (by first | rfl | simp [zst1, zst2, zcat_rf]) ?_
      refine zr_goto C0 (tgt := 45) dX4_endMonth_63 (by decide) ?_
      refine zr_sub [1, 2, 0] rfl ?_
      exact ih _ _ _ _ hf
def f_X4_endMonth_l2 (E : zE) : Nat → Nat → Int32 → zH → Option (Unit × zH)
  | 0, _, _, _ => none
  | n + 1, p0, p1, h =>
    (gR h p0 4 0).bind fun x1 =>
    (cko h x1 15).bind fun _ =>
    bnd2 (f_J2_size E x1 h) fun x6 h4 =>
    if x6 ≤ p1 then (
      f_X4_endMonth_l74 E E.1 p0 (0 : Int32) h4
    ) else (
      (gR h4 p0 4 0).bind fun x8 =>
      (cko h4 x8 15).bind fun _ =>
      bnd2 (f_J2_get E x8 p1 h4) fun x13 h11 =>
      (cko h11 x13 10).bind fun _ =>
      (gR h11 x13 10 2).bind fun x15 =>
      (gI h11 p0 4 5).bind fun x17 =>
      (cko h11 p0 4).bind fun _ =>
      bnd2 (f_X4_sales E p0 p1 (100 : Int32) h11) fun x22 h20 =>
      (sL h20 x15 x17 x22).bind fun h23 =>
      f_X4_endMonth_l45 E (f_X4_endMonth_l2 E n) E.1 p0 p1 (0 : Int32) h23
    )
theorem w_X4_endMonth_l2 (C0 : zCx p l e R s m args below meth c D B0 3 "FranchiseLedger$Books" cX4_endMonth E 5 149 (Option.none : Option Jvm.ClassFile.FieldType) "endMonth") {r : Unit} {h' : zH} : ∀ (n : Nat) (p0 : Nat) (p1 : Int32) (h : zH), f_X4_endMonth_l2 E n p0 p1 h = some (r, h') → zW p l e R s m args below meth c D B0 3 (zEnd D B0 R below args s (zoV r) h') h 2 [(0, .ref p0), (1, .int p1)] [] := by
  intro n
  induction n with
  | zero =>
    intro p0 p1 h hf
    unfold f_X4_endMonth_l2 at hf
    cases hf
  | succ n ih =>
    intro p0 p1 h hf
    unfold f_X4_endMonth_l2 at hf
    refine zr_iload_n C0 dX4_endMonth_2 rfl 1 rfl ?_
    refine zr_aload_n C0 dX4_endMonth_3 rfl 0 rfl ?_
    obtain ⟨x1, e2, hf⟩ := zbind hf
    refine zr_get C0 fl_X4_20_X4 dX4_endMonth_4 (zgR e2) ?_
    obtain ⟨_, e3, hf⟩ := zbind hf
    obtain ⟨x6, h4, e5, hf⟩ := zbind2 hf
    refine zr_callF_r C0 cv_X4_46_J2 rfl (zcko e3) (m_J2_size C0.2.2.2.2.2.2.1 e5) (by decide) (by decide) rfl rfl (Nat.le_of_ble_eq_true rfl) dX4_endMonth_7 rfl ?_
    refine zr_icmp_ge C0 (tgt := 72) dX4_endMonth_12 (by decide) (fun c7 => ?_) (fun c7 => ?_)
    · have hf := zif_t c7 hf
      refine zr_iconst C0 (v := 0) dX4_endMonth_72 (by decide) ?_
      refine zr_istore_n (i := 1) (lv' := [(1, .int (0 : Int32)), (0, .ref p0)]) C0 dX4_endMonth_73 rfl (by decide) (by first | rfl | simp [zst1, zst2, zcat_rf]) ?_
      refine zr_sub [1, 0] rfl ?_
      exact w_X4_endMonth_l74 C0 _ _ _ _ hf
    · have hf := zif_f c7 hf
      refine zr_aload_n C0 dX4_endMonth_15 rfl 0 rfl ?_
      obtain ⟨x8, e9, hf⟩ := zbind hf
      refine zr_get C0 fl_X4_20_X4 dX4_endMonth_16 (zgR e9) ?_
      refine zr_iload_n C0 dX4_endMonth_19 rfl 1 rfl ?_
      obtain ⟨_, e10, hf⟩ := zbind hf
      obtain ⟨x13, h11, e12, hf⟩ := zbind2 hf
      refine zr_callF_r C0 cv_X4_52_J2 rfl (zcko e10) (m_J2_get C0.2.2.2.2.2.2.1 e12) (by decide) (by decide) rfl rfl (Nat.le_of_ble_eq_true rfl) dX4_endMonth_20 rfl ?_
      obtain ⟨_, e14, hf⟩ := zbind hf
      refine zr_castS C0 (ci := 10) rfl (zcko e14) q843 dX4_endMonth_25 ?_
      obtain ⟨x15, e16, hf⟩ := zbind hf
      refine zr_get C0 fl_X4_184_X11 dX4_endMonth_28 (zgR e16) ?_
      refine zr_aload_n C0 dX4_endMonth_31 rfl 0 rfl ?_
      obtain ⟨x17, e18, hf⟩ := zbind hf
      refine zr_get C0 fl_X4_58_X4 dX4_endMonth_32 (zgI e18) ?_
      refine zr_aload_n C0 dX4_endMonth_35 rfl 0 rfl ?_
      refine zr_iload_n C0 dX4_endMonth_36 rfl 1 rfl ?_
      refine zr_bipush C0 (v := 100) dX4_endMonth_37 (by decide) ?_
      obtain ⟨_, e19, hf⟩ := zbind hf
      obtain ⟨x22, h20, e21, hf⟩ := zbind2 hf
      refine zr_callV_r C0 cv_X4_134_X4 rfl (zcko e19) (m_X4_sales C0.2.2.2.2.2.2.1 e21) (by decide) (by decide) rfl rfl (Nat.le_of_ble_eq_true rfl) dX4_endMonth_39 rfl ?_
      obtain ⟨h23, e24, hf⟩ := zbind hf
      refine zr_last C0 dX4_endMonth_42 e24 ?_
      refine zr_iconst C0 (v := 0) dX4_endMonth_43 (by decide) ?_
      refine zr_istore_n (i := 2) (lv' := [(2, .int (0 : Int32)), (0, .ref p0), (1, .int p1)]) C0 dX4_endMonth_44 rfl (by decide) (by first | rfl | simp [zst1, zst2, zcat_rf]) ?_
      refine zr_sub [1, 2, 0] rfl ?_
      exact w_X4_endMonth_l45 C0 ih _ _ _ _ _ hf
def f_X4_endMonth_b0 (E : zE) (p0 : Nat) (h : zH) : Option (Unit × zH) :=
  f_X4_endMonth_l2 E E.1 p0 (0 : Int32) h
theorem w_X4_endMonth_b0 (C0 : zCx p l e R s m args below meth c D B0 3 "FranchiseLedger$Books" cX4_endMonth E 5 149 (Option.none : Option Jvm.ClassFile.FieldType) "endMonth") {r : Unit} {h' : zH} {p0 : Nat} {h : zH} (hf : f_X4_endMonth_b0 E p0 h = some (r, h')) : zW p l e R s m args below meth c D B0 3 (zEnd D B0 R below args s (zoV r) h') h 0 [(0, .ref p0)] [] := by
  unfold f_X4_endMonth_b0 at hf
  refine zr_iconst C0 (v := 0) dX4_endMonth_0 (by decide) ?_
  refine zr_istore_n (i := 1) (lv' := [(1, .int (0 : Int32)), (0, .ref p0)]) C0 dX4_endMonth_1 rfl (by decide) (by first | rfl | simp [zst1, zst2, zcat_rf]) ?_
  refine zr_sub [1, 0] rfl ?_
  exact w_X4_endMonth_l2 C0 _ _ _ _ hf
def f_X4_endMonth (E : zE) (p0 : Nat) (h : zH) : Option (Unit × zH) := f_X4_endMonth_b0 E p0 h
theorem m_X4_endMonth {l : Launch} (hst : l.stackTraces = false) {D : zD} {B0 : Nat} {E : zE} {p0 : Nat} {h h' : zH} {r : Unit} (hf : f_X4_endMonth E p0 h = some (r, h')) : zMet l yX4_endMonth (ws_ yX4_endMonth cX4_endMonth 3 (Option.none : Option Jvm.ClassFile.FieldType)) 5 149 D B0 E [.ref p0] h (zoV r) h' := by
  unfold f_X4_endMonth at hf
  refine zMet_of hst (by decide +kernel) rfl rfl (Nat.le_of_ble_eq_true rfl) (fun p e R s m below meth c C0 hno => ?_)
  show zW _ _ _ _ _ _ _ _ _ _ _ _ _ _ _ _ [(0, .ref p0)] []
  exact w_X4_endMonth_b0 C0 hf
def f_X4_transfer_b35 (E : zE) (h : zH) : Option (Unit × zH) :=
  some ((), h)
theorem w_X4_transfer_b35 (C0 : zCx p l e R s m args below meth c D B0 3 "FranchiseLedger$Books" cX4_transfer E 1 60 (Option.none : Option Jvm.ClassFile.FieldType) "transfer") {r : Unit} {h' : zH} {h : zH} (hf : f_X4_transfer_b35 E  h = some (r, h')) : zW p l e R s m args below meth c D B0 3 (zEnd D B0 R below args s (zoV r) h') h 35 [] [] := by
  unfold f_X4_transfer_b35 at hf
  refine zretW hf ?_
  exact zr_vret C0 rfl dX4_transfer_35 rfl
def f_X4_transfer_b0 (E : zE) (p0 : Nat) (p1 : Nat) (h : zH) : Option (Unit × zH) :=
  (gR h p1 10 0).bind fun x1 =>
  (gI h x1 11 0).bind fun x3 =>
  if x3 = (2 : Int32) then (
    (gI h p0 4 5).bind fun x6 =>
    (gI h x1 11 1).bind fun x8 =>
    (gR h p0 4 6).bind fun x10 =>
    (gR h x10 0 0).bind fun x12 =>
    (gI h x12 2 7).bind fun x14 =>
    if x14 ≤ (x6 - x8) then (
      (pF h x1 11 0 (.int (4 : Int32))).bind fun h17 =>
      (gI h17 x1 11 2).bind fun x19 =>
      (pF h17 p1 10 4 (.int x19)).bind fun h21 =>
      (gI h21 p1 10 6).bind fun x23 =>
      (pF h21 p1 10 6 (.int (x23 + (1 : Int32)))).bind fun h25 =>
      (pF h25 p1 10 7 (.int (0 : Int32))).bind fun h27 =>
      (gL h27 p1 10 8).bind fun x29 =>
      (gR h27 p0 4 6).bind fun x31 =>
      (gR h27 x31 0 0).bind fun x33 =>
      (gL h27 x33 2 6).bind fun x35 =>
      (pF h27 p1 10 8 (.long (x29 + x35))).bind fun h37 =>
      some ((), h37)
    ) else (
      f_X4_transfer_b35 E  h
    )
  ) else (
    f_X4_transfer_b35 E  h
  )
theorem w_X4_transfer_b0 (C0 : zCx p l e R s m args below meth c D B0 3 "FranchiseLedger$Books" cX4_transfer E 1 60 (Option.none : Option Jvm.ClassFile.FieldType) "transfer") {r : Unit} {h' : zH} {p0 : Nat} {p1 : Nat} {h : zH} (hf : f_X4_transfer_b0 E p0 p1 h = some (r, h')) : zW p l e R s m args below meth c D B0 3 (zEnd D B0 R below args s (zoV r) h') h 0 [(0, .ref p0), (1, .ref p1)] [] := by
  unfold f_X4_transfer_b0 at hf
  refine zr_aload_n C0 dX4_transfer_0 rfl 1 rfl ?_
  obtain ⟨x1, e2, hf⟩ := zbind hf
  refine zr_get C0 fl_X4_161_X11 dX4_transfer_1 (zgR e2) ?_
  refine zr_astore_n (i := 2) (lv' := [(2, .ref x1), (0, .ref p0), (1, .ref p1)]) C0 dX4_transfer_4 rfl (by decide) (by first | rfl | simp [zst1, zst2, zcat_rf]) ?_
  refine zr_aload_n C0 dX4_transfer_5 rfl 0 rfl ?_
  obtain ⟨x3, e4, hf⟩ := zbind hf
  refine zr_get C0 fl_X4_165_X12 dX4_transfer_6 (zgI e4) ?_
  refine zr_iconst C0 (v := 2) dX4_transfer_9 (by decide) ?_
  refine zr_icmp_ne C0 (tgt := 35) dX4_transfer_10 (by decide) (fun c5 => ?_) (fun c5 => ?_)
  · have hf := zif_f c5 hf
    refine zr_sub [] rfl ?_
    exact w_X4_transfer_b35 C0 hf
  · have hf := zif_t c5 hf
    refine zr_aload_n C0 dX4_transfer_13 rfl 1 rfl ?_
    obtain ⟨x6, e7, hf⟩ := zbind hf
    refine zr_get C0 fl_X4_58_X4 dX4_transfer_14 (zgI e7) ?_
    refine zr_aload_n C0 dX4_transfer_17 rfl 0 rfl ?_
    obtain ⟨x8, e9, hf⟩ := zbind hf
    refine zr_get C0 fl_X4_170_X12 dX4_transfer_18 (zgI e9) ?_
    refine zr_isub C0 dX4_transfer_21 ?_
    refine zr_aload_n C0 dX4_transfer_22 rfl 1 rfl ?_
    obtain ⟨x10, e11, hf⟩ := zbind hf
    refine zr_get C0 fl_X4_3_X4 dX4_transfer_23 (zgR e11) ?_
    obtain ⟨x12, e13, hf⟩ := zbind hf
    refine zr_get C0 fl_X4_95_X1 dX4_transfer_26 (zgR e13) ?_
    obtain ⟨x14, e15, hf⟩ := zbind hf
    refine zr_get C0 fl_X4_171_X2 dX4_transfer_29 (zgI e15) ?_
    refine zr_icmp_ge C0 (tgt := 36) dX4_transfer_32 (by decide) (fun c16 => ?_) (fun c16 => ?_)
    · have hf := zif_t c16 hf
      refine zr_aload_n C0 dX4_transfer_36 rfl 0 rfl ?_
      refine zr_iconst C0 (v := 4) dX4_transfer_37 (by decide) ?_
      obtain ⟨h17, e18, hf⟩ := zbind hf
      refine zr_put C0 pl_X4_165_X12 dX4_transfer_38 (fun h => by cases h) rfl rfl e18 ?_
      refine zr_aload_n C0 dX4_transfer_41 rfl 2 rfl ?_
      refine zr_aload_n C0 dX4_transfer_42 rfl 0 rfl ?_
      obtain ⟨x19, e20, hf⟩ := zbind hf
      refine zr_get C0 fl_X4_174_X12 dX4_transfer_43 (zgI e20) ?_
      obtain ⟨h21, e22, hf⟩ := zbind hf
      refine zr_put C0 pl_X4_177_X11 dX4_transfer_46 (fun h => by cases h) rfl rfl e22 ?_
      refine zr_aload_n C0 dX4_transfer_49 rfl 2 rfl ?_
      refine zr_dup C0 dX4_transfer_50 rfl ?_
      obtain ⟨x23, e24, hf⟩ := zbind hf
      refine zr_get C0 fl_X4_178_X11 dX4_transfer_51 (zgI e24) ?_
      refine zr_iconst C0 (v := 1) dX4_transfer_54 (by decide) ?_
      refine zr_iadd C0 dX4_transfer_55 ?_
      obtain ⟨h25, e26, hf⟩ := zbind hf
      refine zr_put C0 pl_X4_178_X11 dX4_transfer_56 (fun h => by cases h) rfl rfl e26 ?_
      refine zr_aload_n C0 dX4_transfer_59 rfl 2 rfl ?_
      refine zr_iconst C0 (v := 0) dX4_transfer_60 (by decide) ?_
      obtain ⟨h27, e28, hf⟩ := zbind hf
      refine zr_put C0 pl_X4_155_X11 dX4_transfer_61 (fun h => by cases h) rfl rfl e28 ?_
      refine zr_aload_n C0 dX4_transfer_64 rfl 2 rfl ?_
      refine zr_dup C0 dX4_transfer_65 rfl ?_
      obtain ⟨x29, e30, hf⟩ := zbind hf
      refine zr_get C0 fl_X4_147_X11 dX4_transfer_66 (zgL e30) ?_
      refine zr_aload_n C0 dX4_transfer_69 rfl 1 rfl ?_
      obtain ⟨x31, e32, hf⟩ := zbind hf
      refine zr_get C0 fl_X4_3_X4 dX4_transfer_70 (zgR e32) ?_
      obtain ⟨x33, e34, hf⟩ := zbind hf
      refine zr_get C0 fl_X4_95_X1 dX4_transfer_73 (zgR e34) ?_
      obtain ⟨x35, e36, hf⟩ := zbind hf
      refine zr_get C0 fl_X4_181_X2 dX4_transfer_76 (zgL e36) ?_
      refine zr_ladd C0 dX4_transfer_79 ?_
      obtain ⟨h37, e38, hf⟩ := zbind hf
      refine zr_put C0 pl_X4_147_X11 dX4_transfer_80 (fun h => by cases h) rfl rfl e38 ?_
      refine zretW hf ?_
      exact zr_vret C0 rfl dX4_transfer_83 rfl
    · have hf := zif_f c16 hf
      refine zr_sub [] rfl ?_
      exact w_X4_transfer_b35 C0 hf
def f_X4_transfer (E : zE) (p0 : Nat) (p1 : Nat) (h : zH) : Option (Unit × zH) := f_X4_transfer_b0 E p0 p1 h
theorem m_X4_transfer {l : Launch} (hst : l.stackTraces = false) {D : zD} {B0 : Nat} {E : zE} {p0 : Nat} {p1 : Nat} {h h' : zH} {r : Unit} (hf : f_X4_transfer E p0 p1 h = some (r, h')) : zMet l yX4_transfer (ws_ yX4_transfer cX4_transfer 3 (Option.none : Option Jvm.ClassFile.FieldType)) 1 60 D B0 E [.ref p0, .ref p1] h (zoV r) h' := by
  unfold f_X4_transfer at hf
  refine zMet_of hst (by decide +kernel) rfl rfl (Nat.le_of_ble_eq_true rfl) (fun p e R s m below meth c C0 hno => ?_)
  show zW _ _ _ _ _ _ _ _ _ _ _ _ _ _ _ _ [(0, .ref p0), (1, .ref p1)] []
  exact w_X4_transfer_b0 C0 hf
def f_X4_close_l146 (E : zE) : Nat → Nat → Int32 → zH → Option (Unit × zH)
  | 0, _, _, _ => none
  | n + 1, p0, p3, h =>
    (gR h p0 4 0).bind fun x1 =>
    (cko h x1 15).bind fun _ =>
    bnd2 (f_J2_size E x1 h) fun x6 h4 =>
    if x6 ≤ p3 then (
      (cko h4 p0 4).bind fun _ =>
      bnd2 (f_X4_endMonth E p0 h4) fun x11 h9 =>
      some ((), h9)
    ) else (
      (gR h4 p0 4 0).bind fun x12 =>
      (cko h4 x12 15).bind fun _ =>
      bnd2 (f_J2_get E x12 p3 h4) fun x17 h15 =>
      (cko h15 x17 10).bind fun _ =>
      (cko h15 p0 4).bind fun _ =>
      bnd2 (f_X4_transfer E p0 x17 h15) fun x22 h20 =>
      (gR h20 p0 4 0).bind fun x23 =>
      (cko h20 x23 15).bind fun _ =>
      bnd2 (f_J2_get E x23 p3 h20) fun x28 h26 =>
      (cko h26 x28 10).bind fun _ =>
      (gR h26 x28 10 1).bind fun x30 =>
      (gI h26 p0 4 5).bind fun x32 =>
      (dR h26 x30 5 x32).bind fun x34 =>
      (gR h26 p0 4 0).bind fun x36 =>
      (cko h26 x36 15).bind fun _ =>
      bnd2 (f_J2_get E x36 p3 h26) fun x41 h39 =>
      (cko h39 x41 10).bind fun _ =>
      (gL h39 x41 10 8).bind fun x43 =>
      (sL h39 x34 (6 : Int32) x43).bind fun h45 =>
      f_X4_close_l146 E n p0 (p3 + 1) h45
    )
theorem w_X4_close_l146 (C0 : zCx p l e R s m args below meth c D B0 5 "FranchiseLedger$Books" cX4_close E 6 180 (Option.none : Option Jvm.ClassFile.FieldType) "close") {r : Unit} {h' : zH} : ∀ (n : Nat) (p0 : Nat) (p3 : Int32) (h : zH), f_X4_close_l146 E n p0 p3 h = some (r, h') → zW p l e R s m args below meth c D B0 5 (zEnd D B0 R below args s (zoV r) h') h 146 [(0, .ref p0), (3, .int p3)] [] := by
  intro n
  induction n with
  | zero =>
    intro p0 p3 h hf
    unfold f_X4_close_l146 at hf
    cases hf
  | succ n ih =>
    intro p0 p3 h hf
    unfold f_X4_close_l146 at hf
    refine zr_iload_n C0 dX4_close_146 rfl 1 rfl ?_
    refine zr_aload_n C0 dX4_close_147 rfl 0 rfl ?_
    obtain ⟨x1, e2, hf⟩ := zbind hf
    refine zr_get C0 fl_X4_20_X4 dX4_close_148 (zgR e2) ?_
    obtain ⟨_, e3, hf⟩ := zbind hf
    obtain ⟨x6, h4, e5, hf⟩ := zbind2 hf
    refine zr_callF_r C0 cv_X4_46_J2 rfl (zcko e3) (m_J2_size C0.2.2.2.2.2.2.1 e5) (by decide) (by decide) rfl rfl (Nat.le_of_ble_eq_true rfl) dX4_close_151 rfl ?_
    refine zr_icmp_ge C0 (tgt := 222) dX4_close_156 (by decide) (fun c7 => ?_) (fun c7 => ?_)
    · have hf := zif_t c7 hf
      refine zr_aload_n C0 dX4_close_222 rfl 0 rfl ?_
      obtain ⟨_, e8, hf⟩ := zbind hf
      obtain ⟨x11, h9, e10, hf⟩ := zbind2 hf
      refine zr_callV_r C0 cv_X4_203_X4 rfl (zcko e8) (m_X4_endMonth C0.2.2.2.2.2.2.1 e10) (by decide) (by decide) rfl rfl (Nat.le_of_ble_eq_true rfl) dX4_close_223 rfl ?_
      refine zretW hf ?_
      exact zr_vret C0 rfl dX4_close_226 rfl
    · have hf := zif_f c7 hf
      refine zr_aload_n C0 dX4_close_159 rfl 0 rfl ?_
      refine zr_aload_n C0 dX4_close_160 rfl 0 rfl ?_
      obtain ⟨x12, e13, hf⟩ := zbind hf
      refine zr_get C0 fl_X4_20_X4 dX4_close_161 (zgR e13) ?_
      refine zr_iload_n C0 dX4_close_164 rfl 1 rfl ?_
      obtain ⟨_, e14, hf⟩ := zbind hf
      obtain ⟨x17, h15, e16, hf⟩ := zbind2 hf
      refine zr_callF_r C0 cv_X4_52_J2 rfl (zcko e14) (m_J2_get C0.2.2.2.2.2.2.1 e16) (by decide) (by decide) rfl rfl (Nat.le_of_ble_eq_true rfl) dX4_close_165 rfl ?_
      obtain ⟨_, e18, hf⟩ := zbind hf
      refine zr_castS C0 (ci := 10) rfl (zcko e18) q843 dX4_close_170 ?_
      obtain ⟨_, e19, hf⟩ := zbind hf
      obtain ⟨x22, h20, e21, hf⟩ := zbind2 hf
      refine zr_callV_r C0 cv_X4_200_X4 rfl (zcko e19) (m_X4_transfer C0.2.2.2.2.2.2.1 e21) (by decide) (by decide) rfl rfl (Nat.le_of_ble_eq_true rfl) dX4_close_173 rfl ?_
      refine zr_aload_n C0 dX4_close_176 rfl 0 rfl ?_
      obtain ⟨x23, e24, hf⟩ := zbind hf
      refine zr_get C0 fl_X4_20_X4 dX4_close_177 (zgR e24) ?_
      refine zr_iload_n C0 dX4_close_180 rfl 1 rfl ?_
      obtain ⟨_, e25, hf⟩ := zbind hf
      obtain ⟨x28, h26, e27, hf⟩ := zbind2 hf
      refine zr_callF_r C0 cv_X4_52_J2 rfl (zcko e25) (m_J2_get C0.2.2.2.2.2.2.1 e27) (by decide) (by decide) rfl rfl (Nat.le_of_ble_eq_true rfl) dX4_close_181 rfl ?_
      obtain ⟨_, e29, hf⟩ := zbind hf
      refine zr_castS C0 (ci := 10) rfl (zcko e29) q843 dX4_close_186 ?_
      obtain ⟨x30, e31, hf⟩ := zbind hf
      refine zr_get C0 fl_X4_186_X11 dX4_close_189 (zgR e31) ?_
      refine zr_aload_n C0 dX4_close_192 rfl 0 rfl ?_
      obtain ⟨x32, e33, hf⟩ := zbind hf
      refine zr_get C0 fl_X4_58_X4 dX4_close_193 (zgI e33) ?_
      obtain ⟨x34, e35, hf⟩ := zbind hf
      refine zr_aald C0 rfl dX4_close_196 e35 ?_
      refine zr_bipush C0 (v := 6) dX4_close_197 (by decide) ?_
      refine zr_aload_n C0 dX4_close_199 rfl 0 rfl ?_
      obtain ⟨x36, e37, hf⟩ := zbind hf
      refine zr_get C0 fl_X4_20_X4 dX4_close_200 (zgR e37) ?_
      refine zr_iload_n C0 dX4_close_203 rfl 1 rfl ?_
      obtain ⟨_, e38, hf⟩ := zbind hf
      obtain ⟨x41, h39, e40, hf⟩ := zbind2 hf
      refine zr_callF_r C0 cv_X4_52_J2 rfl (zcko e38) (m_J2_get C0.2.2.2.2.2.2.1 e40) (by decide) (by decide) rfl rfl (Nat.le_of_ble_eq_true rfl) dX4_close_204 rfl ?_
      obtain ⟨_, e42, hf⟩ := zbind hf
      refine zr_castS C0 (ci := 10) rfl (zcko e42) q843 dX4_close_209 ?_
      obtain ⟨x43, e44, hf⟩ := zbind hf
      refine zr_get C0 fl_X4_147_X11 dX4_close_212 (zgL e44) ?_
      obtain ⟨h45, e46, hf⟩ := zbind hf
      refine zr_last C0 dX4_close_215 e46 ?_
      refine zr_iinc (lv' := [(3, .int (p3 + 1)), (0, .ref p0)]) C0 dX4_close_216 1 rfl rfl (by decide) (by first | rfl | simp [zst1, zst2, zcat_rf]) ?_
      refine zr_goto C0 (tgt := 146) dX4_close_219 (by decide) ?_
      refine zr_sub [1, 0] rfl ?_
      exact ih _ _ _ hf
def f_X4_close_l53 (E : zE) : Nat → Nat → Int64 → Int32 → zH → Option (Unit × zH)
  | 0, _, _, _, _ => none
  | n + 1, p0, p1, p3, h =>
    (gR h p0 4 0).bind fun x1 =>
    (cko h x1 15).bind fun _ =>
    bnd2 (f_J2_size E x1 h) fun x6 h4 =>
    if x6 ≤ p3 then (
      (gR h4 p0 4 4).bind fun x8 =>
      (dL h4 x8 (0 : Int32)).bind fun x10 =>
      (gR h4 p0 4 6).bind fun x12 =>
      (gR h4 x12 0 0).bind fun x14 =>
      (gR h4 x14 2 4).bind fun x16 =>
      (cko h4 x16 3).bind fun _ =>
      bnd2 (f_X16_of E x16 p1 h4) fun x21 h19 =>
      (sL h19 x8 (0 : Int32) (x10 + x21)).bind fun h22 =>
      f_X4_close_l146 E E.1 p0 (0 : Int32) h22
    ) else (
      (gR h4 p0 4 0).bind fun x24 =>
      (cko h4 x24 15).bind fun _ =>
      bnd2 (f_J2_get E x24 p3 h4) fun x29 h27 =>
      (cko h27 x29 10).bind fun _ =>
      (gR h27 x29 10 1).bind fun x31 =>
      (gI h27 p0 4 5).bind fun x33 =>
      (dR h27 x31 5 x33).bind fun x35 =>
      (gR h27 p0 4 0).bind fun x37 =>
      (cko h27 x37 15).bind fun _ =>
      bnd2 (f_J2_get E x37 p3 h27) fun x42 h40 =>
      (cko h40 x42 10).bind fun _ =>
      (cko h40 p0 4).bind fun _ =>
      bnd2 (f_X4_book E p0 x42 x35 h40) fun x47 h45 =>
      (dL h45 x35 (1 : Int32)).bind fun x48 =>
      f_X4_close_l53 E n p0 (p1 + x48) (p3 + 1) h45
    )
theorem w_X4_close_l53 (C0 : zCx p l e R s m args below meth c D B0 5 "FranchiseLedger$Books" cX4_close E 6 180 (Option.none : Option Jvm.ClassFile.FieldType) "close") {r : Unit} {h' : zH} : ∀ (n : Nat) (p0 : Nat) (p1 : Int64) (p3 : Int32) (h : zH), f_X4_close_l53 E n p0 p1 p3 h = some (r, h') → zW p l e R s m args below meth c D B0 5 (zEnd D B0 R below args s (zoV r) h') h 53 [(0, .ref p0), (1, .long p1), (3, .int p3)] [] := by
  intro n
  induction n with
  | zero =>
    intro p0 p1 p3 h hf
    unfold f_X4_close_l53 at hf
    cases hf
  | succ n ih =>
    intro p0 p1 p3 h hf
    unfold f_X4_close_l53 at hf
    refine zr_iload_n C0 dX4_close_53 rfl 2 rfl ?_
    refine zr_aload_n C0 dX4_close_54 rfl 0 rfl ?_
    obtain ⟨x1, e2, hf⟩ := zbind hf
    refine zr_get C0 fl_X4_20_X4 dX4_close_55 (zgR e2) ?_
    obtain ⟨_, e3, hf⟩ := zbind hf
    obtain ⟨x6, h4, e5, hf⟩ := zbind2 hf
    refine zr_callF_r C0 cv_X4_46_J2 rfl (zcko e3) (m_J2_size C0.2.2.2.2.2.2.1 e5) (by decide) (by decide) rfl rfl (Nat.le_of_ble_eq_true rfl) dX4_close_58 rfl ?_
    refine zr_icmp_ge C0 (tgt := 121) dX4_close_63 (by decide) (fun c7 => ?_) (fun c7 => ?_)
    · have hf := zif_t c7 hf
      refine zr_aload_n C0 dX4_close_121 rfl 0 rfl ?_
      obtain ⟨x8, e9, hf⟩ := zbind hf
      refine zr_get C0 fl_X4_39_X4 dX4_close_122 (zgR e9) ?_
      refine zr_iconst C0 (v := 0) dX4_close_125 (by decide) ?_
      refine zr_dup2_11 C0 dX4_close_126 rfl rfl ?_
      obtain ⟨x10, e11, hf⟩ := zbind hf
      refine zr_lald C0 dX4_close_127 e11 ?_
      refine zr_aload_n C0 dX4_close_128 rfl 0 rfl ?_
      obtain ⟨x12, e13, hf⟩ := zbind hf
      refine zr_get C0 fl_X4_3_X4 dX4_close_129 (zgR e13) ?_
      obtain ⟨x14, e15, hf⟩ := zbind hf
      refine zr_get C0 fl_X4_95_X1 dX4_close_132 (zgR e15) ?_
      obtain ⟨x16, e17, hf⟩ := zbind hf
      refine zr_get C0 fl_X4_197_X2 dX4_close_135 (zgR e17) ?_
      refine zr_lload_n C0 dX4_close_138 rfl 1 rfl ?_
      obtain ⟨_, e18, hf⟩ := zbind hf
      obtain ⟨x21, h19, e20, hf⟩ := zbind2 hf
      refine zr_callD_r C0 (by decide +kernel) (zcko e18) (m_X16_of C0.2.2.2.2.2.2.1 e20) (by decide) (by decide) rfl rfl (Nat.le_of_ble_eq_true rfl) dX4_close_139 rfl ?_
      refine zr_ladd C0 dX4_close_142 ?_
      obtain ⟨h22, e23, hf⟩ := zbind hf
      refine zr_last C0 dX4_close_143 e23 ?_
      refine zr_iconst C0 (v := 0) dX4_close_144 (by decide) ?_
      refine zr_istore_n (i := 3) (lv' := [(3, .int (0 : Int32)), (0, .ref p0), (1, .long p1)]) C0 dX4_close_145 rfl (by decide) (by first | rfl | simp [zst1, zst2, zcat_rf]) ?_
      refine zr_sub [1, 0] rfl ?_
      exact w_X4_close_l146 C0 _ _ _ _ hf
    · have hf := zif_f c7 hf
      refine zr_aload_n C0 dX4_close_66 rfl 0 rfl ?_
      obtain ⟨x24, e25, hf⟩ := zbind hf
      refine zr_get C0 fl_X4_20_X4 dX4_close_67 (zgR e25) ?_
      refine zr_iload_n C0 dX4_close_70 rfl 2 rfl ?_
      obtain ⟨_, e26, hf⟩ := zbind hf
      obtain ⟨x29, h27, e28, hf⟩ := zbind2 hf
      refine zr_callF_r C0 cv_X4_52_J2 rfl (zcko e26) (m_J2_get C0.2.2.2.2.2.2.1 e28) (by decide) (by decide) rfl rfl (Nat.le_of_ble_eq_true rfl) dX4_close_71 rfl ?_
      obtain ⟨_, e30, hf⟩ := zbind hf
      refine zr_castS C0 (ci := 10) rfl (zcko e30) q843 dX4_close_76 ?_
      obtain ⟨x31, e32, hf⟩ := zbind hf
      refine zr_get C0 fl_X4_186_X11 dX4_close_79 (zgR e32) ?_
      refine zr_aload_n C0 dX4_close_82 rfl 0 rfl ?_
      obtain ⟨x33, e34, hf⟩ := zbind hf
      refine zr_get C0 fl_X4_58_X4 dX4_close_83 (zgI e34) ?_
      obtain ⟨x35, e36, hf⟩ := zbind hf
      refine zr_aald C0 rfl dX4_close_86 e36 ?_
      refine zr_astore (i := 4) (lv' := [(4, .ref x35), (0, .ref p0), (1, .long p1), (3, .int p3)]) C0 dX4_close_87 (by decide) (by first | rfl | simp [zst1, zst2, zcat_rf]) ?_
      refine zr_aload_n C0 dX4_close_89 rfl 1 rfl ?_
      refine zr_aload_n C0 dX4_close_90 rfl 1 rfl ?_
      obtain ⟨x37, e38, hf⟩ := zbind hf
      refine zr_get C0 fl_X4_20_X4 dX4_close_91 (zgR e38) ?_
      refine zr_iload_n C0 dX4_close_94 rfl 3 rfl ?_
      obtain ⟨_, e39, hf⟩ := zbind hf
      obtain ⟨x42, h40, e41, hf⟩ := zbind2 hf
      refine zr_callF_r C0 cv_X4_52_J2 rfl (zcko e39) (m_J2_get C0.2.2.2.2.2.2.1 e41) (by decide) (by decide) rfl rfl (Nat.le_of_ble_eq_true rfl) dX4_close_95 rfl ?_
      obtain ⟨_, e43, hf⟩ := zbind hf
      refine zr_castS C0 (ci := 10) rfl (zcko e43) q843 dX4_close_100 ?_
      refine zr_aload C0 dX4_close_103 0 rfl ?_
      obtain ⟨_, e44, hf⟩ := zbind hf
      obtain ⟨x47, h45, e46, hf⟩ := zbind2 hf
      refine zr_callV_r C0 cv_X4_193_X4 rfl (zcko e44) (m_X4_book C0.2.2.2.2.2.2.1 e46) (by decide) (by decide) rfl rfl (Nat.le_of_ble_eq_true rfl) dX4_close_105 rfl ?_
      refine zr_lload_n C0 dX4_close_108 rfl 2 rfl ?_
      refine zr_aload C0 dX4_close_109 0 rfl ?_
      refine zr_iconst C0 (v := 1) dX4_close_111 (by decide) ?_
      obtain ⟨x48, e49, hf⟩ := zbind hf
      refine zr_lald C0 dX4_close_112 e49 ?_
      refine zr_ladd C0 dX4_close_113 ?_
      refine zr_lstore_n (i := 1) (lv' := [(1, .long (p1 + x48)), (4, .ref x35), (0, .ref p0), (3, .int p3)]) C0 dX4_close_114 rfl (by decide) (by first | rfl | simp [zst1, zst2, zcat_rf]) ?_
      refine zr_iinc (lv' := [(3, .int (p3 + 1)), (1, .long (p1 + x48)), (4, .ref x35), (0, .ref p0)]) C0 dX4_close_115 3 rfl rfl (by decide) (by first | rfl | simp [zst1, zst2, zcat_rf]) ?_
      refine zr_goto C0 (tgt := 53) dX4_close_118 (by decide) ?_
      refine zr_sub [3, 1, 0] rfl ?_
      exact ih _ _ _ _ hf
def f_X4_close_l4 (E : zE) : Nat → Nat → Int64 → Int32 → zH → Option (Unit × zH)
  | 0, _, _, _, _ => none
  | n + 1, p0, p1, p3, h =>
    (gR h p0 4 0).bind fun x1 =>
    (cko h x1 15).bind fun _ =>
    bnd2 (f_J2_size E x1 h) fun x6 h4 =>
    if x6 ≤ p3 then (
      f_X4_close_l53 E E.1 p0 p1 (0 : Int32) h4
    ) else (
      (gR h4 p0 4 0).bind fun x8 =>
      (cko h4 x8 15).bind fun _ =>
      bnd2 (f_J2_get E x8 p3 h4) fun x13 h11 =>
      (cko h11 x13 10).bind fun _ =>
      (gR h11 x13 10 1).bind fun x15 =>
      (gI h11 p0 4 5).bind fun x17 =>
      (cko h11 p0 4).bind fun _ =>
      bnd2 (f_X4_statement E p0 p3 (100 : Int32) h11) fun x22 h20 =>
      (sA h20 x15 x17 x22).bind fun h23 =>
      f_X4_close_l4 E n p0 p1 (p3 + 1) h23
    )
theorem w_X4_close_l4 (C0 : zCx p l e R s m args below meth c D B0 5 "FranchiseLedger$Books" cX4_close E 6 180 (Option.none : Option Jvm.ClassFile.FieldType) "close") {r : Unit} {h' : zH} : ∀ (n : Nat) (p0 : Nat) (p1 : Int64) (p3 : Int32) (h : zH), f_X4_close_l4 E n p0 p1 p3 h = some (r, h') → zW p l e R s m args below meth c D B0 5 (zEnd D B0 R below args s (zoV r) h') h 4 [(0, .ref p0), (1, .long p1), (3, .int p3)] [] := by
  intro n
  induction n with
  | zero =>
    intro p0 p1 p3 h hf
    unfold f_X4_close_l4 at hf
    cases hf
  | succ n ih =>
    intro p0 p1 p3 h hf
    unfold f_X4_close_l4 at hf
    refine zr_iload_n C0 dX4_close_4 rfl 2 rfl ?_
    refine zr_aload_n C0 dX4_close_5 rfl 0 rfl ?_
    obtain ⟨x1, e2, hf⟩ := zbind hf
    refine zr_get C0 fl_X4_20_X4 dX4_close_6 (zgR e2) ?_
    obtain ⟨_, e3, hf⟩ := zbind hf
    obtain ⟨x6, h4, e5, hf⟩ := zbind2 hf
    refine zr_callF_r C0 cv_X4_46_J2 rfl (zcko e3) (m_J2_size C0.2.2.2.2.2.2.1 e5) (by decide) (by decide) rfl rfl (Nat.le_of_ble_eq_true rfl) dX4_close_9 rfl ?_
    refine zr_icmp_ge C0 (tgt := 51) dX4_close_14 (by decide) (fun c7 => ?_) (fun c7 => ?_)
    · have hf := zif_t c7 hf
      refine zr_iconst C0 (v := 0) dX4_close_51 (by decide) ?_
      refine zr_istore_n (i := 3) (lv' := [(3, .int (0 : Int32)), (0, .ref p0), (1, .long p1)]) C0 dX4_close_52 rfl (by decide) (by first | rfl | simp [zst1, zst2, zcat_rf]) ?_
      refine zr_sub [1, 2, 0] rfl ?_
      exact w_X4_close_l53 C0 _ _ _ _ _ hf
    · have hf := zif_f c7 hf
      refine zr_aload_n C0 dX4_close_17 rfl 0 rfl ?_
      obtain ⟨x8, e9, hf⟩ := zbind hf
      refine zr_get C0 fl_X4_20_X4 dX4_close_18 (zgR e9) ?_
      refine zr_iload_n C0 dX4_close_21 rfl 2 rfl ?_
      obtain ⟨_, e10, hf⟩ := zbind hf
      obtain ⟨x13, h11, e12, hf⟩ := zbind2 hf
      refine zr_callF_r C0 cv_X4_52_J2 rfl (zcko e10) (m_J2_get C0.2.2.2.2.2.2.1 e12) (by decide) (by decide) rfl rfl (Nat.le_of_ble_eq_true rfl) dX4_close_22 rfl ?_
      obtain ⟨_, e14, hf⟩ := zbind hf
      refine zr_castS C0 (ci := 10) rfl (zcko e14) q843 dX4_close_27 ?_
      obtain ⟨x15, e16, hf⟩ := zbind hf
      refine zr_get C0 fl_X4_186_X11 dX4_close_30 (zgR e16) ?_
      refine zr_aload_n C0 dX4_close_33 rfl 0 rfl ?_
      obtain ⟨x17, e18, hf⟩ := zbind hf
      refine zr_get C0 fl_X4_58_X4 dX4_close_34 (zgI e18) ?_
      refine zr_aload_n C0 dX4_close_37 rfl 0 rfl ?_
      refine zr_iload_n C0 dX4_close_38 rfl 2 rfl ?_
      refine zr_bipush C0 (v := 100) dX4_close_39 (by decide) ?_
      obtain ⟨_, e19, hf⟩ := zbind hf
      obtain ⟨x22, h20, e21, hf⟩ := zbind2 hf
      refine zr_callV_r C0 cv_X4_189_X4 rfl (zcko e19) (m_X4_statement C0.2.2.2.2.2.2.1 e21) (by decide) (by decide) rfl rfl (Nat.le_of_ble_eq_true rfl) dX4_close_41 rfl ?_
      obtain ⟨h23, e24, hf⟩ := zbind hf
      refine zr_aastA C0 dX4_close_44 e24 ?_
      refine zr_iinc (lv' := [(3, .int (p3 + 1)), (0, .ref p0), (1, .long p1)]) C0 dX4_close_45 2 rfl rfl (by decide) (by first | rfl | simp [zst1, zst2, zcat_rf]) ?_
      refine zr_goto C0 (tgt := 4) dX4_close_48 (by decide) ?_
      refine zr_sub [1, 2, 0] rfl ?_
      exact ih _ _ _ _ hf
def f_X4_close_b0 (E : zE) (p0 : Nat) (h : zH) : Option (Unit × zH) :=
  f_X4_close_l4 E E.1 p0 (0 : Int64) (0 : Int32) h
theorem w_X4_close_b0 (C0 : zCx p l e R s m args below meth c D B0 5 "FranchiseLedger$Books" cX4_close E 6 180 (Option.none : Option Jvm.ClassFile.FieldType) "close") {r : Unit} {h' : zH} {p0 : Nat} {h : zH} (hf : f_X4_close_b0 E p0 h = some (r, h')) : zW p l e R s m args below meth c D B0 5 (zEnd D B0 R below args s (zoV r) h') h 0 [(0, .ref p0)] [] := by
  unfold f_X4_close_b0 at hf
  refine zr_lconst C0 (v := 0) dX4_close_0 (by decide) ?_
  refine zr_lstore_n (i := 1) (lv' := [(1, .long (0 : Int64)), (0, .ref p0)]) C0 dX4_close_1 rfl (by decide) (by first | rfl | simp [zst1, zst2, zcat_rf]) ?_
  refine zr_iconst C0 (v := 0) dX4_close_2 (by decide) ?_
  refine zr_istore_n (i := 3) (lv' := [(3, .int (0 : Int32)), (1, .long (0 : Int64)), (0, .ref p0)]) C0 dX4_close_3 rfl (by decide) (by first | rfl | simp [zst1, zst2, zcat_rf]) ?_
  refine zr_sub [2, 1, 0] rfl ?_
  exact w_X4_close_l4 C0 _ _ _ _ _ hf
def f_X4_close (E : zE) (p0 : Nat) (h : zH) : Option (Unit × zH) := f_X4_close_b0 E p0 h
theorem m_X4_close {l : Launch} (hst : l.stackTraces = false) {D : zD} {B0 : Nat} {E : zE} {p0 : Nat} {h h' : zH} {r : Unit} (hf : f_X4_close E p0 h = some (r, h')) : zMet l yX4_close (ws_ yX4_close cX4_close 5 (Option.none : Option Jvm.ClassFile.FieldType)) 6 180 D B0 E [.ref p0] h (zoV r) h' := by
  unfold f_X4_close at hf
  refine zMet_of hst (by decide +kernel) rfl rfl (Nat.le_of_ble_eq_true rfl) (fun p e R s m below meth c C0 hno => ?_)
  show zW _ _ _ _ _ _ _ _ _ _ _ _ _ _ _ _ [(0, .ref p0)] []
  exact w_X4_close_b0 C0 hf
def f_X1_closeMonth_b0 (E : zE) (p0 : Nat) (h : zH) : Option ((Int32 ⊕ (Nat × Nat)) × zH) :=
  (cko h p0 0).bind fun _ =>
  bnd2 (f_X1_requireMonth E p0 h) fun x4 h2 =>
  Sum.elim (fun x5 => (
    (gR h2 p0 0 1).bind fun x7 =>
    (cko h2 x7 4).bind fun _ =>
    bnd2 (f_X4_close E x7 h2) fun x12 h10 =>
    (gR h10 p0 0 1).bind fun x13 =>
    (gI h10 x13 4 5).bind fun x15 =>
    some (.inl x15, h10)
  )) (fun q6 => (
    some (.inr q6, h2)
  )) x4
theorem w_X1_closeMonth_b0 (C0 : zCx p l e R s m args below meth c D B0 1 "FranchiseLedger" cX1_closeMonth E 10 204 (Option.some Jvm.ClassFile.FieldType.int) "closeMonth") (hno : ∀ x ∈ c.exceptionTable.toList, False) {r : (Int32 ⊕ (Nat × Nat))} {h' : zH} {p0 : Nat} {h : zH} (hf : f_X1_closeMonth_b0 E p0 h = some (r, h')) : zW p l e R s m args below meth c D B0 1 (zEnd D B0 R below args s (zoT zoI r) h') h 0 [(0, .ref p0)] [] := by
  unfold f_X1_closeMonth_b0 at hf
  refine zr_aload_n C0 dX1_closeMonth_0 rfl 0 rfl ?_
  obtain ⟨_, e1, hf⟩ := zbind hf
  obtain ⟨x4, h2, e3, hf⟩ := zbind2 hf
  rcases x4 with x5 | q6
  · have hf := zinl hf
    refine zr_callV_r C0 cv_X1_264_X1 rfl (zcko e1) (m_X1_requireMonth C0.2.2.2.2.2.2.1 e3) (by decide) (by decide) rfl rfl (Nat.le_of_ble_eq_true rfl) dX1_closeMonth_1 rfl ?_
    refine zr_aload_n C0 dX1_closeMonth_4 rfl 0 rfl ?_
    obtain ⟨x7, e8, hf⟩ := zbind hf
    refine zr_get C0 fl_X1_39_X1 dX1_closeMonth_5 (zgR e8) ?_
    obtain ⟨_, e9, hf⟩ := zbind hf
    obtain ⟨x12, h10, e11, hf⟩ := zbind2 hf
    refine zr_callV_r C0 cv_X1_293_X4 rfl (zcko e9) (m_X4_close C0.2.2.2.2.2.2.1 e11) (by decide) (by decide) rfl rfl (Nat.le_of_ble_eq_true rfl) dX1_closeMonth_8 rfl ?_
    refine zr_aload_n C0 dX1_closeMonth_11 rfl 0 rfl ?_
    obtain ⟨x13, e14, hf⟩ := zbind hf
    refine zr_get C0 fl_X1_39_X1 dX1_closeMonth_12 (zgR e14) ?_
    obtain ⟨x15, e16, hf⟩ := zbind hf
    refine zr_get C0 fl_X1_111_X4 dX1_closeMonth_15 (zgI e16) ?_
    refine zretW hf ?_
    exact zr_iret C0 (ty := .int) rfl rfl dX1_closeMonth_18 rfl
  · have hf := zinr hf
    refine zretW hf ?_
    exact zr_callV_t C0 cv_X1_264_X1 rfl (zcko e1) (m_X1_requireMonth C0.2.2.2.2.2.2.1 e3) (by decide) (by decide) rfl rfl (Nat.le_of_ble_eq_true rfl) dX1_closeMonth_1 (zr_out C0 hno rfl)
def f_X1_closeMonth (E : zE) (p0 : Nat) (h : zH) : Option ((Int32 ⊕ (Nat × Nat)) × zH) := f_X1_closeMonth_b0 E p0 h
theorem m_X1_closeMonth {l : Launch} (hst : l.stackTraces = false) {D : zD} {B0 : Nat} {E : zE} {p0 : Nat} {h h' : zH} {r : (Int32 ⊕ (Nat × Nat))} (hf : f_X1_closeMonth E p0 h = some (r, h')) : zMet l yX1_closeMonth (ws_ yX1_closeMonth cX1_closeMonth 1 (Option.some Jvm.ClassFile.FieldType.int)) 10 204 D B0 E [.ref p0] h (zoT zoI r) h' := by
  unfold f_X1_closeMonth at hf
  refine zMet_of hst (by decide +kernel) rfl rfl (Nat.le_of_ble_eq_true rfl) (fun p e R s m below meth c C0 hno => ?_)
  show zW _ _ _ _ _ _ _ _ _ _ _ _ _ _ _ _ [(0, .ref p0)] []
  exact w_X1_closeMonth_b0 C0 hno hf
def f_X12_vote_b65 (E : zE) (p0 : Nat) (s0 : Nat) (s1 : Int32) (h : zH) : Option (Int32 × zH) :=
  (pF h s0 11 0 (.int s1)).bind fun h1 =>
  (gI h1 p0 11 0).bind fun x3 =>
  some (x3, h1)
theorem w_X12_vote_b65 (C0 : zCx p l e R s m args below meth c D B0 3 "FranchiseLedger$Transfer" cX12_vote E 1 60 (Option.some Jvm.ClassFile.FieldType.int) "vote") {r : Int32} {h' : zH} {p0 : Nat} {s0 : Nat} {s1 : Int32} {h : zH} (hf : f_X12_vote_b65 E p0 s0 s1 h = some (r, h')) : zW p l e R s m args below meth c D B0 3 (zEnd D B0 R below args s (zoI r) h') h 65 [(0, .ref p0)] [.int s1, .ref s0] := by
  unfold f_X12_vote_b65 at hf
  obtain ⟨h1, e2, hf⟩ := zbind hf
  refine zr_put C0 pl_X12_9_X12 dX12_vote_65 (fun h => by cases h) rfl rfl e2 ?_
  refine zr_aload_n C0 dX12_vote_68 rfl 0 rfl ?_
  obtain ⟨x3, e4, hf⟩ := zbind hf
  refine zr_get C0 fl_X12_9_X12 dX12_vote_69 (zgI e4) ?_
  refine zretW hf ?_
  exact zr_iret C0 (ty := .int) rfl rfl dX12_vote_72 rfl
def f_X12_vote_b39 (E : zE) (p0 : Nat) (h : zH) : Option (Int32 × zH) :=
  (gI h p0 11 3).bind fun x1 =>
  if x1 = (3 : Int32) then (
    f_X12_vote_b65 E p0 p0 (2 : Int32) h
  ) else (
    (gI h p0 11 4).bind fun x4 =>
    if x4 = (3 : Int32) then (
      f_X12_vote_b65 E p0 p0 (3 : Int32) h
    ) else (
      f_X12_vote_b65 E p0 p0 (1 : Int32) h
    )
  )
theorem w_X12_vote_b39 (C0 : zCx p l e R s m args below meth c D B0 3 "FranchiseLedger$Transfer" cX12_vote E 1 60 (Option.some Jvm.ClassFile.FieldType.int) "vote") {r : Int32} {h' : zH} {p0 : Nat} {h : zH} (hf : f_X12_vote_b39 E p0 h = some (r, h')) : zW p l e R s m args below meth c D B0 3 (zEnd D B0 R below args s (zoI r) h') h 39 [(0, .ref p0)] [] := by
  unfold f_X12_vote_b39 at hf
  refine zr_aload_n C0 dX12_vote_39 rfl 0 rfl ?_
  refine zr_aload_n C0 dX12_vote_40 rfl 0 rfl ?_
  obtain ⟨x1, e2, hf⟩ := zbind hf
  refine zr_get C0 fl_X12_21_X12 dX12_vote_41 (zgI e2) ?_
  refine zr_iconst C0 (v := 3) dX12_vote_44 (by decide) ?_
  refine zr_icmp_ne C0 (tgt := 52) dX12_vote_45 (by decide) (fun c3 => ?_) (fun c3 => ?_)
  · have hf := zif_f c3 hf
    refine zr_aload_n C0 dX12_vote_52 rfl 0 rfl ?_
    obtain ⟨x4, e5, hf⟩ := zbind hf
    refine zr_get C0 fl_X12_24_X12 dX12_vote_53 (zgI e5) ?_
    refine zr_iconst C0 (v := 3) dX12_vote_56 (by decide) ?_
    refine zr_icmp_ne C0 (tgt := 64) dX12_vote_57 (by decide) (fun c6 => ?_) (fun c6 => ?_)
    · have hf := zif_f c6 hf
      refine zr_iconst C0 (v := 1) dX12_vote_64 (by decide) ?_
      exact w_X12_vote_b65 C0 hf
    · have hf := zif_t c6 hf
      refine zr_iconst C0 (v := 3) dX12_vote_60 (by decide) ?_
      refine zr_goto C0 (tgt := 65) dX12_vote_61 (by decide) ?_
      exact w_X12_vote_b65 C0 hf
  · have hf := zif_t c3 hf
    refine zr_iconst C0 (v := 2) dX12_vote_48 (by decide) ?_
    refine zr_goto C0 (tgt := 65) dX12_vote_49 (by decide) ?_
    exact w_X12_vote_b65 C0 hf
def f_X12_vote_b0 (E : zE) (p0 : Nat) (p1 : Int32) (p2 : Int32) (h : zH) : Option (Int32 × zH) :=
  (gI h p0 11 5).bind fun x1 =>
  (pF h p0 11 5 (.int (x1 ||| ((1 : Int32) <<< (p1 &&& 31))))).bind fun h3 =>
  if p2 = 0 then (
    (gI h3 p0 11 4).bind fun x6 =>
    (pF h3 p0 11 4 (.int (x6 + (1 : Int32)))).bind fun h8 =>
    f_X12_vote_b39 E p0 h8
  ) else (
    (gI h3 p0 11 3).bind fun x10 =>
    (pF h3 p0 11 3 (.int (x10 + (1 : Int32)))).bind fun h12 =>
    f_X12_vote_b39 E p0 h12
  )
theorem w_X12_vote_b0 (C0 : zCx p l e R s m args below meth c D B0 3 "FranchiseLedger$Transfer" cX12_vote E 1 60 (Option.some Jvm.ClassFile.FieldType.int) "vote") {r : Int32} {h' : zH} {p0 : Nat} {p1 : Int32} {p2 : Int32} {h : zH} (hf : f_X12_vote_b0 E p0 p1 p2 h = some (r, h')) : zW p l e R s m args below meth c D B0 3 (zEnd D B0 R below args s (zoI r) h') h 0 [(0, .ref p0), (1, .int p1), (2, .int p2)] [] := by
  unfold f_X12_vote_b0 at hf
  refine zr_aload_n C0 dX12_vote_0 rfl 0 rfl ?_
  refine zr_dup C0 dX12_vote_1 rfl ?_
  obtain ⟨x1, e2, hf⟩ := zbind hf
  refine zr_get C0 fl_X12_27_X12 dX12_vote_2 (zgI e2) ?_
  refine zr_iconst C0 (v := 1) dX12_vote_5 (by decide) ?_
  refine zr_iload_n C0 dX12_vote_6 rfl 1 rfl ?_
  refine zr_ishl C0 dX12_vote_7 ?_
  refine zr_ior C0 dX12_vote_8 ?_
  obtain ⟨h3, e4, hf⟩ := zbind hf
  refine zr_put C0 pl_X12_27_X12 dX12_vote_9 (fun h => by cases h) rfl rfl e4 ?_
  refine zr_iload_n C0 dX12_vote_12 rfl 2 rfl ?_
  refine zr_if_eq C0 (tgt := 29) dX12_vote_13 (by decide) (fun c5 => ?_) (fun c5 => ?_)
  · have hf := zif_t c5 hf
    refine zr_aload_n C0 dX12_vote_29 rfl 0 rfl ?_
    refine zr_dup C0 dX12_vote_30 rfl ?_
    obtain ⟨x6, e7, hf⟩ := zbind hf
    refine zr_get C0 fl_X12_24_X12 dX12_vote_31 (zgI e7) ?_
    refine zr_iconst C0 (v := 1) dX12_vote_34 (by decide) ?_
    refine zr_iadd C0 dX12_vote_35 ?_
    obtain ⟨h8, e9, hf⟩ := zbind hf
    refine zr_put C0 pl_X12_24_X12 dX12_vote_36 (fun h => by cases h) rfl rfl e9 ?_
    refine zr_sub [0] rfl ?_
    exact w_X12_vote_b39 C0 hf
  · have hf := zif_f c5 hf
    refine zr_aload_n C0 dX12_vote_16 rfl 0 rfl ?_
    refine zr_dup C0 dX12_vote_17 rfl ?_
    obtain ⟨x10, e11, hf⟩ := zbind hf
    refine zr_get C0 fl_X12_21_X12 dX12_vote_18 (zgI e11) ?_
    refine zr_iconst C0 (v := 1) dX12_vote_21 (by decide) ?_
    refine zr_iadd C0 dX12_vote_22 ?_
    obtain ⟨h12, e13, hf⟩ := zbind hf
    refine zr_put C0 pl_X12_21_X12 dX12_vote_23 (fun h => by cases h) rfl rfl e13 ?_
    refine zr_goto C0 (tgt := 39) dX12_vote_26 (by decide) ?_
    refine zr_sub [0] rfl ?_
    exact w_X12_vote_b39 C0 hf
def f_X12_vote (E : zE) (p0 : Nat) (p1 : Int32) (p2 : Int32) (h : zH) : Option (Int32 × zH) := f_X12_vote_b0 E p0 p1 p2 h
theorem m_X12_vote {l : Launch} (hst : l.stackTraces = false) {D : zD} {B0 : Nat} {E : zE} {p0 : Nat} {p1 : Int32} {p2 : Int32} {h h' : zH} {r : Int32} (hf : f_X12_vote E p0 p1 p2 h = some (r, h')) : zMet l yX12_vote (ws_ yX12_vote cX12_vote 3 (Option.some Jvm.ClassFile.FieldType.int)) 1 60 D B0 E [.ref p0, .int p1, .int p2] h (zoI r) h' := by
  unfold f_X12_vote at hf
  refine zMet_of hst (by decide +kernel) rfl rfl (Nat.le_of_ble_eq_true rfl) (fun p e R s m below meth c C0 hno => ?_)
  show zW _ _ _ _ _ _ _ _ _ _ _ _ _ _ _ _ [(0, .ref p0), (1, .int p1), (2, .int p2)] []
  exact w_X12_vote_b0 C0 hf
def f_X1_vote_b61 (E : zE) (s0 : Int32) (h : zH) : Option ((Int32 ⊕ (Nat × Nat)) × zH) :=
  some (.inl s0, h)
theorem w_X1_vote_b61 (C0 : zCx p l e R s m args below meth c D B0 5 "FranchiseLedger" cX1_vote E 11 175 (Option.some Jvm.ClassFile.FieldType.int) "vote") (hno : ∀ x ∈ c.exceptionTable.toList, False) {r : (Int32 ⊕ (Nat × Nat))} {h' : zH} {s0 : Int32} {h : zH} (hf : f_X1_vote_b61 E s0 h = some (r, h')) : zW p l e R s m args below meth c D B0 5 (zEnd D B0 R below args s (zoT zoI r) h') h 61 [] [.int s0] := by
  unfold f_X1_vote_b61 at hf
  refine zretW hf ?_
  exact zr_iret C0 (ty := .int) rfl rfl dX1_vote_61 rfl
def f_X1_vote_b50 (E : zE) (h : zH) : Option ((Int32 ⊕ (Nat × Nat)) × zH) :=
  f_X1_vote_b61 E (-1 : Int32) h
theorem w_X1_vote_b50 (C0 : zCx p l e R s m args below meth c D B0 5 "FranchiseLedger" cX1_vote E 11 175 (Option.some Jvm.ClassFile.FieldType.int) "vote") (hno : ∀ x ∈ c.exceptionTable.toList, False) {r : (Int32 ⊕ (Nat × Nat))} {h' : zH} {h : zH} (hf : f_X1_vote_b50 E  h = some (r, h')) : zW p l e R s m args below meth c D B0 5 (zEnd D B0 R below args s (zoT zoI r) h') h 50 [] [] := by
  unfold f_X1_vote_b50 at hf
  refine zr_iconst C0 (v := -1) dX1_vote_50 (by decide) ?_
  refine zr_goto C0 (tgt := 61) dX1_vote_51 (by decide) ?_
  exact w_X1_vote_b61 C0 hno hf
def f_X1_vote_b0 (E : zE) (p0 : Nat) (p1 : Int32) (p2 : Int32) (p3 : Int32) (h : zH) : Option ((Int32 ⊕ (Nat × Nat)) × zH) :=
  (cko h p0 0).bind fun _ =>
  bnd2 (f_X1_franchisee E p0 p1 h) fun x4 h2 =>
  Sum.elim (fun x5 => (
    (gR h2 x5 10 0).bind fun x7 =>
    bnd2 (nA h2 3 (1 : Int32) (.inl fun _ => 0)) fun q9 h10 =>
    bnd2 (f_X1_inRange E (p2.toInt64) (0 : Int64) (4 : Int64) h10) fun x14 h12 =>
    (zgd .boolean x14).bind fun _ =>
    (sI h12 q9 3 (0 : Int32) x14).bind fun h16 =>
    bnd2 (f_X1_requireArguments E q9 h16) fun x20 h18 =>
    Sum.elim (fun x21 => (
      (gI h18 x7 11 0).bind fun x23 =>
      if x23 = (1 : Int32) then (
        (gI h18 x7 11 5).bind fun x26 =>
        if ((x26 >>> (p2 &&& 31)) &&& (1 : Int32)) = (1 : Int32) then (
          f_X1_vote_b50 E  h18
        ) else (
          (cko h18 x7 11).bind fun _ =>
          bnd2 (f_X12_vote E x7 p2 p3 h18) fun x32 h30 =>
          f_X1_vote_b61 E x32 h30
        )
      ) else (
        f_X1_vote_b50 E  h18
      )
    )) (fun q22 => (
      some (.inr q22, h18)
    )) x20
  )) (fun q6 => (
    some (.inr q6, h2)
  )) x4
theorem w_X1_vote_b0 (C0 : zCx p l e R s m args below meth c D B0 5 "FranchiseLedger" cX1_vote E 11 175 (Option.some Jvm.ClassFile.FieldType.int) "vote") (hno : ∀ x ∈ c.exceptionTable.toList, False) {r : (Int32 ⊕ (Nat × Nat))} {h' : zH} {p0 : Nat} {p1 : Int32} {p2 : Int32} {p3 : Int32} {h : zH} (hf : f_X1_vote_b0 E p0 p1 p2 p3 h = some (r, h')) : zW p l e R s m args below meth c D B0 5 (zEnd D B0 R below args s (zoT zoI r) h') h 0 [(0, .ref p0), (1, .int p1), (2, .int p2), (3, .int p3)] [] := by
  unfold f_X1_vote_b0 at hf
  refine zr_aload_n C0 dX1_vote_0 rfl 0 rfl ?_
  refine zr_iload_n C0 dX1_vote_1 rfl 1 rfl ?_
  obtain ⟨_, e1, hf⟩ := zbind hf
  obtain ⟨x4, h2, e3, hf⟩ := zbind2 hf
  rcases x4 with x5 | q6
  · have hf := zinl hf
    refine zr_callV_r C0 cv_X1_134_X1 rfl (zcko e1) (m_X1_franchisee C0.2.2.2.2.2.2.1 e3) (by decide) (by decide) rfl rfl (Nat.le_of_ble_eq_true rfl) dX1_vote_2 rfl ?_
    obtain ⟨x7, e8, hf⟩ := zbind hf
    refine zr_get C0 fl_X1_343_X11 dX1_vote_5 (zgR e8) ?_
    refine zr_astore (i := 4) (lv' := [(4, .ref x7), (0, .ref p0), (1, .int p1), (2, .int p2), (3, .int p3)]) C0 dX1_vote_8 (by decide) (by first | rfl | simp [zst1, zst2, zcat_rf]) ?_
    refine zr_iconst C0 (v := 1) dX1_vote_10 (by decide) ?_
    obtain ⟨q9, h10, e11, hf⟩ := zbind2 hf
    refine zr_newa C0 (atype := .boolean) (t := 3) q627 rfl (by decide) (fun _ => rfl) dX1_vote_11 e11 ?_
    refine zr_dup C0 dX1_vote_13 rfl ?_
    refine zr_iconst C0 (v := 0) dX1_vote_14 (by decide) ?_
    refine zr_iload_n C0 dX1_vote_15 rfl 3 rfl ?_
    refine zr_i2l C0 dX1_vote_16 ?_
    refine zr_lconst C0 (v := 0) dX1_vote_17 (by decide) ?_
    refine zr_ldc2 C0 (v := 4) q1912 dX1_vote_18 ?_
    obtain ⟨x14, h12, e13, hf⟩ := zbind2 hf
    refine zr_callS_r C0 cv_X1_84 (m_X1_inRange C0.2.2.2.2.2.2.1 e13) (by decide) (by decide) rfl rfl (Nat.le_of_ble_eq_true rfl) dX1_vote_21 rfl ?_
    obtain ⟨_, e15, hf⟩ := zbind hf
    obtain ⟨h16, e17, hf⟩ := zbind hf
    refine zr_zast C0 dX1_vote_24 (zgd_b e15) e17 ?_
    obtain ⟨x20, h18, e19, hf⟩ := zbind2 hf
    rcases x20 with x21 | q22
    · have hf := zinl hf
      refine zr_callS_r C0 cv_X1_168 (m_X1_requireArguments C0.2.2.2.2.2.2.1 e19) (by decide) (by decide) rfl rfl (Nat.le_of_ble_eq_true rfl) dX1_vote_25 rfl ?_
      refine zr_aload C0 dX1_vote_28 0 rfl ?_
      obtain ⟨x23, e24, hf⟩ := zbind hf
      refine zr_get C0 fl_X1_359_X12 dX1_vote_30 (zgI e24) ?_
      refine zr_iconst C0 (v := 1) dX1_vote_33 (by decide) ?_
      refine zr_icmp_ne C0 (tgt := 50) dX1_vote_34 (by decide) (fun c25 => ?_) (fun c25 => ?_)
      · have hf := zif_f c25 hf
        refine zr_sub [] rfl ?_
        exact w_X1_vote_b50 C0 hno hf
      · have hf := zif_t c25 hf
        refine zr_aload C0 dX1_vote_37 0 rfl ?_
        obtain ⟨x26, e27, hf⟩ := zbind hf
        refine zr_get C0 fl_X1_362_X12 dX1_vote_39 (zgI e27) ?_
        refine zr_iload_n C0 dX1_vote_42 rfl 3 rfl ?_
        refine zr_ishr C0 dX1_vote_43 ?_
        refine zr_iconst C0 (v := 1) dX1_vote_44 (by decide) ?_
        refine zr_iand C0 dX1_vote_45 ?_
        refine zr_iconst C0 (v := 1) dX1_vote_46 (by decide) ?_
        refine zr_icmp_ne C0 (tgt := 54) dX1_vote_47 (by decide) (fun c28 => ?_) (fun c28 => ?_)
        · have hf := zif_f c28 hf
          refine zr_aload C0 dX1_vote_54 0 rfl ?_
          refine zr_iload_n C0 dX1_vote_56 rfl 3 rfl ?_
          refine zr_iload_n C0 dX1_vote_57 rfl 4 rfl ?_
          obtain ⟨_, e29, hf⟩ := zbind hf
          obtain ⟨x32, h30, e31, hf⟩ := zbind2 hf
          refine zr_callV_r C0 cv_X1_365_X12 rfl (zcko e29) (m_X12_vote C0.2.2.2.2.2.2.1 e31) (by decide) (by decide) rfl rfl (Nat.le_of_ble_eq_true rfl) dX1_vote_58 rfl ?_
          refine zr_sub [] rfl ?_
          exact w_X1_vote_b61 C0 hno hf
        · have hf := zif_t c28 hf
          refine zr_sub [] rfl ?_
          exact w_X1_vote_b50 C0 hno hf
    · have hf := zinr hf
      refine zretW hf ?_
      exact zr_callS_t C0 cv_X1_168 (m_X1_requireArguments C0.2.2.2.2.2.2.1 e19) (by decide) (by decide) rfl rfl (Nat.le_of_ble_eq_true rfl) dX1_vote_25 (zr_out C0 hno rfl)
  · have hf := zinr hf
    refine zretW hf ?_
    exact zr_callV_t C0 cv_X1_134_X1 rfl (zcko e1) (m_X1_franchisee C0.2.2.2.2.2.2.1 e3) (by decide) (by decide) rfl rfl (Nat.le_of_ble_eq_true rfl) dX1_vote_2 (zr_out C0 hno rfl)
def f_X1_vote (E : zE) (p0 : Nat) (p1 : Int32) (p2 : Int32) (p3 : Int32) (h : zH) : Option ((Int32 ⊕ (Nat × Nat)) × zH) := f_X1_vote_b0 E p0 p1 p2 p3 h
theorem m_X1_vote {l : Launch} (hst : l.stackTraces = false) {D : zD} {B0 : Nat} {E : zE} {p0 : Nat} {p1 : Int32} {p2 : Int32} {p3 : Int32} {h h' : zH} {r : (Int32 ⊕ (Nat × Nat))} (hf : f_X1_vote E p0 p1 p2 p3 h = some (r, h')) : zMet l yX1_vote (ws_ yX1_vote cX1_vote 5 (Option.some Jvm.ClassFile.FieldType.int)) 11 175 D B0 E [.ref p0, .int p1, .int p2, .int p3] h (zoT zoI r) h' := by
  unfold f_X1_vote at hf
  refine zMet_of hst (by decide +kernel) rfl rfl (Nat.le_of_ble_eq_true rfl) (fun p e R s m below meth c C0 hno => ?_)
  show zW _ _ _ _ _ _ _ _ _ _ _ _ _ _ _ _ [(0, .ref p0), (1, .int p1), (2, .int p2), (3, .int p3)] []
  exact w_X1_vote_b0 C0 hno hf
def f_X1_isPosted_b203 (E : zE) (s0 : Int32) (h : zH) : Option ((Int32 ⊕ (Nat × Nat)) × zH) :=
  (zgd .boolean s0).bind fun _ =>
  some (.inl s0, h)
theorem w_X1_isPosted_b203 (C0 : zCx p l e R s m args below meth c D B0 2 "FranchiseLedger" cX1_isPosted E 12 224 (Option.some Jvm.ClassFile.FieldType.boolean) "isPosted") (hno : ∀ x ∈ c.exceptionTable.toList, False) {r : (Int32 ⊕ (Nat × Nat))} {h' : zH} {s0 : Int32} {h : zH} (hf : f_X1_isPosted_b203 E s0 h = some (r, h')) : zW p l e R s m args below meth c D B0 2 (zEnd D B0 R below args s (zoT zoI r) h') h 203 [] [.int s0] := by
  unfold f_X1_isPosted_b203 at hf
  obtain ⟨_, e1, hf⟩ := zbind hf
  refine zretW hf ?_
  exact zr_iret C0 (ty := .boolean) rfl (zgd_n e1) dX1_isPosted_203 rfl
def f_X1_isPosted_b177 (E : zE) (s0 : Nat) (s1 : Int32) (s2 : Int32) (s3 : Int32) (h : zH) : Option ((Int32 ⊕ (Nat × Nat)) × zH) :=
  (cko h s0 0).bind fun _ =>
  bnd2 (f_X1_vote E s0 s1 s2 s3 h) fun x4 h2 =>
  Sum.elim (fun x5 => (
    if x5 < 0 then (
      f_X1_isPosted_b203 E (0 : Int32) h2
    ) else (
      f_X1_isPosted_b203 E (1 : Int32) h2
    )
  )) (fun q6 => (
    some (.inr q6, h2)
  )) x4
theorem w_X1_isPosted_b177 (C0 : zCx p l e R s m args below meth c D B0 2 "FranchiseLedger" cX1_isPosted E 12 224 (Option.some Jvm.ClassFile.FieldType.boolean) "isPosted") (hno : ∀ x ∈ c.exceptionTable.toList, False) {r : (Int32 ⊕ (Nat × Nat))} {h' : zH} {s0 : Nat} {s1 : Int32} {s2 : Int32} {s3 : Int32} {h : zH} (hf : f_X1_isPosted_b177 E s0 s1 s2 s3 h = some (r, h')) : zW p l e R s m args below meth c D B0 2 (zEnd D B0 R below args s (zoT zoI r) h') h 177 [] [.int s3, .int s2, .int s1, .ref s0] := by
  unfold f_X1_isPosted_b177 at hf
  obtain ⟨_, e1, hf⟩ := zbind hf
  obtain ⟨x4, h2, e3, hf⟩ := zbind2 hf
  rcases x4 with x5 | q6
  · have hf := zinl hf
    refine zr_callV_r C0 cv_X1_417_X1 rfl (zcko e1) (m_X1_vote C0.2.2.2.2.2.2.1 e3) (by decide) (by decide) rfl rfl (Nat.le_of_ble_eq_true rfl) dX1_isPosted_177 rfl ?_
    refine zr_if_lt C0 (tgt := 187) dX1_isPosted_180 (by decide) (fun c7 => ?_) (fun c7 => ?_)
    · have hf := zif_t c7 hf
      refine zr_iconst C0 (v := 0) dX1_isPosted_187 (by decide) ?_
      refine zr_goto C0 (tgt := 203) dX1_isPosted_188 (by decide) ?_
      exact w_X1_isPosted_b203 C0 hno hf
    · have hf := zif_f c7 hf
      refine zr_iconst C0 (v := 1) dX1_isPosted_183 (by decide) ?_
      refine zr_goto C0 (tgt := 203) dX1_isPosted_184 (by decide) ?_
      exact w_X1_isPosted_b203 C0 hno hf
  · have hf := zinr hf
    refine zretW hf ?_
    exact zr_callV_t C0 cv_X1_417_X1 rfl (zcko e1) (m_X1_vote C0.2.2.2.2.2.2.1 e3) (by decide) (by decide) rfl rfl (Nat.le_of_ble_eq_true rfl) dX1_isPosted_177 (zr_out C0 hno rfl)
def f_X1_isPosted_b0 (E : zE) (p0 : Nat) (p1 : Nat) (h : zH) : Option ((Int32 ⊕ (Nat × Nat)) × zH) :=
  (cko h p1 14).bind fun _ =>
  bnd2 (f_X15_kind E p1 h) fun x4 h2 =>
  if x4 = 0 then (
    (cko h2 p1 14).bind fun _ =>
    bnd2 (f_X15_subject E p1 h2) fun x9 h7 =>
    (cko h7 p1 14).bind fun _ =>
    bnd2 (f_X15_amount E p1 h7) fun x13 h11 =>
    (cko h11 p0 0).bind fun _ =>
    bnd2 (f_X1_reportSales E p0 x9 x13 h11) fun x17 h15 =>
    Sum.elim (fun x18 => (
      if x18 < (0 : Int64) then (
        f_X1_isPosted_b203 E (0 : Int32) h15
      ) else (
        f_X1_isPosted_b203 E (1 : Int32) h15
      )
    )) (fun q19 => (
      some (.inr q19, h15)
    )) x17
  ) else (
  if x4 = 1 then (
    (cko h2 p1 14).bind fun _ =>
    bnd2 (f_X15_subject E p1 h2) fun x25 h23 =>
    (cko h23 p1 14).bind fun _ =>
    bnd2 (f_X15_x E p1 h23) fun x29 h27 =>
    (cko h27 p1 14).bind fun _ =>
    bnd2 (f_X15_y E p1 h27) fun x33 h31 =>
    (cko h31 p1 14).bind fun _ =>
    bnd2 (f_X15_amount E p1 h31) fun x37 h35 =>
    (cko h35 p0 0).bind fun _ =>
    bnd2 (f_X1_deliver E p0 x25 x29 x33 x37 h35) fun x41 h39 =>
    Sum.elim (fun x42 => (
      if x42 < (0 : Int64) then (
        f_X1_isPosted_b203 E (0 : Int32) h39
      ) else (
        f_X1_isPosted_b203 E (1 : Int32) h39
      )
    )) (fun q43 => (
      some (.inr q43, h39)
    )) x41
  ) else (
  if x4 = 2 then (
    (cko h2 p1 14).bind fun _ =>
    bnd2 (f_X15_subject E p1 h2) fun x49 h47 =>
    (cko h47 p1 14).bind fun _ =>
    bnd2 (f_X15_amount E p1 h47) fun x53 h51 =>
    (cko h51 p0 0).bind fun _ =>
    bnd2 (f_X1_pay E p0 x49 x53 h51) fun x57 h55 =>
    Sum.elim (fun x58 => (
      if (9223372036854775807 : Int64) < x58 then (
        f_X1_isPosted_b203 E (0 : Int32) h55
      ) else (
        f_X1_isPosted_b203 E (1 : Int32) h55
      )
    )) (fun q59 => (
      some (.inr q59, h55)
    )) x57
  ) else (
  if x4 = 3 then (
    (cko h2 p1 14).bind fun _ =>
    bnd2 (f_X15_subject E p1 h2) fun x65 h63 =>
    (cko h63 p1 14).bind fun _ =>
    bnd2 (f_X15_amount E p1 h63) fun x69 h67 =>
    (cko h67 p0 0).bind fun _ =>
    bnd2 (f_X1_grant E p0 x65 x69 h67) fun x73 h71 =>
    Sum.elim (fun x74 => (
      f_X1_isPosted_b203 E x74 h71
    )) (fun q75 => (
      some (.inr q75, h71)
    )) x73
  ) else (
  if x4 = 4 then (
    (cko h2 p1 14).bind fun _ =>
    bnd2 (f_X15_amount E p1 h2) fun x80 h78 =>
    (cko h78 p0 0).bind fun _ =>
    bnd2 (f_X1_campaign E p0 x80 h78) fun x84 h82 =>
    Sum.elim (fun x85 => (
      f_X1_isPosted_b203 E x85 h82
    )) (fun q86 => (
      some (.inr q86, h82)
    )) x84
  ) else (
  if x4 = 5 then (
    (cko h2 p1 14).bind fun _ =>
    bnd2 (f_X15_subject E p1 h2) fun x91 h89 =>
    (cko h89 p1 14).bind fun _ =>
    bnd2 (f_X15_x E p1 h89) fun x95 h93 =>
    (cko h93 p1 14).bind fun _ =>
    bnd2 (f_X15_y E p1 h93) fun x99 h97 =>
    if x99 = (1 : Int32) then (
      f_X1_isPosted_b177 E p0 x91 x95 (1 : Int32) h97
    ) else (
      f_X1_isPosted_b177 E p0 x91 x95 (0 : Int32) h97
    )
  ) else (
    (cko h2 p0 0).bind fun _ =>
    bnd2 (f_X1_closeMonth E p0 h2) fun x104 h102 =>
    Sum.elim (fun x105 => (
      if x105 ≤ 0 then (
        f_X1_isPosted_b203 E (0 : Int32) h102
      ) else (
        f_X1_isPosted_b203 E (1 : Int32) h102
      )
    )) (fun q106 => (
      some (.inr q106, h102)
    )) x104
  ))))))
theorem w_X1_isPosted_b0 (C0 : zCx p l e R s m args below meth c D B0 2 "FranchiseLedger" cX1_isPosted E 12 224 (Option.some Jvm.ClassFile.FieldType.boolean) "isPosted") (hno : ∀ x ∈ c.exceptionTable.toList, False) {r : (Int32 ⊕ (Nat × Nat))} {h' : zH} {p0 : Nat} {p1 : Nat} {h : zH} (hf : f_X1_isPosted_b0 E p0 p1 h = some (r, h')) : zW p l e R s m args below meth c D B0 2 (zEnd D B0 R below args s (zoT zoI r) h') h 0 [(0, .ref p0), (1, .ref p1)] [] := by
  unfold f_X1_isPosted_b0 at hf
  refine zr_aload_n C0 dX1_isPosted_0 rfl 1 rfl ?_
  obtain ⟨_, e1, hf⟩ := zbind hf
  obtain ⟨x4, h2, e3, hf⟩ := zbind2 hf
  refine zr_callV_r C0 cv_X1_378_X15 rfl (zcko e1) (m_X15_kind C0.2.2.2.2.2.2.1 e3) (by decide) (by decide) rfl rfl (Nat.le_of_ble_eq_true rfl) dX1_isPosted_1 rfl ?_
  rcases Decidable.em (x4 = 0) with c5 | c5
  · have hf := zif_t c5 hf
    refine zr_tableIn C0 (v := 0) (tgt := 44) dX1_isPosted_4 c5 (by decide) (by decide) rfl (by decide) ?_
    refine zr_aload_n C0 dX1_isPosted_44 rfl 0 rfl ?_
    refine zr_aload_n C0 dX1_isPosted_45 rfl 1 rfl ?_
    obtain ⟨_, e6, hf⟩ := zbind hf
    obtain ⟨x9, h7, e8, hf⟩ := zbind2 hf
    refine zr_callV_r C0 cv_X1_383_X15 rfl (zcko e6) (m_X15_subject C0.2.2.2.2.2.2.1 e8) (by decide) (by decide) rfl rfl (Nat.le_of_ble_eq_true rfl) dX1_isPosted_46 rfl ?_
    refine zr_aload_n C0 dX1_isPosted_49 rfl 1 rfl ?_
    obtain ⟨_, e10, hf⟩ := zbind hf
    obtain ⟨x13, h11, e12, hf⟩ := zbind2 hf
    refine zr_callV_r C0 cv_X1_386_X15 rfl (zcko e10) (m_X15_amount C0.2.2.2.2.2.2.1 e12) (by decide) (by decide) rfl rfl (Nat.le_of_ble_eq_true rfl) dX1_isPosted_50 rfl ?_
    obtain ⟨_, e14, hf⟩ := zbind hf
    obtain ⟨x17, h15, e16, hf⟩ := zbind2 hf
    rcases x17 with x18 | q19
    · have hf := zinl hf
      refine zr_callV_r C0 cv_X1_389_X1 rfl (zcko e14) (m_X1_reportSales C0.2.2.2.2.2.2.1 e16) (by decide) (by decide) rfl rfl (Nat.le_of_ble_eq_true rfl) dX1_isPosted_53 rfl ?_
      refine zr_lconst C0 (v := 0) dX1_isPosted_56 (by decide) ?_
      refine zr_lcmp C0 dX1_isPosted_57 ?_
      refine zr_if_lt C0 (tgt := 65) dX1_isPosted_58 (by decide) (fun c20 => ?_) (fun c20 => ?_)
      · have hf := zif_t (zl_lt.mp c20) hf
        refine zr_iconst C0 (v := 0) dX1_isPosted_65 (by decide) ?_
        refine zr_goto C0 (tgt := 203) dX1_isPosted_66 (by decide) ?_
        refine zr_sub [] rfl ?_
        exact w_X1_isPosted_b203 C0 hno hf
      · have hf := zif_f (zl_ltn.mp c20) hf
        refine zr_iconst C0 (v := 1) dX1_isPosted_61 (by decide) ?_
        refine zr_goto C0 (tgt := 203) dX1_isPosted_62 (by decide) ?_
        refine zr_sub [] rfl ?_
        exact w_X1_isPosted_b203 C0 hno hf
    · have hf := zinr hf
      refine zretW hf ?_
      exact zr_callV_t C0 cv_X1_389_X1 rfl (zcko e14) (m_X1_reportSales C0.2.2.2.2.2.2.1 e16) (by decide) (by decide) rfl rfl (Nat.le_of_ble_eq_true rfl) dX1_isPosted_53 (zr_out C0 hno rfl)
  have hf := zif_f c5 hf
  rcases Decidable.em (x4 = 1) with c21 | c21
  · have hf := zif_t c21 hf
    refine zr_tableIn C0 (v := 1) (tgt := 69) dX1_isPosted_4 c21 (by decide) (by decide) rfl (by decide) ?_
    refine zr_aload_n C0 dX1_isPosted_69 rfl 0 rfl ?_
    refine zr_aload_n C0 dX1_isPosted_70 rfl 1 rfl ?_
    obtain ⟨_, e22, hf⟩ := zbind hf
    obtain ⟨x25, h23, e24, hf⟩ := zbind2 hf
    refine zr_callV_r C0 cv_X1_383_X15 rfl (zcko e22) (m_X15_subject C0.2.2.2.2.2.2.1 e24) (by decide) (by decide) rfl rfl (Nat.le_of_ble_eq_true rfl) dX1_isPosted_71 rfl ?_
    refine zr_aload_n C0 dX1_isPosted_74 rfl 1 rfl ?_
    obtain ⟨_, e26, hf⟩ := zbind hf
    obtain ⟨x29, h27, e28, hf⟩ := zbind2 hf
    refine zr_callV_r C0 cv_X1_393_X15 rfl (zcko e26) (m_X15_x C0.2.2.2.2.2.2.1 e28) (by decide) (by decide) rfl rfl (Nat.le_of_ble_eq_true rfl) dX1_isPosted_75 rfl ?_
    refine zr_aload_n C0 dX1_isPosted_78 rfl 1 rfl ?_
    obtain ⟨_, e30, hf⟩ := zbind hf
    obtain ⟨x33, h31, e32, hf⟩ := zbind2 hf
    refine zr_callV_r C0 cv_X1_396_X15 rfl (zcko e30) (m_X15_y C0.2.2.2.2.2.2.1 e32) (by decide) (by decide) rfl rfl (Nat.le_of_ble_eq_true rfl) dX1_isPosted_79 rfl ?_
    refine zr_aload_n C0 dX1_isPosted_82 rfl 1 rfl ?_
    obtain ⟨_, e34, hf⟩ := zbind hf
    obtain ⟨x37, h35, e36, hf⟩ := zbind2 hf
    refine zr_callV_r C0 cv_X1_386_X15 rfl (zcko e34) (m_X15_amount C0.2.2.2.2.2.2.1 e36) (by decide) (by decide) rfl rfl (Nat.le_of_ble_eq_true rfl) dX1_isPosted_83 rfl ?_
    obtain ⟨_, e38, hf⟩ := zbind hf
    obtain ⟨x41, h39, e40, hf⟩ := zbind2 hf
    rcases x41 with x42 | q43
    · have hf := zinl hf
      refine zr_callV_r C0 cv_X1_399_X1 rfl (zcko e38) (m_X1_deliver C0.2.2.2.2.2.2.1 e40) (by decide) (by decide) rfl rfl (Nat.le_of_ble_eq_true rfl) dX1_isPosted_86 rfl ?_
      refine zr_lconst C0 (v := 0) dX1_isPosted_89 (by decide) ?_
      refine zr_lcmp C0 dX1_isPosted_90 ?_
      refine zr_if_lt C0 (tgt := 98) dX1_isPosted_91 (by decide) (fun c44 => ?_) (fun c44 => ?_)
      · have hf := zif_t (zl_lt.mp c44) hf
        refine zr_iconst C0 (v := 0) dX1_isPosted_98 (by decide) ?_
        refine zr_goto C0 (tgt := 203) dX1_isPosted_99 (by decide) ?_
        refine zr_sub [] rfl ?_
        exact w_X1_isPosted_b203 C0 hno hf
      · have hf := zif_f (zl_ltn.mp c44) hf
        refine zr_iconst C0 (v := 1) dX1_isPosted_94 (by decide) ?_
        refine zr_goto C0 (tgt := 203) dX1_isPosted_95 (by decide) ?_
        refine zr_sub [] rfl ?_
        exact w_X1_isPosted_b203 C0 hno hf
    · have hf := zinr hf
      refine zretW hf ?_
      exact zr_callV_t C0 cv_X1_399_X1 rfl (zcko e38) (m_X1_deliver C0.2.2.2.2.2.2.1 e40) (by decide) (by decide) rfl rfl (Nat.le_of_ble_eq_true rfl) dX1_isPosted_86 (zr_out C0 hno rfl)
  have hf := zif_f c21 hf
  rcases Decidable.em (x4 = 2) with c45 | c45
  · have hf := zif_t c45 hf
    refine zr_tableIn C0 (v := 2) (tgt := 102) dX1_isPosted_4 c45 (by decide) (by decide) rfl (by decide) ?_
    refine zr_aload_n C0 dX1_isPosted_102 rfl 0 rfl ?_
    refine zr_aload_n C0 dX1_isPosted_103 rfl 1 rfl ?_
    obtain ⟨_, e46, hf⟩ := zbind hf
    obtain ⟨x49, h47, e48, hf⟩ := zbind2 hf
    refine zr_callV_r C0 cv_X1_383_X15 rfl (zcko e46) (m_X15_subject C0.2.2.2.2.2.2.1 e48) (by decide) (by decide) rfl rfl (Nat.le_of_ble_eq_true rfl) dX1_isPosted_104 rfl ?_
    refine zr_aload_n C0 dX1_isPosted_107 rfl 1 rfl ?_
    obtain ⟨_, e50, hf⟩ := zbind hf
    obtain ⟨x53, h51, e52, hf⟩ := zbind2 hf
    refine zr_callV_r C0 cv_X1_386_X15 rfl (zcko e50) (m_X15_amount C0.2.2.2.2.2.2.1 e52) (by decide) (by decide) rfl rfl (Nat.le_of_ble_eq_true rfl) dX1_isPosted_108 rfl ?_
    obtain ⟨_, e54, hf⟩ := zbind hf
    obtain ⟨x57, h55, e56, hf⟩ := zbind2 hf
    rcases x57 with x58 | q59
    · have hf := zinl hf
      refine zr_callV_r C0 cv_X1_403_X1 rfl (zcko e54) (m_X1_pay C0.2.2.2.2.2.2.1 e56) (by decide) (by decide) rfl rfl (Nat.le_of_ble_eq_true rfl) dX1_isPosted_111 rfl ?_
      refine zr_ldc2 C0 (v := 9223372036854775807) q1894 dX1_isPosted_114 ?_
      refine zr_lcmp C0 dX1_isPosted_117 ?_
      refine zr_if_gt C0 (tgt := 125) dX1_isPosted_118 (by decide) (fun c60 => ?_) (fun c60 => ?_)
      · have hf := zif_t (zl_gt.mp c60) hf
        refine zr_iconst C0 (v := 0) dX1_isPosted_125 (by decide) ?_
        refine zr_goto C0 (tgt := 203) dX1_isPosted_126 (by decide) ?_
        refine zr_sub [] rfl ?_
        exact w_X1_isPosted_b203 C0 hno hf
      · have hf := zif_f (zl_gtn.mp c60) hf
        refine zr_iconst C0 (v := 1) dX1_isPosted_121 (by decide) ?_
        refine zr_goto C0 (tgt := 203) dX1_isPosted_122 (by decide) ?_
        refine zr_sub [] rfl ?_
        exact w_X1_isPosted_b203 C0 hno hf
    · have hf := zinr hf
      refine zretW hf ?_
      exact zr_callV_t C0 cv_X1_403_X1 rfl (zcko e54) (m_X1_pay C0.2.2.2.2.2.2.1 e56) (by decide) (by decide) rfl rfl (Nat.le_of_ble_eq_true rfl) dX1_isPosted_111 (zr_out C0 hno rfl)
  have hf := zif_f c45 hf
  rcases Decidable.em (x4 = 3) with c61 | c61
  · have hf := zif_t c61 hf
    refine zr_tableIn C0 (v := 3) (tgt := 129) dX1_isPosted_4 c61 (by decide) (by decide) rfl (by decide) ?_
    refine zr_aload_n C0 dX1_isPosted_129 rfl 0 rfl ?_
    refine zr_aload_n C0 dX1_isPosted_130 rfl 1 rfl ?_
    obtain ⟨_, e62, hf⟩ := zbind hf
    obtain ⟨x65, h63, e64, hf⟩ := zbind2 hf
    refine zr_callV_r C0 cv_X1_383_X15 rfl (zcko e62) (m_X15_subject C0.2.2.2.2.2.2.1 e64) (by decide) (by decide) rfl rfl (Nat.le_of_ble_eq_true rfl) dX1_isPosted_131 rfl ?_
    refine zr_aload_n C0 dX1_isPosted_134 rfl 1 rfl ?_
    obtain ⟨_, e66, hf⟩ := zbind hf
    obtain ⟨x69, h67, e68, hf⟩ := zbind2 hf
    refine zr_callV_r C0 cv_X1_386_X15 rfl (zcko e66) (m_X15_amount C0.2.2.2.2.2.2.1 e68) (by decide) (by decide) rfl rfl (Nat.le_of_ble_eq_true rfl) dX1_isPosted_135 rfl ?_
    obtain ⟨_, e70, hf⟩ := zbind hf
    obtain ⟨x73, h71, e72, hf⟩ := zbind2 hf
    rcases x73 with x74 | q75
    · have hf := zinl hf
      refine zr_callV_r C0 cv_X1_410_X1 rfl (zcko e70) (m_X1_grant C0.2.2.2.2.2.2.1 e72) (by decide) (by decide) rfl rfl (Nat.le_of_ble_eq_true rfl) dX1_isPosted_138 rfl ?_
      refine zr_goto C0 (tgt := 203) dX1_isPosted_141 (by decide) ?_
      refine zr_sub [] rfl ?_
      exact w_X1_isPosted_b203 C0 hno hf
    · have hf := zinr hf
      refine zretW hf ?_
      exact zr_callV_t C0 cv_X1_410_X1 rfl (zcko e70) (m_X1_grant C0.2.2.2.2.2.2.1 e72) (by decide) (by decide) rfl rfl (Nat.le_of_ble_eq_true rfl) dX1_isPosted_138 (zr_out C0 hno rfl)
  have hf := zif_f c61 hf
  rcases Decidable.em (x4 = 4) with c76 | c76
  · have hf := zif_t c76 hf
    refine zr_tableIn C0 (v := 4) (tgt := 144) dX1_isPosted_4 c76 (by decide) (by decide) rfl (by decide) ?_
    refine zr_aload_n C0 dX1_isPosted_144 rfl 0 rfl ?_
    refine zr_aload_n C0 dX1_isPosted_145 rfl 1 rfl ?_
    obtain ⟨_, e77, hf⟩ := zbind hf
    obtain ⟨x80, h78, e79, hf⟩ := zbind2 hf
    refine zr_callV_r C0 cv_X1_386_X15 rfl (zcko e77) (m_X15_amount C0.2.2.2.2.2.2.1 e79) (by decide) (by decide) rfl rfl (Nat.le_of_ble_eq_true rfl) dX1_isPosted_146 rfl ?_
    obtain ⟨_, e81, hf⟩ := zbind hf
    obtain ⟨x84, h82, e83, hf⟩ := zbind2 hf
    rcases x84 with x85 | q86
    · have hf := zinl hf
      refine zr_callV_r C0 cv_X1_414_X1 rfl (zcko e81) (m_X1_campaign C0.2.2.2.2.2.2.1 e83) (by decide) (by decide) rfl rfl (Nat.le_of_ble_eq_true rfl) dX1_isPosted_149 rfl ?_
      refine zr_goto C0 (tgt := 203) dX1_isPosted_152 (by decide) ?_
      refine zr_sub [] rfl ?_
      exact w_X1_isPosted_b203 C0 hno hf
    · have hf := zinr hf
      refine zretW hf ?_
      exact zr_callV_t C0 cv_X1_414_X1 rfl (zcko e81) (m_X1_campaign C0.2.2.2.2.2.2.1 e83) (by decide) (by decide) rfl rfl (Nat.le_of_ble_eq_true rfl) dX1_isPosted_149 (zr_out C0 hno rfl)
  have hf := zif_f c76 hf
  rcases Decidable.em (x4 = 5) with c87 | c87
  · have hf := zif_t c87 hf
    refine zr_tableIn C0 (v := 5) (tgt := 155) dX1_isPosted_4 c87 (by decide) (by decide) rfl (by decide) ?_
    refine zr_aload_n C0 dX1_isPosted_155 rfl 0 rfl ?_
    refine zr_aload_n C0 dX1_isPosted_156 rfl 1 rfl ?_
    obtain ⟨_, e88, hf⟩ := zbind hf
    obtain ⟨x91, h89, e90, hf⟩ := zbind2 hf
    refine zr_callV_r C0 cv_X1_383_X15 rfl (zcko e88) (m_X15_subject C0.2.2.2.2.2.2.1 e90) (by decide) (by decide) rfl rfl (Nat.le_of_ble_eq_true rfl) dX1_isPosted_157 rfl ?_
    refine zr_aload_n C0 dX1_isPosted_160 rfl 1 rfl ?_
    obtain ⟨_, e92, hf⟩ := zbind hf
    obtain ⟨x95, h93, e94, hf⟩ := zbind2 hf
    refine zr_callV_r C0 cv_X1_393_X15 rfl (zcko e92) (m_X15_x C0.2.2.2.2.2.2.1 e94) (by decide) (by decide) rfl rfl (Nat.le_of_ble_eq_true rfl) dX1_isPosted_161 rfl ?_
    refine zr_aload_n C0 dX1_isPosted_164 rfl 1 rfl ?_
    obtain ⟨_, e96, hf⟩ := zbind hf
    obtain ⟨x99, h97, e98, hf⟩ := zbind2 hf
    refine zr_callV_r C0 cv_X1_396_X15 rfl (zcko e96) (m_X15_y C0.2.2.2.2.2.2.1 e98) (by decide) (by decide) rfl rfl (Nat.le_of_ble_eq_true rfl) dX1_isPosted_165 rfl ?_
    refine zr_iconst C0 (v := 1) dX1_isPosted_168 (by decide) ?_
    refine zr_icmp_ne C0 (tgt := 176) dX1_isPosted_169 (by decide) (fun c100 => ?_) (fun c100 => ?_)
    · have hf := zif_f c100 hf
      refine zr_iconst C0 (v := 0) dX1_isPosted_176 (by decide) ?_
      refine zr_sub [] rfl ?_
      exact w_X1_isPosted_b177 C0 hno hf
    · have hf := zif_t c100 hf
      refine zr_iconst C0 (v := 1) dX1_isPosted_172 (by decide) ?_
      refine zr_goto C0 (tgt := 177) dX1_isPosted_173 (by decide) ?_
      refine zr_sub [] rfl ?_
      exact w_X1_isPosted_b177 C0 hno hf
  have hf := zif_f c87 hf
  refine zr_tableOut C0 (tgt := 191) dX1_isPosted_4 ?_ (by decide) ?_
  · have n0 := lv_neT (a := 0) c5 rfl; have n1 := lv_neT (a := 1) c21 rfl; have n2 := lv_neT (a := 2) c45 rfl; have n3 := lv_neT (a := 3) c61 rfl; have n4 := lv_neT (a := 4) c76 rfl; have n5 := lv_neT (a := 5) c87 rfl; omega
  refine zr_aload_n C0 dX1_isPosted_191 rfl 0 rfl ?_
  obtain ⟨_, e101, hf⟩ := zbind hf
  obtain ⟨x104, h102, e103, hf⟩ := zbind2 hf
  rcases x104 with x105 | q106
  · have hf := zinl hf
    refine zr_callV_r C0 cv_X1_419_X1 rfl (zcko e101) (m_X1_closeMonth C0.2.2.2.2.2.2.1 e103) (by decide) (by decide) rfl rfl (Nat.le_of_ble_eq_true rfl) dX1_isPosted_192 rfl ?_
    refine zr_if_le C0 (tgt := 202) dX1_isPosted_195 (by decide) (fun c107 => ?_) (fun c107 => ?_)
    · have hf := zif_t c107 hf
      refine zr_iconst C0 (v := 0) dX1_isPosted_202 (by decide) ?_
      refine zr_sub [] rfl ?_
      exact w_X1_isPosted_b203 C0 hno hf
    · have hf := zif_f c107 hf
      refine zr_iconst C0 (v := 1) dX1_isPosted_198 (by decide) ?_
      refine zr_goto C0 (tgt := 203) dX1_isPosted_199 (by decide) ?_
      refine zr_sub [] rfl ?_
      exact w_X1_isPosted_b203 C0 hno hf
  · have hf := zinr hf
    refine zretW hf ?_
    exact zr_callV_t C0 cv_X1_419_X1 rfl (zcko e101) (m_X1_closeMonth C0.2.2.2.2.2.2.1 e103) (by decide) (by decide) rfl rfl (Nat.le_of_ble_eq_true rfl) dX1_isPosted_192 (zr_out C0 hno rfl)
def f_X1_isPosted (E : zE) (p0 : Nat) (p1 : Nat) (h : zH) : Option ((Int32 ⊕ (Nat × Nat)) × zH) := f_X1_isPosted_b0 E p0 p1 h
theorem m_X1_isPosted {l : Launch} (hst : l.stackTraces = false) {D : zD} {B0 : Nat} {E : zE} {p0 : Nat} {p1 : Nat} {h h' : zH} {r : (Int32 ⊕ (Nat × Nat))} (hf : f_X1_isPosted E p0 p1 h = some (r, h')) : zMet l yX1_isPosted (ws_ yX1_isPosted cX1_isPosted 2 (Option.some Jvm.ClassFile.FieldType.boolean)) 12 224 D B0 E [.ref p0, .ref p1] h (zoT zoI r) h' := by
  unfold f_X1_isPosted at hf
  refine zMet_of hst (by decide +kernel) rfl rfl (Nat.le_of_ble_eq_true rfl) (fun p e R s m below meth c C0 hno => ?_)
  show zW _ _ _ _ _ _ _ _ _ _ _ _ _ _ _ _ [(0, .ref p0), (1, .ref p1)] []
  exact w_X1_isPosted_b0 C0 hno hf
def f_X1_succeeds_b6 (E : zE) (s0 : Nat) (h : zH) : Option (Int32 × zH) :=
  some ((0 : Int32), h)
theorem w_X1_succeeds_b6 (C0 : zCx p l e R s m args below meth c D B0 3 "FranchiseLedger" cX1_succeeds E 13 245 (Option.some Jvm.ClassFile.FieldType.boolean) "succeeds") (ht : c.exceptionTable.toList = tableOf [((0 : Nat), (5 : Nat), (6 : Nat), (3 : Nat)), ((0 : Nat), (5 : Nat), (6 : Nat), (9 : Nat)), ((0 : Nat), (5 : Nat), (6 : Nat), (114 : Nat))]) {r : Int32} {h' : zH} {s0 : Nat} {h : zH} (hf : f_X1_succeeds_b6 E s0 h = some (r, h')) : zW p l e R s m args below meth c D B0 3 (zEnd D B0 R below args s (zoI r) h') h 6 [] [.ref s0] := by
  unfold f_X1_succeeds_b6 at hf
  refine zr_astore_n (i := 2) (lv' := [(2, .ref s0)]) C0 dX1_succeeds_6 rfl (by decide) (by first | rfl | simp [zst1, zst2, zcat_rf]) ?_
  refine zr_iconst C0 (v := 0) dX1_succeeds_7 (by decide) ?_
  refine zretW hf ?_
  exact zr_iret C0 (ty := .boolean) rfl (by decide) dX1_succeeds_8 rfl
def f_X1_succeeds_b0 (E : zE) (p0 : Nat) (p1 : Nat) (h : zH) : Option (Int32 × zH) :=
  (cko h p0 0).bind fun _ =>
  bnd2 (f_X1_isPosted E p0 p1 h) fun x4 h2 =>
  Sum.elim (fun x5 => (
    (zgd .boolean x5).bind fun _ =>
    some (x5, h2)
  )) (fun q6 => (
    if q6.1 = 20 then (
      f_X1_succeeds_b6 E q6.2 h2
    ) else (
    if q6.1 = 21 then (
      f_X1_succeeds_b6 E q6.2 h2
    ) else (
    if q6.1 = 22 then (
      f_X1_succeeds_b6 E q6.2 h2
    ) else (
    none
    )))
  )) x4
theorem w_X1_succeeds_b0 (C0 : zCx p l e R s m args below meth c D B0 3 "FranchiseLedger" cX1_succeeds E 13 245 (Option.some Jvm.ClassFile.FieldType.boolean) "succeeds") (ht : c.exceptionTable.toList = tableOf [((0 : Nat), (5 : Nat), (6 : Nat), (3 : Nat)), ((0 : Nat), (5 : Nat), (6 : Nat), (9 : Nat)), ((0 : Nat), (5 : Nat), (6 : Nat), (114 : Nat))]) {r : Int32} {h' : zH} {p0 : Nat} {p1 : Nat} {h : zH} (hf : f_X1_succeeds_b0 E p0 p1 h = some (r, h')) : zW p l e R s m args below meth c D B0 3 (zEnd D B0 R below args s (zoI r) h') h 0 [(0, .ref p0), (1, .ref p1)] [] := by
  unfold f_X1_succeeds_b0 at hf
  refine zr_aload_n C0 dX1_succeeds_0 rfl 0 rfl ?_
  refine zr_aload_n C0 dX1_succeeds_1 rfl 1 rfl ?_
  obtain ⟨_, e1, hf⟩ := zbind hf
  obtain ⟨x4, h2, e3, hf⟩ := zbind2 hf
  rcases x4 with x5 | q6
  · have hf := zinl hf
    refine zr_callV_r C0 cv_X1_422_X1 rfl (zcko e1) (m_X1_isPosted C0.2.2.2.2.2.2.1 e3) (by decide) (by decide) rfl rfl (Nat.le_of_ble_eq_true rfl) dX1_succeeds_2 rfl ?_
    obtain ⟨_, e7, hf⟩ := zbind hf
    refine zretW hf ?_
    exact zr_iret C0 (ty := .boolean) rfl (zgd_n e7) dX1_succeeds_5 rfl
  · have hf := zinr hf
    rcases Decidable.em (q6.1 = 20) with c8 | c8
    · obtain ⟨q1, q2⟩ := q6
      subst c8
      have hf := zif_t rfl hf
      refine zr_callV_t C0 cv_X1_422_X1 rfl (zcko e1) (m_X1_isPosted C0.2.2.2.2.2.2.1 e3) (by decide) (by decide) rfl rfl (Nat.le_of_ble_eq_true rfl) dX1_succeeds_2 (zr_catch C0 (tableOf []) ⟨0, 5, 6, 3⟩ (tableOf [(0, 5, 6, 9), (0, 5, 6, 114)]) (by rw [ht]; rfl) rfl (fun z hz => by cases hz) (by decide) (by decide) q1786 q787 ?_)
      refine zr_sub [] rfl ?_
      exact w_X1_succeeds_b6 C0 ht hf
    have hf := zif_f c8 hf
    rcases Decidable.em (q6.1 = 21) with c9 | c9
    · obtain ⟨q1, q2⟩ := q6
      subst c9
      have hf := zif_t rfl hf
      refine zr_callV_t C0 cv_X1_422_X1 rfl (zcko e1) (m_X1_isPosted C0.2.2.2.2.2.2.1 e3) (by decide) (by decide) rfl rfl (Nat.le_of_ble_eq_true rfl) dX1_succeeds_2 (zr_catch C0 (tableOf [(0, 5, 6, 3)]) ⟨0, 5, 6, 9⟩ (tableOf [(0, 5, 6, 114)]) (by rw [ht]; rfl) rfl (show ∀ z ∈ tableOf [(0, 5, 6, 3)], _ from (List.forall_mem_cons.mpr ⟨Or.inr ⟨by decide, "java/lang/IndexOutOfBoundsException", q1786, by decide +kernel⟩, (List.forall_mem_nil _)⟩)) (by decide) (by decide) q1752 q208 ?_)
      refine zr_sub [] rfl ?_
      exact w_X1_succeeds_b6 C0 ht hf
    have hf := zif_f c9 hf
    rcases Decidable.em (q6.1 = 22) with c10 | c10
    · obtain ⟨q1, q2⟩ := q6
      subst c10
      have hf := zif_t rfl hf
      refine zr_callV_t C0 cv_X1_422_X1 rfl (zcko e1) (m_X1_isPosted C0.2.2.2.2.2.2.1 e3) (by decide) (by decide) rfl rfl (Nat.le_of_ble_eq_true rfl) dX1_succeeds_2 (zr_catch C0 (tableOf [(0, 5, 6, 3), (0, 5, 6, 9)]) ⟨0, 5, 6, 114⟩ (tableOf []) (by rw [ht]; rfl) rfl (show ∀ z ∈ tableOf [(0, 5, 6, 3), (0, 5, 6, 9)], _ from (List.forall_mem_cons.mpr ⟨Or.inr ⟨by decide, "java/lang/IndexOutOfBoundsException", q1786, by decide +kernel⟩, (List.forall_mem_cons.mpr ⟨Or.inr ⟨by decide, "java/lang/IllegalArgumentException", q1752, by decide +kernel⟩, (List.forall_mem_nil _)⟩)⟩)) (by decide) (by decide) q1802 q1841 ?_)
      refine zr_sub [] rfl ?_
      exact w_X1_succeeds_b6 C0 ht hf
    have hf := zif_f c10 hf
    cases hf
def f_X1_succeeds (E : zE) (p0 : Nat) (p1 : Nat) (h : zH) : Option (Int32 × zH) := f_X1_succeeds_b0 E p0 p1 h
theorem m_X1_succeeds {l : Launch} (hst : l.stackTraces = false) {D : zD} {B0 : Nat} {E : zE} {p0 : Nat} {p1 : Nat} {h h' : zH} {r : Int32} (hf : f_X1_succeeds E p0 p1 h = some (r, h')) : zMet l yX1_succeeds (wsW_ yX1_succeeds cX1_succeeds 3 (Option.some Jvm.ClassFile.FieldType.boolean) [((0 : Nat), (5 : Nat), (6 : Nat), (3 : Nat)), ((0 : Nat), (5 : Nat), (6 : Nat), (9 : Nat)), ((0 : Nat), (5 : Nat), (6 : Nat), (114 : Nat))]) 13 245 D B0 E [.ref p0, .ref p1] h (zoI r) h' := by
  unfold f_X1_succeeds at hf
  refine zMet_ofH hst (by decide +kernel) rfl rfl (Nat.le_of_ble_eq_true rfl) (fun p e R s m below meth c C0 ht => ?_)
  show zW _ _ _ _ _ _ _ _ _ _ _ _ _ _ _ _ [(0, .ref p0), (1, .ref p1)] []
  exact w_X1_succeeds_b0 C0 ht hf
def f_X1_runJournal_b68 (E : zE) (p2 : Int32) (h : zH) : Option ((Int32 ⊕ (Nat × Nat)) × zH) :=
  some (.inl p2, h)
theorem w_X1_runJournal_b68 (C0 : zCx p l e R s m args below meth c D B0 4 "FranchiseLedger" cX1_runJournal E 14 267 (Option.some Jvm.ClassFile.FieldType.int) "runJournal") (hno : ∀ x ∈ c.exceptionTable.toList, False) {r : (Int32 ⊕ (Nat × Nat))} {h' : zH} {p2 : Int32} {h : zH} (hf : f_X1_runJournal_b68 E p2 h = some (r, h')) : zW p l e R s m args below meth c D B0 4 (zEnd D B0 R below args s (zoT zoI r) h') h 68 [(2, .int p2)] [] := by
  unfold f_X1_runJournal_b68 at hf
  refine zr_iload_n C0 dX1_runJournal_68 rfl 0 rfl ?_
  refine zretW hf ?_
  exact zr_iret C0 (ty := .int) rfl rfl dX1_runJournal_69 rfl
def f_X1_runJournal_b60 (E : zE) (k22 : Nat → Int32 → Int32 → Int32 → zH → Option ((Int32 ⊕ (Nat × Nat)) × zH)) (p0 : Nat) (p1 : Int32) (p3 : Int32) (s0 : Int32) (s1 : Int32) (h : zH) : Option ((Int32 ⊕ (Nat × Nat)) × zH) :=
  k22 p0 p1 (s0 + s1) (p3 + 1) h
theorem w_X1_runJournal_b60 (C0 : zCx p l e R s m args below meth c D B0 4 "FranchiseLedger" cX1_runJournal E 14 267 (Option.some Jvm.ClassFile.FieldType.int) "runJournal") (hno : ∀ x ∈ c.exceptionTable.toList, False) {r : (Int32 ⊕ (Nat × Nat))} {h' : zH} {k22 : Nat → Int32 → Int32 → Int32 → zH → Option ((Int32 ⊕ (Nat × Nat)) × zH)} (hk22 : ∀ (p0 : Nat) (p1 : Int32) (p2 : Int32) (p3 : Int32) (h : zH), k22 p0 p1 p2 p3 h = some (r, h') → zW p l e R s m args below meth c D B0 4 (zEnd D B0 R below args s (zoT zoI r) h') h 22 [(0, .ref p0), (1, .int p1), (2, .int p2), (3, .int p3)] []) {p0 : Nat} {p1 : Int32} {p3 : Int32} {s0 : Int32} {s1 : Int32} {h : zH} (hf : f_X1_runJournal_b60 E k22 p0 p1 p3 s0 s1 h = some (r, h')) : zW p l e R s m args below meth c D B0 4 (zEnd D B0 R below args s (zoT zoI r) h') h 60 [(0, .ref p0), (1, .int p1), (3, .int p3)] [.int s1, .int s0] := by
  unfold f_X1_runJournal_b60 at hf
  refine zr_iadd C0 dX1_runJournal_60 ?_
  refine zr_istore_n (i := 2) (lv' := [(2, .int (s0 + s1)), (0, .ref p0), (1, .int p1), (3, .int p3)]) C0 dX1_runJournal_61 rfl (by decide) (by first | rfl | simp [zst1, zst2, zcat_rf]) ?_
  refine zr_iinc (lv' := [(3, .int (p3 + 1)), (2, .int (s0 + s1)), (0, .ref p0), (1, .int p1)]) C0 dX1_runJournal_62 3 rfl rfl (by decide) (by first | rfl | simp [zst1, zst2, zcat_rf]) ?_
  refine zr_goto C0 (tgt := 22) dX1_runJournal_65 (by decide) ?_
  refine zr_sub [2, 3, 1, 0] rfl ?_
  exact hk22 _ _ _ _ _ hf
def f_X1_runJournal_l22 (E : zE) : Nat → Nat → Int32 → Int32 → Int32 → zH → Option ((Int32 ⊕ (Nat × Nat)) × zH)
  | 0, _, _, _, _, _ => none
  | n + 1, p0, p1, p2, p3, h =>
    if p1 ≤ p3 then (
      f_X1_runJournal_b68 E p2 h
    ) else (
      (gR h p0 0 4).bind fun x2 =>
      (cko h x2 16).bind fun _ =>
      bnd2 (f_J0_isEmpty_J19 E x2 h) fun x7 h5 =>
      if x7 = 0 then (
        (gR h5 p0 0 4).bind fun x9 =>
        (cko h5 x9 16).bind fun _ =>
        bnd2 (f_J19_removeFirst E x9 h5) fun x14 h12 =>
        (cko h12 x14 14).bind fun _ =>
        (cko h12 p0 0).bind fun _ =>
        bnd2 (f_X1_succeeds E p0 x14 h12) fun x19 h17 =>
        if x19 = 0 then (
          f_X1_runJournal_b60 E (f_X1_runJournal_l22 E n) p0 p1 p3 p2 (0 : Int32) h17
        ) else (
          f_X1_runJournal_b60 E (f_X1_runJournal_l22 E n) p0 p1 p3 p2 (1 : Int32) h17
        )
      ) else (
        f_X1_runJournal_b68 E p2 h5
      )
    )
theorem w_X1_runJournal_l22 (C0 : zCx p l e R s m args below meth c D B0 4 "FranchiseLedger" cX1_runJournal E 14 267 (Option.some Jvm.ClassFile.FieldType.int) "runJournal") (hno : ∀ x ∈ c.exceptionTable.toList, False) {r : (Int32 ⊕ (Nat × Nat))} {h' : zH} : ∀ (n : Nat) (p0 : Nat) (p1 : Int32) (p2 : Int32) (p3 : Int32) (h : zH), f_X1_runJournal_l22 E n p0 p1 p2 p3 h = some (r, h') → zW p l e R s m args below meth c D B0 4 (zEnd D B0 R below args s (zoT zoI r) h') h 22 [(0, .ref p0), (1, .int p1), (2, .int p2), (3, .int p3)] [] := by
  intro n
  induction n with
  | zero =>
    intro p0 p1 p2 p3 h hf
    unfold f_X1_runJournal_l22 at hf
    cases hf
  | succ n ih =>
    intro p0 p1 p2 p3 h hf
    unfold f_X1_runJournal_l22 at hf
    refine zr_iload_n C0 dX1_runJournal_22 rfl 3 rfl ?_
    refine zr_iload_n C0 dX1_runJournal_23 rfl 1 rfl ?_
    refine zr_icmp_ge C0 (tgt := 68) dX1_runJournal_24 (by decide) (fun c1 => ?_) (fun c1 => ?_)
    · have hf := zif_t c1 hf
      refine zr_sub [2] rfl ?_
      exact w_X1_runJournal_b68 C0 hno hf
    · have hf := zif_f c1 hf
      refine zr_aload_n C0 dX1_runJournal_27 rfl 0 rfl ?_
      obtain ⟨x2, e3, hf⟩ := zbind hf
      refine zr_get C0 fl_X1_54_X1 dX1_runJournal_28 (zgR e3) ?_
      obtain ⟨_, e4, hf⟩ := zbind hf
      obtain ⟨x7, h5, e6, hf⟩ := zbind2 hf
      refine zr_callU_r C0 cv_X1_428_J19 rfl (zcko e4) (m_J0_isEmpty_J19 C0.2.2.2.2.2.2.1 e6) (by decide) (by decide) rfl rfl (Nat.le_of_ble_eq_true rfl) dX1_runJournal_31 rfl ?_
      refine zr_if_ne C0 (tgt := 68) dX1_runJournal_34 (by decide) (fun c8 => ?_) (fun c8 => ?_)
      · have hf := zif_f c8 hf
        refine zr_sub [2] rfl ?_
        exact w_X1_runJournal_b68 C0 hno hf
      · have hf := zif_t c8 hf
        refine zr_iload_n C0 dX1_runJournal_37 rfl 2 rfl ?_
        refine zr_aload_n C0 dX1_runJournal_38 rfl 0 rfl ?_
        refine zr_aload_n C0 dX1_runJournal_39 rfl 0 rfl ?_
        obtain ⟨x9, e10, hf⟩ := zbind hf
        refine zr_get C0 fl_X1_54_X1 dX1_runJournal_40 (zgR e10) ?_
        obtain ⟨_, e11, hf⟩ := zbind hf
        obtain ⟨x14, h12, e13, hf⟩ := zbind2 hf
        refine zr_callV_r C0 cv_X1_431_J19 rfl (zcko e11) (m_J19_removeFirst C0.2.2.2.2.2.2.1 e13) (by decide) (by decide) rfl rfl (Nat.le_of_ble_eq_true rfl) dX1_runJournal_43 rfl ?_
        obtain ⟨_, e15, hf⟩ := zbind hf
        refine zr_castS C0 (ci := 14) rfl (zcko e15) q1600 dX1_runJournal_46 ?_
        obtain ⟨_, e16, hf⟩ := zbind hf
        obtain ⟨x19, h17, e18, hf⟩ := zbind2 hf
        refine zr_callVX_r C0 cv_X1_435_X1 rfl (zcko e16) (m_X1_succeeds C0.2.2.2.2.2.2.1 e18) (by decide) (by decide) rfl rfl (Nat.le_of_ble_eq_true rfl) dX1_runJournal_49 rfl ?_
        refine zr_if_eq C0 (tgt := 59) dX1_runJournal_52 (by decide) (fun c20 => ?_) (fun c20 => ?_)
        · have hf := zif_t c20 hf
          refine zr_iconst C0 (v := 0) dX1_runJournal_59 (by decide) ?_
          refine zr_sub [0, 1, 3] rfl ?_
          exact w_X1_runJournal_b60 C0 hno ih hf
        · have hf := zif_f c20 hf
          refine zr_iconst C0 (v := 1) dX1_runJournal_55 (by decide) ?_
          refine zr_goto C0 (tgt := 60) dX1_runJournal_56 (by decide) ?_
          refine zr_sub [0, 1, 3] rfl ?_
          exact w_X1_runJournal_b60 C0 hno ih hf
def f_X1_runJournal_b0 (E : zE) (p0 : Nat) (p1 : Int32) (h : zH) : Option ((Int32 ⊕ (Nat × Nat)) × zH) :=
  bnd2 (nA h 3 (1 : Int32) (.inl fun _ => 0)) fun q1 h2 =>
  bnd2 (f_X1_inRange E (p1.toInt64) (1 : Int64) (40 : Int64) h2) fun x6 h4 =>
  (zgd .boolean x6).bind fun _ =>
  (sI h4 q1 3 (0 : Int32) x6).bind fun h8 =>
  bnd2 (f_X1_requireArguments E q1 h8) fun x12 h10 =>
  Sum.elim (fun x13 => (
    f_X1_runJournal_l22 E E.1 p0 p1 (0 : Int32) (0 : Int32) h10
  )) (fun q14 => (
    some (.inr q14, h10)
  )) x12
theorem w_X1_runJournal_b0 (C0 : zCx p l e R s m args below meth c D B0 4 "FranchiseLedger" cX1_runJournal E 14 267 (Option.some Jvm.ClassFile.FieldType.int) "runJournal") (hno : ∀ x ∈ c.exceptionTable.toList, False) {r : (Int32 ⊕ (Nat × Nat))} {h' : zH} {p0 : Nat} {p1 : Int32} {h : zH} (hf : f_X1_runJournal_b0 E p0 p1 h = some (r, h')) : zW p l e R s m args below meth c D B0 4 (zEnd D B0 R below args s (zoT zoI r) h') h 0 [(0, .ref p0), (1, .int p1)] [] := by
  unfold f_X1_runJournal_b0 at hf
  refine zr_iconst C0 (v := 1) dX1_runJournal_0 (by decide) ?_
  obtain ⟨q1, h2, e3, hf⟩ := zbind2 hf
  refine zr_newa C0 (atype := .boolean) (t := 3) q627 rfl (by decide) (fun _ => rfl) dX1_runJournal_1 e3 ?_
  refine zr_dup C0 dX1_runJournal_3 rfl ?_
  refine zr_iconst C0 (v := 0) dX1_runJournal_4 (by decide) ?_
  refine zr_iload_n C0 dX1_runJournal_5 rfl 1 rfl ?_
  refine zr_i2l C0 dX1_runJournal_6 ?_
  refine zr_lconst C0 (v := 1) dX1_runJournal_7 (by decide) ?_
  refine zr_ldc2 C0 (v := 40) q1748 dX1_runJournal_8 ?_
  obtain ⟨x6, h4, e5, hf⟩ := zbind2 hf
  refine zr_callS_r C0 cv_X1_84 (m_X1_inRange C0.2.2.2.2.2.2.1 e5) (by decide) (by decide) rfl rfl (Nat.le_of_ble_eq_true rfl) dX1_runJournal_11 rfl ?_
  obtain ⟨_, e7, hf⟩ := zbind hf
  obtain ⟨h8, e9, hf⟩ := zbind hf
  refine zr_zast C0 dX1_runJournal_14 (zgd_b e7) e9 ?_
  obtain ⟨x12, h10, e11, hf⟩ := zbind2 hf
  rcases x12 with x13 | q14
  · have hf := zinl hf
    refine zr_callS_r C0 cv_X1_168 (m_X1_requireArguments C0.2.2.2.2.2.2.1 e11) (by decide) (by decide) rfl rfl (Nat.le_of_ble_eq_true rfl) dX1_runJournal_15 rfl ?_
    refine zr_iconst C0 (v := 0) dX1_runJournal_18 (by decide) ?_
    refine zr_istore_n (i := 2) (lv' := [(2, .int (0 : Int32)), (0, .ref p0), (1, .int p1)]) C0 dX1_runJournal_19 rfl (by decide) (by first | rfl | simp [zst1, zst2, zcat_rf]) ?_
    refine zr_iconst C0 (v := 0) dX1_runJournal_20 (by decide) ?_
    refine zr_istore_n (i := 3) (lv' := [(3, .int (0 : Int32)), (2, .int (0 : Int32)), (0, .ref p0), (1, .int p1)]) C0 dX1_runJournal_21 rfl (by decide) (by first | rfl | simp [zst1, zst2, zcat_rf]) ?_
    refine zr_sub [2, 3, 1, 0] rfl ?_
    exact w_X1_runJournal_l22 C0 hno _ _ _ _ _ _ hf
  · have hf := zinr hf
    refine zretW hf ?_
    exact zr_callS_t C0 cv_X1_168 (m_X1_requireArguments C0.2.2.2.2.2.2.1 e11) (by decide) (by decide) rfl rfl (Nat.le_of_ble_eq_true rfl) dX1_runJournal_15 (zr_out C0 hno rfl)
def f_X1_runJournal (E : zE) (p0 : Nat) (p1 : Int32) (h : zH) : Option ((Int32 ⊕ (Nat × Nat)) × zH) := f_X1_runJournal_b0 E p0 p1 h
theorem m_X1_runJournal {l : Launch} (hst : l.stackTraces = false) {D : zD} {B0 : Nat} {E : zE} {p0 : Nat} {p1 : Int32} {h h' : zH} {r : (Int32 ⊕ (Nat × Nat))} (hf : f_X1_runJournal E p0 p1 h = some (r, h')) : zMet l yX1_runJournal (ws_ yX1_runJournal cX1_runJournal 4 (Option.some Jvm.ClassFile.FieldType.int)) 14 267 D B0 E [.ref p0, .int p1] h (zoT zoI r) h' := by
  unfold f_X1_runJournal at hf
  refine zMet_of hst (by decide +kernel) rfl rfl (Nat.le_of_ble_eq_true rfl) (fun p e R s m below meth c C0 hno => ?_)
  show zW _ _ _ _ _ _ _ _ _ _ _ _ _ _ _ _ [(0, .ref p0), (1, .int p1)] []
  exact w_X1_runJournal_b0 C0 hno hf
def f_X1_owner_b0 (E : zE) (p0 : Nat) (p1 : Int32) (p2 : Int32) (h : zH) : Option ((Int32 ⊕ (Nat × Nat)) × zH) :=
  bnd2 (nA h 3 (1 : Int32) (.inl fun _ => 0)) fun q1 h2 =>
  bnd2 (f_X1_isPlace E p1 p2 h2) fun x6 h4 =>
  (zgd .boolean x6).bind fun _ =>
  (sI h4 q1 3 (0 : Int32) x6).bind fun h8 =>
  bnd2 (f_X1_requireArguments E q1 h8) fun x12 h10 =>
  Sum.elim (fun x13 => (
    (gR h10 p0 0 1).bind fun x15 =>
    (gR h10 x15 4 2).bind fun x17 =>
    (gR h10 x17 5 0).bind fun x19 =>
    bnd2 (f_X1_cell E p1 p2 h10) fun x23 h21 =>
    (dI h21 x19 2 x23).bind fun x24 =>
    some (.inl x24, h21)
  )) (fun q14 => (
    some (.inr q14, h10)
  )) x12
theorem w_X1_owner_b0 (C0 : zCx p l e R s m args below meth c D B0 3 "FranchiseLedger" cX1_owner E 10 154 (Option.some Jvm.ClassFile.FieldType.int) "owner") (hno : ∀ x ∈ c.exceptionTable.toList, False) {r : (Int32 ⊕ (Nat × Nat))} {h' : zH} {p0 : Nat} {p1 : Int32} {p2 : Int32} {h : zH} (hf : f_X1_owner_b0 E p0 p1 p2 h = some (r, h')) : zW p l e R s m args below meth c D B0 3 (zEnd D B0 R below args s (zoT zoI r) h') h 0 [(0, .ref p0), (1, .int p1), (2, .int p2)] [] := by
  unfold f_X1_owner_b0 at hf
  refine zr_iconst C0 (v := 1) dX1_owner_0 (by decide) ?_
  obtain ⟨q1, h2, e3, hf⟩ := zbind2 hf
  refine zr_newa C0 (atype := .boolean) (t := 3) q627 rfl (by decide) (fun _ => rfl) dX1_owner_1 e3 ?_
  refine zr_dup C0 dX1_owner_3 rfl ?_
  refine zr_iconst C0 (v := 0) dX1_owner_4 (by decide) ?_
  refine zr_iload_n C0 dX1_owner_5 rfl 1 rfl ?_
  refine zr_iload_n C0 dX1_owner_6 rfl 2 rfl ?_
  obtain ⟨x6, h4, e5, hf⟩ := zbind2 hf
  refine zr_callS_r C0 cv_X1_164 (m_X1_isPlace C0.2.2.2.2.2.2.1 e5) (by decide) (by decide) rfl rfl (Nat.le_of_ble_eq_true rfl) dX1_owner_7 rfl ?_
  obtain ⟨_, e7, hf⟩ := zbind hf
  obtain ⟨h8, e9, hf⟩ := zbind hf
  refine zr_zast C0 dX1_owner_10 (zgd_b e7) e9 ?_
  obtain ⟨x12, h10, e11, hf⟩ := zbind2 hf
  rcases x12 with x13 | q14
  · have hf := zinl hf
    refine zr_callS_r C0 cv_X1_168 (m_X1_requireArguments C0.2.2.2.2.2.2.1 e11) (by decide) (by decide) rfl rfl (Nat.le_of_ble_eq_true rfl) dX1_owner_11 rfl ?_
    refine zr_aload_n C0 dX1_owner_14 rfl 0 rfl ?_
    obtain ⟨x15, e16, hf⟩ := zbind hf
    refine zr_get C0 fl_X1_39_X1 dX1_owner_15 (zgR e16) ?_
    obtain ⟨x17, e18, hf⟩ := zbind hf
    refine zr_get C0 fl_X1_171_X4 dX1_owner_18 (zgR e18) ?_
    obtain ⟨x19, e20, hf⟩ := zbind hf
    refine zr_get C0 fl_X1_175_X5 dX1_owner_21 (zgR e20) ?_
    refine zr_iload_n C0 dX1_owner_24 rfl 1 rfl ?_
    refine zr_iload_n C0 dX1_owner_25 rfl 2 rfl ?_
    obtain ⟨x23, h21, e22, hf⟩ := zbind2 hf
    refine zr_callS_r C0 cv_X1_180 (m_X1_cell C0.2.2.2.2.2.2.1 e22) (by decide) (by decide) rfl rfl (Nat.le_of_ble_eq_true rfl) dX1_owner_26 rfl ?_
    obtain ⟨x24, e25, hf⟩ := zbind hf
    refine zr_bald C0 dX1_owner_29 e25 ?_
    refine zretW hf ?_
    exact zr_iret C0 (ty := .int) rfl rfl dX1_owner_30 rfl
  · have hf := zinr hf
    refine zretW hf ?_
    exact zr_callS_t C0 cv_X1_168 (m_X1_requireArguments C0.2.2.2.2.2.2.1 e11) (by decide) (by decide) rfl rfl (Nat.le_of_ble_eq_true rfl) dX1_owner_11 (zr_out C0 hno rfl)
def f_X1_owner (E : zE) (p0 : Nat) (p1 : Int32) (p2 : Int32) (h : zH) : Option ((Int32 ⊕ (Nat × Nat)) × zH) := f_X1_owner_b0 E p0 p1 p2 h
theorem m_X1_owner {l : Launch} (hst : l.stackTraces = false) {D : zD} {B0 : Nat} {E : zE} {p0 : Nat} {p1 : Int32} {p2 : Int32} {h h' : zH} {r : (Int32 ⊕ (Nat × Nat))} (hf : f_X1_owner E p0 p1 p2 h = some (r, h')) : zMet l yX1_owner (ws_ yX1_owner cX1_owner 3 (Option.some Jvm.ClassFile.FieldType.int)) 10 154 D B0 E [.ref p0, .int p1, .int p2] h (zoT zoI r) h' := by
  unfold f_X1_owner at hf
  refine zMet_of hst (by decide +kernel) rfl rfl (Nat.le_of_ble_eq_true rfl) (fun p e R s m below meth c C0 hno => ?_)
  show zW _ _ _ _ _ _ _ _ _ _ _ _ _ _ _ _ [(0, .ref p0), (1, .int p1), (2, .int p2)] []
  exact w_X1_owner_b0 C0 hno hf
def f_X5_area_b27 (E : zE) (k4 : Nat → Int32 → Int32 → Int32 → zH → Option (Int32 × zH)) (p0 : Nat) (p1 : Int32) (p3 : Int32) (s0 : Int32) (s1 : Int32) (h : zH) : Option (Int32 × zH) :=
  k4 p0 p1 (s0 + s1) (p3 + 1) h
theorem w_X5_area_b27 (C0 : zCx p l e R s m args below meth c D B0 4 "FranchiseLedger$Grid" cX5_area E 1 60 (Option.some Jvm.ClassFile.FieldType.int) "area") {r : Int32} {h' : zH} {k4 : Nat → Int32 → Int32 → Int32 → zH → Option (Int32 × zH)} (hk4 : ∀ (p0 : Nat) (p1 : Int32) (p2 : Int32) (p3 : Int32) (h : zH), k4 p0 p1 p2 p3 h = some (r, h') → zW p l e R s m args below meth c D B0 4 (zEnd D B0 R below args s (zoI r) h') h 4 [(0, .ref p0), (1, .int p1), (2, .int p2), (3, .int p3)] []) {p0 : Nat} {p1 : Int32} {p3 : Int32} {s0 : Int32} {s1 : Int32} {h : zH} (hf : f_X5_area_b27 E k4 p0 p1 p3 s0 s1 h = some (r, h')) : zW p l e R s m args below meth c D B0 4 (zEnd D B0 R below args s (zoI r) h') h 27 [(0, .ref p0), (1, .int p1), (3, .int p3)] [.int s1, .int s0] := by
  unfold f_X5_area_b27 at hf
  refine zr_iadd C0 dX5_area_27 ?_
  refine zr_istore_n (i := 2) (lv' := [(2, .int (s0 + s1)), (0, .ref p0), (1, .int p1), (3, .int p3)]) C0 dX5_area_28 rfl (by decide) (by first | rfl | simp [zst1, zst2, zcat_rf]) ?_
  refine zr_iinc (lv' := [(3, .int (p3 + 1)), (2, .int (s0 + s1)), (0, .ref p0), (1, .int p1)]) C0 dX5_area_29 3 rfl rfl (by decide) (by first | rfl | simp [zst1, zst2, zcat_rf]) ?_
  refine zr_goto C0 (tgt := 4) dX5_area_32 (by decide) ?_
  refine zr_sub [2, 3, 1, 0] rfl ?_
  exact hk4 _ _ _ _ _ hf
def f_X5_area_l4 (E : zE) : Nat → Nat → Int32 → Int32 → Int32 → zH → Option (Int32 × zH)
  | 0, _, _, _, _, _ => none
  | n + 1, p0, p1, p2, p3, h =>
    if (900 : Int32) ≤ p3 then (
      some (p2, h)
    ) else (
      (gR h p0 5 0).bind fun x2 =>
      (dI h x2 2 p3).bind fun x4 =>
      if x4 = p1 then (
        f_X5_area_b27 E (f_X5_area_l4 E n) p0 p1 p3 p2 (1 : Int32) h
      ) else (
        f_X5_area_b27 E (f_X5_area_l4 E n) p0 p1 p3 p2 (0 : Int32) h
      )
    )
theorem w_X5_area_l4 (C0 : zCx p l e R s m args below meth c D B0 4 "FranchiseLedger$Grid" cX5_area E 1 60 (Option.some Jvm.ClassFile.FieldType.int) "area") {r : Int32} {h' : zH} : ∀ (n : Nat) (p0 : Nat) (p1 : Int32) (p2 : Int32) (p3 : Int32) (h : zH), f_X5_area_l4 E n p0 p1 p2 p3 h = some (r, h') → zW p l e R s m args below meth c D B0 4 (zEnd D B0 R below args s (zoI r) h') h 4 [(0, .ref p0), (1, .int p1), (2, .int p2), (3, .int p3)] [] := by
  intro n
  induction n with
  | zero =>
    intro p0 p1 p2 p3 h hf
    unfold f_X5_area_l4 at hf
    cases hf
  | succ n ih =>
    intro p0 p1 p2 p3 h hf
    unfold f_X5_area_l4 at hf
    refine zr_iload_n C0 dX5_area_4 rfl 3 rfl ?_
    refine zr_sipush C0 (v := 900) dX5_area_5 (by decide) ?_
    refine zr_icmp_ge C0 (tgt := 35) dX5_area_8 (by decide) (fun c1 => ?_) (fun c1 => ?_)
    · have hf := zif_t c1 hf
      refine zr_iload_n C0 dX5_area_35 rfl 2 rfl ?_
      refine zretW hf ?_
      exact zr_iret C0 (ty := .int) rfl rfl dX5_area_36 rfl
    · have hf := zif_f c1 hf
      refine zr_iload_n C0 dX5_area_11 rfl 2 rfl ?_
      refine zr_aload_n C0 dX5_area_12 rfl 0 rfl ?_
      obtain ⟨x2, e3, hf⟩ := zbind hf
      refine zr_get C0 fl_X5_9_X5 dX5_area_13 (zgR e3) ?_
      refine zr_iload_n C0 dX5_area_16 rfl 3 rfl ?_
      obtain ⟨x4, e5, hf⟩ := zbind hf
      refine zr_bald C0 dX5_area_17 e5 ?_
      refine zr_iload_n C0 dX5_area_18 rfl 1 rfl ?_
      refine zr_icmp_ne C0 (tgt := 26) dX5_area_19 (by decide) (fun c6 => ?_) (fun c6 => ?_)
      · have hf := zif_f c6 hf
        refine zr_iconst C0 (v := 0) dX5_area_26 (by decide) ?_
        refine zr_sub [0, 1, 3] rfl ?_
        exact w_X5_area_b27 C0 ih hf
      · have hf := zif_t c6 hf
        refine zr_iconst C0 (v := 1) dX5_area_22 (by decide) ?_
        refine zr_goto C0 (tgt := 27) dX5_area_23 (by decide) ?_
        refine zr_sub [0, 1, 3] rfl ?_
        exact w_X5_area_b27 C0 ih hf
def f_X5_area_b0 (E : zE) (p0 : Nat) (p1 : Int32) (h : zH) : Option (Int32 × zH) :=
  f_X5_area_l4 E E.1 p0 p1 (0 : Int32) (0 : Int32) h
theorem w_X5_area_b0 (C0 : zCx p l e R s m args below meth c D B0 4 "FranchiseLedger$Grid" cX5_area E 1 60 (Option.some Jvm.ClassFile.FieldType.int) "area") {r : Int32} {h' : zH} {p0 : Nat} {p1 : Int32} {h : zH} (hf : f_X5_area_b0 E p0 p1 h = some (r, h')) : zW p l e R s m args below meth c D B0 4 (zEnd D B0 R below args s (zoI r) h') h 0 [(0, .ref p0), (1, .int p1)] [] := by
  unfold f_X5_area_b0 at hf
  refine zr_iconst C0 (v := 0) dX5_area_0 (by decide) ?_
  refine zr_istore_n (i := 2) (lv' := [(2, .int (0 : Int32)), (0, .ref p0), (1, .int p1)]) C0 dX5_area_1 rfl (by decide) (by first | rfl | simp [zst1, zst2, zcat_rf]) ?_
  refine zr_iconst C0 (v := 0) dX5_area_2 (by decide) ?_
  refine zr_istore_n (i := 3) (lv' := [(3, .int (0 : Int32)), (2, .int (0 : Int32)), (0, .ref p0), (1, .int p1)]) C0 dX5_area_3 rfl (by decide) (by first | rfl | simp [zst1, zst2, zcat_rf]) ?_
  refine zr_sub [2, 3, 1, 0] rfl ?_
  exact w_X5_area_l4 C0 _ _ _ _ _ _ hf
def f_X5_area (E : zE) (p0 : Nat) (p1 : Int32) (h : zH) : Option (Int32 × zH) := f_X5_area_b0 E p0 p1 h
theorem m_X5_area {l : Launch} (hst : l.stackTraces = false) {D : zD} {B0 : Nat} {E : zE} {p0 : Nat} {p1 : Int32} {h h' : zH} {r : Int32} (hf : f_X5_area E p0 p1 h = some (r, h')) : zMet l yX5_area (ws_ yX5_area cX5_area 4 (Option.some Jvm.ClassFile.FieldType.int)) 1 60 D B0 E [.ref p0, .int p1] h (zoI r) h' := by
  unfold f_X5_area at hf
  refine zMet_of hst (by decide +kernel) rfl rfl (Nat.le_of_ble_eq_true rfl) (fun p e R s m below meth c C0 hno => ?_)
  show zW _ _ _ _ _ _ _ _ _ _ _ _ _ _ _ _ [(0, .ref p0), (1, .int p1)] []
  exact w_X5_area_b0 C0 hf
def f_X1_area_b0 (E : zE) (p0 : Nat) (p1 : Int32) (h : zH) : Option ((Int32 ⊕ (Nat × Nat)) × zH) :=
  bnd2 (nA h 3 (1 : Int32) (.inl fun _ => 0)) fun q1 h2 =>
  (cko h2 p0 0).bind fun _ =>
  bnd2 (f_X1_isFranchisee E p0 p1 h2) fun x7 h5 =>
  (zgd .boolean x7).bind fun _ =>
  (sI h5 q1 3 (0 : Int32) x7).bind fun h9 =>
  bnd2 (f_X1_requireIndex E q1 h9) fun x13 h11 =>
  Sum.elim (fun x14 => (
    (gR h11 p0 0 1).bind fun x16 =>
    (gR h11 x16 4 2).bind fun x18 =>
    (cko h11 x18 5).bind fun _ =>
    bnd2 (f_X5_area E x18 p1 h11) fun x23 h21 =>
    some (.inl x23, h21)
  )) (fun q15 => (
    some (.inr q15, h11)
  )) x13
theorem w_X1_area_b0 (C0 : zCx p l e R s m args below meth c D B0 2 "FranchiseLedger" cX1_area E 10 154 (Option.some Jvm.ClassFile.FieldType.int) "area") (hno : ∀ x ∈ c.exceptionTable.toList, False) {r : (Int32 ⊕ (Nat × Nat))} {h' : zH} {p0 : Nat} {p1 : Int32} {h : zH} (hf : f_X1_area_b0 E p0 p1 h = some (r, h')) : zW p l e R s m args below meth c D B0 2 (zEnd D B0 R below args s (zoT zoI r) h') h 0 [(0, .ref p0), (1, .int p1)] [] := by
  unfold f_X1_area_b0 at hf
  refine zr_iconst C0 (v := 1) dX1_area_0 (by decide) ?_
  obtain ⟨q1, h2, e3, hf⟩ := zbind2 hf
  refine zr_newa C0 (atype := .boolean) (t := 3) q627 rfl (by decide) (fun _ => rfl) dX1_area_1 e3 ?_
  refine zr_dup C0 dX1_area_3 rfl ?_
  refine zr_iconst C0 (v := 0) dX1_area_4 (by decide) ?_
  refine zr_aload_n C0 dX1_area_5 rfl 0 rfl ?_
  refine zr_iload_n C0 dX1_area_6 rfl 1 rfl ?_
  obtain ⟨_, e4, hf⟩ := zbind hf
  obtain ⟨x7, h5, e6, hf⟩ := zbind2 hf
  refine zr_callV_r C0 cv_X1_88_X1 rfl (zcko e4) (m_X1_isFranchisee C0.2.2.2.2.2.2.1 e6) (by decide) (by decide) rfl rfl (Nat.le_of_ble_eq_true rfl) dX1_area_7 rfl ?_
  obtain ⟨_, e8, hf⟩ := zbind hf
  obtain ⟨h9, e10, hf⟩ := zbind hf
  refine zr_zast C0 dX1_area_10 (zgd_b e8) e10 ?_
  obtain ⟨x13, h11, e12, hf⟩ := zbind2 hf
  rcases x13 with x14 | q15
  · have hf := zinl hf
    refine zr_callS_r C0 cv_X1_92 (m_X1_requireIndex C0.2.2.2.2.2.2.1 e12) (by decide) (by decide) rfl rfl (Nat.le_of_ble_eq_true rfl) dX1_area_11 rfl ?_
    refine zr_aload_n C0 dX1_area_14 rfl 0 rfl ?_
    obtain ⟨x16, e17, hf⟩ := zbind hf
    refine zr_get C0 fl_X1_39_X1 dX1_area_15 (zgR e17) ?_
    obtain ⟨x18, e19, hf⟩ := zbind hf
    refine zr_get C0 fl_X1_171_X4 dX1_area_18 (zgR e19) ?_
    refine zr_iload_n C0 dX1_area_21 rfl 1 rfl ?_
    obtain ⟨_, e20, hf⟩ := zbind hf
    obtain ⟨x23, h21, e22, hf⟩ := zbind2 hf
    refine zr_callV_r C0 cv_X1_183_X5 rfl (zcko e20) (m_X5_area C0.2.2.2.2.2.2.1 e22) (by decide) (by decide) rfl rfl (Nat.le_of_ble_eq_true rfl) dX1_area_22 rfl ?_
    refine zretW hf ?_
    exact zr_iret C0 (ty := .int) rfl rfl dX1_area_25 rfl
  · have hf := zinr hf
    refine zretW hf ?_
    exact zr_callS_t C0 cv_X1_92 (m_X1_requireIndex C0.2.2.2.2.2.2.1 e12) (by decide) (by decide) rfl rfl (Nat.le_of_ble_eq_true rfl) dX1_area_11 (zr_out C0 hno rfl)
def f_X1_area (E : zE) (p0 : Nat) (p1 : Int32) (h : zH) : Option ((Int32 ⊕ (Nat × Nat)) × zH) := f_X1_area_b0 E p0 p1 h
theorem m_X1_area {l : Launch} (hst : l.stackTraces = false) {D : zD} {B0 : Nat} {E : zE} {p0 : Nat} {p1 : Int32} {h h' : zH} {r : (Int32 ⊕ (Nat × Nat))} (hf : f_X1_area E p0 p1 h = some (r, h')) : zMet l yX1_area (ws_ yX1_area cX1_area 2 (Option.some Jvm.ClassFile.FieldType.int)) 10 154 D B0 E [.ref p0, .int p1] h (zoT zoI r) h' := by
  unfold f_X1_area at hf
  refine zMet_of hst (by decide +kernel) rfl rfl (Nat.le_of_ble_eq_true rfl) (fun p e R s m below meth c C0 hno => ?_)
  show zW _ _ _ _ _ _ _ _ _ _ _ _ _ _ _ _ [(0, .ref p0), (1, .int p1)] []
  exact w_X1_area_b0 C0 hno hf
def f_X5_neighbour_b82 (E : zE) (s0 : Int32) (h : zH) : Option (Int32 × zH) :=
  some (s0, h)
theorem w_X5_neighbour_b82 (C0 : zCx p l e R s m args below meth c D B0 4 "FranchiseLedger$Grid" cX5_neighbour E 2 85 (Option.some Jvm.ClassFile.FieldType.int) "neighbour") {r : Int32} {h' : zH} {s0 : Int32} {h : zH} (hf : f_X5_neighbour_b82 E s0 h = some (r, h')) : zW p l e R s m args below meth c D B0 4 (zEnd D B0 R below args s (zoI r) h') h 82 [] [.int s0] := by
  unfold f_X5_neighbour_b82 at hf
  refine zretW hf ?_
  exact zr_iret C0 (ty := .int) rfl rfl dX5_neighbour_82 rfl
def f_X5_neighbour_b81 (E : zE) (h : zH) : Option (Int32 × zH) :=
  f_X5_neighbour_b82 E (-1 : Int32) h
theorem w_X5_neighbour_b81 (C0 : zCx p l e R s m args below meth c D B0 4 "FranchiseLedger$Grid" cX5_neighbour E 2 85 (Option.some Jvm.ClassFile.FieldType.int) "neighbour") {r : Int32} {h' : zH} {h : zH} (hf : f_X5_neighbour_b81 E  h = some (r, h')) : zW p l e R s m args below meth c D B0 4 (zEnd D B0 R below args s (zoI r) h') h 81 [] [] := by
  unfold f_X5_neighbour_b81 at hf
  refine zr_iconst C0 (v := -1) dX5_neighbour_81 (by decide) ?_
  exact w_X5_neighbour_b82 C0 hf
def f_X5_neighbour_b47 (E : zE) (p2 : Int32) (s0 : Int32) (s1 : Int32) (h : zH) : Option (Int32 × zH) :=
  bnd2 (f_X1_inRange E (p2.toInt64) (0 : Int64) (29 : Int64) h) fun x3 h1 =>
  if x3 = 0 then (
    f_X5_neighbour_b81 E  h1
  ) else (
    bnd2 (f_X1_inRange E ((s0 + s1).toInt64) (0 : Int64) (29 : Int64) h1) fun x7 h5 =>
    if x7 = 0 then (
      f_X5_neighbour_b81 E  h5
    ) else (
      bnd2 (f_X1_cell E p2 (s0 + s1) h5) fun x11 h9 =>
      f_X5_neighbour_b82 E x11 h9
    )
  )
theorem w_X5_neighbour_b47 (C0 : zCx p l e R s m args below meth c D B0 4 "FranchiseLedger$Grid" cX5_neighbour E 2 85 (Option.some Jvm.ClassFile.FieldType.int) "neighbour") {r : Int32} {h' : zH} {p2 : Int32} {s0 : Int32} {s1 : Int32} {h : zH} (hf : f_X5_neighbour_b47 E p2 s0 s1 h = some (r, h')) : zW p l e R s m args below meth c D B0 4 (zEnd D B0 R below args s (zoI r) h') h 47 [(2, .int p2)] [.int s1, .int s0] := by
  unfold f_X5_neighbour_b47 at hf
  refine zr_iadd C0 dX5_neighbour_47 ?_
  refine zr_istore_n (i := 3) (lv' := [(3, .int (s0 + s1)), (2, .int p2)]) C0 dX5_neighbour_48 rfl (by decide) (by first | rfl | simp [zst1, zst2, zcat_rf]) ?_
  refine zr_iload_n C0 dX5_neighbour_49 rfl 1 rfl ?_
  refine zr_i2l C0 dX5_neighbour_50 ?_
  refine zr_lconst C0 (v := 0) dX5_neighbour_51 (by decide) ?_
  refine zr_ldc2 C0 (v := 29) q2039 dX5_neighbour_52 ?_
  obtain ⟨x3, h1, e2, hf⟩ := zbind2 hf
  refine zr_callSN_r C0 cv_X5_38 (m_X1_inRange C0.2.2.2.2.2.2.1 e2) (by decide) (by decide) rfl rfl (Nat.le_of_ble_eq_true rfl) dX5_neighbour_55 rfl ?_
  refine zr_if_eq C0 (tgt := 81) dX5_neighbour_58 (by decide) (fun c4 => ?_) (fun c4 => ?_)
  · have hf := zif_t c4 hf
    refine zr_sub [] rfl ?_
    exact w_X5_neighbour_b81 C0 hf
  · have hf := zif_f c4 hf
    refine zr_iload_n C0 dX5_neighbour_61 rfl 0 rfl ?_
    refine zr_i2l C0 dX5_neighbour_62 ?_
    refine zr_lconst C0 (v := 0) dX5_neighbour_63 (by decide) ?_
    refine zr_ldc2 C0 (v := 29) q2039 dX5_neighbour_64 ?_
    obtain ⟨x7, h5, e6, hf⟩ := zbind2 hf
    refine zr_callSN_r C0 cv_X5_38 (m_X1_inRange C0.2.2.2.2.2.2.1 e6) (by decide) (by decide) rfl rfl (Nat.le_of_ble_eq_true rfl) dX5_neighbour_67 rfl ?_
    refine zr_if_eq C0 (tgt := 81) dX5_neighbour_70 (by decide) (fun c8 => ?_) (fun c8 => ?_)
    · have hf := zif_t c8 hf
      refine zr_sub [] rfl ?_
      exact w_X5_neighbour_b81 C0 hf
    · have hf := zif_f c8 hf
      refine zr_iload_n C0 dX5_neighbour_73 rfl 1 rfl ?_
      refine zr_iload_n C0 dX5_neighbour_74 rfl 0 rfl ?_
      obtain ⟨x11, h9, e10, hf⟩ := zbind2 hf
      refine zr_callSN_r C0 cv_X5_42 (m_X1_cell C0.2.2.2.2.2.2.1 e10) (by decide) (by decide) rfl rfl (Nat.le_of_ble_eq_true rfl) dX5_neighbour_75 rfl ?_
      refine zr_goto C0 (tgt := 82) dX5_neighbour_78 (by decide) ?_
      refine zr_sub [] rfl ?_
      exact w_X5_neighbour_b82 C0 hf
def f_X5_neighbour_b22 (E : zE) (p0 : Int32) (p1 : Int32) (s0 : Int32) (s1 : Int32) (h : zH) : Option (Int32 × zH) :=
  bnd2 (f_X1_row E p0 h) fun x3 h1 =>
  if p1 = (2 : Int32) then (
    f_X5_neighbour_b47 E (s0 + s1) x3 (1 : Int32) h1
  ) else (
    if p1 = (3 : Int32) then (
      f_X5_neighbour_b47 E (s0 + s1) x3 (-1 : Int32) h1
    ) else (
      f_X5_neighbour_b47 E (s0 + s1) x3 (0 : Int32) h1
    )
  )
theorem w_X5_neighbour_b22 (C0 : zCx p l e R s m args below meth c D B0 4 "FranchiseLedger$Grid" cX5_neighbour E 2 85 (Option.some Jvm.ClassFile.FieldType.int) "neighbour") {r : Int32} {h' : zH} {p0 : Int32} {p1 : Int32} {s0 : Int32} {s1 : Int32} {h : zH} (hf : f_X5_neighbour_b22 E p0 p1 s0 s1 h = some (r, h')) : zW p l e R s m args below meth c D B0 4 (zEnd D B0 R below args s (zoI r) h') h 22 [(0, .int p0), (1, .int p1)] [.int s1, .int s0] := by
  unfold f_X5_neighbour_b22 at hf
  refine zr_iadd C0 dX5_neighbour_22 ?_
  refine zr_istore_n (i := 2) (lv' := [(2, .int (s0 + s1)), (0, .int p0), (1, .int p1)]) C0 dX5_neighbour_23 rfl (by decide) (by first | rfl | simp [zst1, zst2, zcat_rf]) ?_
  refine zr_iload_n C0 dX5_neighbour_24 rfl 1 rfl ?_
  obtain ⟨x3, h1, e2, hf⟩ := zbind2 hf
  refine zr_callSN_r C0 cv_X5_33 (m_X1_row C0.2.2.2.2.2.2.1 e2) (by decide) (by decide) rfl rfl (Nat.le_of_ble_eq_true rfl) dX5_neighbour_25 rfl ?_
  refine zr_iload_n C0 dX5_neighbour_28 rfl 2 rfl ?_
  refine zr_iconst C0 (v := 2) dX5_neighbour_29 (by decide) ?_
  refine zr_icmp_ne C0 (tgt := 37) dX5_neighbour_30 (by decide) (fun c4 => ?_) (fun c4 => ?_)
  · have hf := zif_f c4 hf
    refine zr_iload_n C0 dX5_neighbour_37 rfl 2 rfl ?_
    refine zr_iconst C0 (v := 3) dX5_neighbour_38 (by decide) ?_
    refine zr_icmp_ne C0 (tgt := 46) dX5_neighbour_39 (by decide) (fun c5 => ?_) (fun c5 => ?_)
    · have hf := zif_f c5 hf
      refine zr_iconst C0 (v := 0) dX5_neighbour_46 (by decide) ?_
      refine zr_sub [0] rfl ?_
      exact w_X5_neighbour_b47 C0 hf
    · have hf := zif_t c5 hf
      refine zr_iconst C0 (v := -1) dX5_neighbour_42 (by decide) ?_
      refine zr_goto C0 (tgt := 47) dX5_neighbour_43 (by decide) ?_
      refine zr_sub [0] rfl ?_
      exact w_X5_neighbour_b47 C0 hf
  · have hf := zif_t c4 hf
    refine zr_iconst C0 (v := 1) dX5_neighbour_33 (by decide) ?_
    refine zr_goto C0 (tgt := 47) dX5_neighbour_34 (by decide) ?_
    refine zr_sub [0] rfl ?_
    exact w_X5_neighbour_b47 C0 hf
def f_X5_neighbour_b0 (E : zE) (p0 : Int32) (p1 : Int32) (h : zH) : Option (Int32 × zH) :=
  bnd2 (f_X1_column E p0 h) fun x3 h1 =>
  if p1 = 0 then (
    f_X5_neighbour_b22 E p0 p1 x3 (1 : Int32) h1
  ) else (
    if p1 = (1 : Int32) then (
      f_X5_neighbour_b22 E p0 p1 x3 (-1 : Int32) h1
    ) else (
      f_X5_neighbour_b22 E p0 p1 x3 (0 : Int32) h1
    )
  )
theorem w_X5_neighbour_b0 (C0 : zCx p l e R s m args below meth c D B0 4 "FranchiseLedger$Grid" cX5_neighbour E 2 85 (Option.some Jvm.ClassFile.FieldType.int) "neighbour") {r : Int32} {h' : zH} {p0 : Int32} {p1 : Int32} {h : zH} (hf : f_X5_neighbour_b0 E p0 p1 h = some (r, h')) : zW p l e R s m args below meth c D B0 4 (zEnd D B0 R below args s (zoI r) h') h 0 [(0, .int p0), (1, .int p1)] [] := by
  unfold f_X5_neighbour_b0 at hf
  refine zr_iload_n C0 dX5_neighbour_0 rfl 0 rfl ?_
  obtain ⟨x3, h1, e2, hf⟩ := zbind2 hf
  refine zr_callSN_r C0 cv_X5_29 (m_X1_column C0.2.2.2.2.2.2.1 e2) (by decide) (by decide) rfl rfl (Nat.le_of_ble_eq_true rfl) dX5_neighbour_1 rfl ?_
  refine zr_iload_n C0 dX5_neighbour_4 rfl 1 rfl ?_
  refine zr_if_ne C0 (tgt := 12) dX5_neighbour_5 (by decide) (fun c4 => ?_) (fun c4 => ?_)
  · have hf := zif_f c4 hf
    refine zr_iload_n C0 dX5_neighbour_12 rfl 1 rfl ?_
    refine zr_iconst C0 (v := 1) dX5_neighbour_13 (by decide) ?_
    refine zr_icmp_ne C0 (tgt := 21) dX5_neighbour_14 (by decide) (fun c5 => ?_) (fun c5 => ?_)
    · have hf := zif_f c5 hf
      refine zr_iconst C0 (v := 0) dX5_neighbour_21 (by decide) ?_
      exact w_X5_neighbour_b22 C0 hf
    · have hf := zif_t c5 hf
      refine zr_iconst C0 (v := -1) dX5_neighbour_17 (by decide) ?_
      refine zr_goto C0 (tgt := 22) dX5_neighbour_18 (by decide) ?_
      exact w_X5_neighbour_b22 C0 hf
  · have hf := zif_t c4 hf
    refine zr_iconst C0 (v := 1) dX5_neighbour_8 (by decide) ?_
    refine zr_goto C0 (tgt := 22) dX5_neighbour_9 (by decide) ?_
    exact w_X5_neighbour_b22 C0 hf
def f_X5_neighbour (E : zE) (p0 : Int32) (p1 : Int32) (h : zH) : Option (Int32 × zH) := f_X5_neighbour_b0 E p0 p1 h
theorem m_X5_neighbour {l : Launch} (hst : l.stackTraces = false) {D : zD} {B0 : Nat} {E : zE} {p0 : Int32} {p1 : Int32} {h h' : zH} {r : Int32} (hf : f_X5_neighbour E p0 p1 h = some (r, h')) : zMet l yX5_neighbour (ws_ yX5_neighbour cX5_neighbour 4 (Option.some Jvm.ClassFile.FieldType.int)) 2 85 D B0 E [.int p0, .int p1] h (zoI r) h' := by
  unfold f_X5_neighbour at hf
  refine zMet_of hst (by decide +kernel) rfl rfl (Nat.le_of_ble_eq_true rfl) (fun p e R s m below meth c C0 hno => ?_)
  show zW _ _ _ _ _ _ _ _ _ _ _ _ _ _ _ _ [(0, .int p0), (1, .int p1)] []
  exact w_X5_neighbour_b0 C0 hf
def f_X5_perimeter_b69 (E : zE) (k4 : Nat → Int32 → Int32 → Int32 → zH → Option (Int32 × zH)) (p0 : Nat) (p1 : Int32) (p2 : Int32) (p3 : Int32) (h : zH) : Option (Int32 × zH) :=
  k4 p0 p1 p2 (p3 + 1) h
theorem w_X5_perimeter_b69 (C0 : zCx p l e R s m args below meth c D B0 6 "FranchiseLedger$Grid" cX5_perimeter E 3 108 (Option.some Jvm.ClassFile.FieldType.int) "perimeter") {r : Int32} {h' : zH} {k4 : Nat → Int32 → Int32 → Int32 → zH → Option (Int32 × zH)} (hk4 : ∀ (p0 : Nat) (p1 : Int32) (p2 : Int32) (p3 : Int32) (h : zH), k4 p0 p1 p2 p3 h = some (r, h') → zW p l e R s m args below meth c D B0 6 (zEnd D B0 R below args s (zoI r) h') h 4 [(0, .ref p0), (1, .int p1), (2, .int p2), (3, .int p3)] []) {p0 : Nat} {p1 : Int32} {p2 : Int32} {p3 : Int32} {h : zH} (hf : f_X5_perimeter_b69 E k4 p0 p1 p2 p3 h = some (r, h')) : zW p l e R s m args below meth c D B0 6 (zEnd D B0 R below args s (zoI r) h') h 69 [(0, .ref p0), (1, .int p1), (2, .int p2), (3, .int p3)] [] := by
  unfold f_X5_perimeter_b69 at hf
  refine zr_iinc (lv' := [(3, .int (p3 + 1)), (0, .ref p0), (1, .int p1), (2, .int p2)]) C0 dX5_perimeter_69 3 rfl rfl (by decide) (by first | rfl | simp [zst1, zst2, zcat_rf]) ?_
  refine zr_goto C0 (tgt := 4) dX5_perimeter_72 (by decide) ?_
  refine zr_sub [1, 2, 3, 0] rfl ?_
  exact hk4 _ _ _ _ _ hf
def f_X5_perimeter_b61 (E : zE) (k4 : Nat → Int32 → Int32 → Int32 → zH → Option (Int32 × zH)) (k14 : Nat → Int32 → Int32 → Int32 → Int32 → zH → Option (Int32 × zH)) (p0 : Nat) (p1 : Int32) (p3 : Int32) (p4 : Int32) (s0 : Int32) (s1 : Int32) (h : zH) : Option (Int32 × zH) :=
  k14 p0 p1 (s0 + s1) p3 (p4 + 1) h
theorem w_X5_perimeter_b61 (C0 : zCx p l e R s m args below meth c D B0 6 "FranchiseLedger$Grid" cX5_perimeter E 3 108 (Option.some Jvm.ClassFile.FieldType.int) "perimeter") {r : Int32} {h' : zH} {k4 : Nat → Int32 → Int32 → Int32 → zH → Option (Int32 × zH)} (hk4 : ∀ (p0 : Nat) (p1 : Int32) (p2 : Int32) (p3 : Int32) (h : zH), k4 p0 p1 p2 p3 h = some (r, h') → zW p l e R s m args below meth c D B0 6 (zEnd D B0 R below args s (zoI r) h') h 4 [(0, .ref p0), (1, .int p1), (2, .int p2), (3, .int p3)] []) {k14 : Nat → Int32 → Int32 → Int32 → Int32 → zH → Option (Int32 × zH)} (hk14 : ∀ (p0 : Nat) (p1 : Int32) (p2 : Int32) (p3 : Int32) (p4 : Int32) (h : zH), k14 p0 p1 p2 p3 p4 h = some (r, h') → zW p l e R s m args below meth c D B0 6 (zEnd D B0 R below args s (zoI r) h') h 14 [(0, .ref p0), (1, .int p1), (2, .int p2), (3, .int p3), (4, .int p4)] []) {p0 : Nat} {p1 : Int32} {p3 : Int32} {p4 : Int32} {s0 : Int32} {s1 : Int32} {h : zH} (hf : f_X5_perimeter_b61 E k4 k14 p0 p1 p3 p4 s0 s1 h = some (r, h')) : zW p l e R s m args below meth c D B0 6 (zEnd D B0 R below args s (zoI r) h') h 61 [(0, .ref p0), (1, .int p1), (3, .int p3), (4, .int p4)] [.int s1, .int s0] := by
  unfold f_X5_perimeter_b61 at hf
  refine zr_iadd C0 dX5_perimeter_61 ?_
  refine zr_istore_n (i := 2) (lv' := [(2, .int (s0 + s1)), (0, .ref p0), (1, .int p1), (3, .int p3), (4, .int p4)]) C0 dX5_perimeter_62 rfl (by decide) (by first | rfl | simp [zst1, zst2, zcat_rf]) ?_
  refine zr_iinc (lv' := [(4, .int (p4 + 1)), (2, .int (s0 + s1)), (0, .ref p0), (1, .int p1), (3, .int p3)]) C0 dX5_perimeter_63 4 rfl rfl (by decide) (by first | rfl | simp [zst1, zst2, zcat_rf]) ?_
  refine zr_goto C0 (tgt := 14) dX5_perimeter_66 (by decide) ?_
  refine zr_sub [2, 3, 1, 4, 0] rfl ?_
  exact hk14 _ _ _ _ _ _ hf
def f_X5_perimeter_b56 (E : zE) (k4 : Nat → Int32 → Int32 → Int32 → zH → Option (Int32 × zH)) (k14 : Nat → Int32 → Int32 → Int32 → Int32 → zH → Option (Int32 × zH)) (p0 : Nat) (p1 : Int32) (p3 : Int32) (p4 : Int32) (s0 : Int32) (h : zH) : Option (Int32 × zH) :=
  f_X5_perimeter_b61 E k4 k14 p0 p1 p3 p4 s0 (1 : Int32) h
theorem w_X5_perimeter_b56 (C0 : zCx p l e R s m args below meth c D B0 6 "FranchiseLedger$Grid" cX5_perimeter E 3 108 (Option.some Jvm.ClassFile.FieldType.int) "perimeter") {r : Int32} {h' : zH} {k4 : Nat → Int32 → Int32 → Int32 → zH → Option (Int32 × zH)} (hk4 : ∀ (p0 : Nat) (p1 : Int32) (p2 : Int32) (p3 : Int32) (h : zH), k4 p0 p1 p2 p3 h = some (r, h') → zW p l e R s m args below meth c D B0 6 (zEnd D B0 R below args s (zoI r) h') h 4 [(0, .ref p0), (1, .int p1), (2, .int p2), (3, .int p3)] []) {k14 : Nat → Int32 → Int32 → Int32 → Int32 → zH → Option (Int32 × zH)} (hk14 : ∀ (p0 : Nat) (p1 : Int32) (p2 : Int32) (p3 : Int32) (p4 : Int32) (h : zH), k14 p0 p1 p2 p3 p4 h = some (r, h') → zW p l e R s m args below meth c D B0 6 (zEnd D B0 R below args s (zoI r) h') h 14 [(0, .ref p0), (1, .int p1), (2, .int p2), (3, .int p3), (4, .int p4)] []) {p0 : Nat} {p1 : Int32} {p3 : Int32} {p4 : Int32} {s0 : Int32} {h : zH} (hf : f_X5_perimeter_b56 E k4 k14 p0 p1 p3 p4 s0 h = some (r, h')) : zW p l e R s m args below meth c D B0 6 (zEnd D B0 R below args s (zoI r) h') h 56 [(0, .ref p0), (1, .int p1), (3, .int p3), (4, .int p4)] [.int s0] := by
  unfold f_X5_perimeter_b56 at hf
  refine zr_iconst C0 (v := 1) dX5_perimeter_56 (by decide) ?_
  refine zr_goto C0 (tgt := 61) dX5_perimeter_57 (by decide) ?_
  exact w_X5_perimeter_b61 C0 hk4 hk14 hf
def f_X5_perimeter_l14 (E : zE) (k4 : Nat → Int32 → Int32 → Int32 → zH → Option (Int32 × zH)) : Nat → Nat → Int32 → Int32 → Int32 → Int32 → zH → Option (Int32 × zH)
  | 0, _, _, _, _, _, _ => none
  | n + 1, p0, p1, p2, p3, p4, h =>
    if (4 : Int32) ≤ p4 then (
      f_X5_perimeter_b69 E k4 p0 p1 p2 p3 h
    ) else (
      (gR h p0 5 0).bind fun x2 =>
      (dI h x2 2 p3).bind fun x4 =>
      if x4 = p1 then (
        bnd2 (f_X5_neighbour E p3 p4 h) fun x9 h7 =>
        if x9 = (-1 : Int32) then (
          f_X5_perimeter_b56 E k4 (f_X5_perimeter_l14 E k4 n) p0 p1 p3 p4 p2 h7
        ) else (
          (gR h7 p0 5 0).bind fun x11 =>
          (dI h7 x11 2 x9).bind fun x13 =>
          if x13 = p1 then (
            f_X5_perimeter_b61 E k4 (f_X5_perimeter_l14 E k4 n) p0 p1 p3 p4 p2 (0 : Int32) h7
          ) else (
            f_X5_perimeter_b56 E k4 (f_X5_perimeter_l14 E k4 n) p0 p1 p3 p4 p2 h7
          )
        )
      ) else (
        f_X5_perimeter_b69 E k4 p0 p1 p2 p3 h
      )
    )
theorem w_X5_perimeter_l14 (C0 : zCx p l e R s m args below meth c D B0 6 "FranchiseLedger$Grid" cX5_perimeter E 3 108 (Option.some Jvm.ClassFile.FieldType.int) "perimeter") {r : Int32} {h' : zH} {k4 : Nat → Int32 → Int32 → Int32 → zH → Option (Int32 × zH)} (hk4 : ∀ (p0 : Nat) (p1 : Int32) (p2 : Int32) (p3 : Int32) (h : zH), k4 p0 p1 p2 p3 h = some (r, h') → zW p l e R s m args below meth c D B0 6 (zEnd D B0 R below args s (zoI r) h') h 4 [(0, .ref p0), (1, .int p1), (2, .int p2), (3, .int p3)] []) : ∀ (n : Nat) (p0 : Nat) (p1 : Int32) (p2 : Int32) (p3 : Int32) (p4 : Int32) (h : zH), f_X5_perimeter_l14 E k4 n p0 p1 p2 p3 p4 h = some (r, h') → zW p l e R s m args below meth c D B0 6 (zEnd D B0 R below args s (zoI r) h') h 14 [(0, .ref p0), (1, .int p1), (2, .int p2), (3, .int p3), (4, .int p4)] [] := by
  intro n
  induction n with
  | zero =>
    intro p0 p1 p2 p3 p4 h hf
    unfold f_X5_perimeter_l14 at hf
    cases hf
  | succ n ih =>
    intro p0 p1 p2 p3 p4 h hf
    unfold f_X5_perimeter_l14 at hf
    refine zr_iload C0 dX5_perimeter_14 4 rfl ?_
    refine zr_iconst C0 (v := 4) dX5_perimeter_16 (by decide) ?_
    refine zr_icmp_ge C0 (tgt := 69) dX5_perimeter_17 (by decide) (fun c1 => ?_) (fun c1 => ?_)
    · have hf := zif_t c1 hf
      refine zr_sub [0, 1, 2, 3] rfl ?_
      exact w_X5_perimeter_b69 C0 hk4 hf
    · have hf := zif_f c1 hf
      refine zr_aload_n C0 dX5_perimeter_20 rfl 0 rfl ?_
      obtain ⟨x2, e3, hf⟩ := zbind hf
      refine zr_get C0 fl_X5_9_X5 dX5_perimeter_21 (zgR e3) ?_
      refine zr_iload_n C0 dX5_perimeter_24 rfl 3 rfl ?_
      obtain ⟨x4, e5, hf⟩ := zbind hf
      refine zr_bald C0 dX5_perimeter_25 e5 ?_
      refine zr_iload_n C0 dX5_perimeter_26 rfl 1 rfl ?_
      refine zr_icmp_ne C0 (tgt := 69) dX5_perimeter_27 (by decide) (fun c6 => ?_) (fun c6 => ?_)
      · have hf := zif_f c6 hf
        refine zr_sub [0, 1, 2, 3] rfl ?_
        exact w_X5_perimeter_b69 C0 hk4 hf
      · have hf := zif_t c6 hf
        refine zr_iload_n C0 dX5_perimeter_30 rfl 3 rfl ?_
        refine zr_iload C0 dX5_perimeter_31 4 rfl ?_
        obtain ⟨x9, h7, e8, hf⟩ := zbind2 hf
        refine zr_callS_r C0 cv_X5_46 (m_X5_neighbour C0.2.2.2.2.2.2.1 e8) (by decide) (by decide) rfl rfl (Nat.le_of_ble_eq_true rfl) dX5_perimeter_33 rfl ?_
        refine zr_istore (i := 5) (lv' := [(5, .int x9), (0, .ref p0), (1, .int p1), (2, .int p2), (3, .int p3), (4, .int p4)]) C0 dX5_perimeter_36 (by decide) (by first | rfl | simp [zst1, zst2, zcat_rf]) ?_
        refine zr_iload_n C0 dX5_perimeter_38 rfl 3 rfl ?_
        refine zr_iload C0 dX5_perimeter_39 0 rfl ?_
        refine zr_iconst C0 (v := -1) dX5_perimeter_41 (by decide) ?_
        refine zr_icmp_eq C0 (tgt := 56) dX5_perimeter_42 (by decide) (fun c10 => ?_) (fun c10 => ?_)
        · have hf := zif_t c10 hf
          refine zr_sub [1, 2, 4, 5] rfl ?_
          exact w_X5_perimeter_b56 C0 hk4 ih hf
        · have hf := zif_f c10 hf
          refine zr_aload_n C0 dX5_perimeter_45 rfl 1 rfl ?_
          obtain ⟨x11, e12, hf⟩ := zbind hf
          refine zr_get C0 fl_X5_9_X5 dX5_perimeter_46 (zgR e12) ?_
          refine zr_iload C0 dX5_perimeter_49 0 rfl ?_
          obtain ⟨x13, e14, hf⟩ := zbind hf
          refine zr_bald C0 dX5_perimeter_51 e14 ?_
          refine zr_iload_n C0 dX5_perimeter_52 rfl 2 rfl ?_
          refine zr_icmp_eq C0 (tgt := 60) dX5_perimeter_53 (by decide) (fun c15 => ?_) (fun c15 => ?_)
          · have hf := zif_t c15 hf
            refine zr_iconst C0 (v := 0) dX5_perimeter_60 (by decide) ?_
            refine zr_sub [1, 2, 4, 5] rfl ?_
            exact w_X5_perimeter_b61 C0 hk4 ih hf
          · have hf := zif_f c15 hf
            refine zr_sub [1, 2, 4, 5] rfl ?_
            exact w_X5_perimeter_b56 C0 hk4 ih hf
def f_X5_perimeter_l4 (E : zE) : Nat → Nat → Int32 → Int32 → Int32 → zH → Option (Int32 × zH)
  | 0, _, _, _, _, _ => none
  | n + 1, p0, p1, p2, p3, h =>
    if (900 : Int32) ≤ p3 then (
      some (p2, h)
    ) else (
      f_X5_perimeter_l14 E (f_X5_perimeter_l4 E n) E.1 p0 p1 p2 p3 (0 : Int32) h
    )
theorem w_X5_perimeter_l4 (C0 : zCx p l e R s m args below meth c D B0 6 "FranchiseLedger$Grid" cX5_perimeter E 3 108 (Option.some Jvm.ClassFile.FieldType.int) "perimeter") {r : Int32} {h' : zH} : ∀ (n : Nat) (p0 : Nat) (p1 : Int32) (p2 : Int32) (p3 : Int32) (h : zH), f_X5_perimeter_l4 E n p0 p1 p2 p3 h = some (r, h') → zW p l e R s m args below meth c D B0 6 (zEnd D B0 R below args s (zoI r) h') h 4 [(0, .ref p0), (1, .int p1), (2, .int p2), (3, .int p3)] [] := by
  intro n
  induction n with
  | zero =>
    intro p0 p1 p2 p3 h hf
    unfold f_X5_perimeter_l4 at hf
    cases hf
  | succ n ih =>
    intro p0 p1 p2 p3 h hf
    unfold f_X5_perimeter_l4 at hf
    refine zr_iload_n C0 dX5_perimeter_4 rfl 3 rfl ?_
    refine zr_sipush C0 (v := 900) dX5_perimeter_5 (by decide) ?_
    refine zr_icmp_ge C0 (tgt := 75) dX5_perimeter_8 (by decide) (fun c1 => ?_) (fun c1 => ?_)
    · have hf := zif_t c1 hf
      refine zr_iload_n C0 dX5_perimeter_75 rfl 2 rfl ?_
      refine zretW hf ?_
      exact zr_iret C0 (ty := .int) rfl rfl dX5_perimeter_76 rfl
    · have hf := zif_f c1 hf
      refine zr_iconst C0 (v := 0) dX5_perimeter_11 (by decide) ?_
      refine zr_istore (i := 4) (lv' := [(4, .int (0 : Int32)), (0, .ref p0), (1, .int p1), (2, .int p2), (3, .int p3)]) C0 dX5_perimeter_12 (by decide) (by first | rfl | simp [zst1, zst2, zcat_rf]) ?_
      refine zr_sub [1, 2, 3, 4, 0] rfl ?_
      exact w_X5_perimeter_l14 C0 ih _ _ _ _ _ _ _ hf
def f_X5_perimeter_b0 (E : zE) (p0 : Nat) (p1 : Int32) (h : zH) : Option (Int32 × zH) :=
  f_X5_perimeter_l4 E E.1 p0 p1 (0 : Int32) (0 : Int32) h
theorem w_X5_perimeter_b0 (C0 : zCx p l e R s m args below meth c D B0 6 "FranchiseLedger$Grid" cX5_perimeter E 3 108 (Option.some Jvm.ClassFile.FieldType.int) "perimeter") {r : Int32} {h' : zH} {p0 : Nat} {p1 : Int32} {h : zH} (hf : f_X5_perimeter_b0 E p0 p1 h = some (r, h')) : zW p l e R s m args below meth c D B0 6 (zEnd D B0 R below args s (zoI r) h') h 0 [(0, .ref p0), (1, .int p1)] [] := by
  unfold f_X5_perimeter_b0 at hf
  refine zr_iconst C0 (v := 0) dX5_perimeter_0 (by decide) ?_
  refine zr_istore_n (i := 2) (lv' := [(2, .int (0 : Int32)), (0, .ref p0), (1, .int p1)]) C0 dX5_perimeter_1 rfl (by decide) (by first | rfl | simp [zst1, zst2, zcat_rf]) ?_
  refine zr_iconst C0 (v := 0) dX5_perimeter_2 (by decide) ?_
  refine zr_istore_n (i := 3) (lv' := [(3, .int (0 : Int32)), (2, .int (0 : Int32)), (0, .ref p0), (1, .int p1)]) C0 dX5_perimeter_3 rfl (by decide) (by first | rfl | simp [zst1, zst2, zcat_rf]) ?_
  refine zr_sub [2, 3, 1, 0] rfl ?_
  exact w_X5_perimeter_l4 C0 _ _ _ _ _ _ hf
def f_X5_perimeter (E : zE) (p0 : Nat) (p1 : Int32) (h : zH) : Option (Int32 × zH) := f_X5_perimeter_b0 E p0 p1 h
theorem m_X5_perimeter {l : Launch} (hst : l.stackTraces = false) {D : zD} {B0 : Nat} {E : zE} {p0 : Nat} {p1 : Int32} {h h' : zH} {r : Int32} (hf : f_X5_perimeter E p0 p1 h = some (r, h')) : zMet l yX5_perimeter (ws_ yX5_perimeter cX5_perimeter 6 (Option.some Jvm.ClassFile.FieldType.int)) 3 108 D B0 E [.ref p0, .int p1] h (zoI r) h' := by
  unfold f_X5_perimeter at hf
  refine zMet_of hst (by decide +kernel) rfl rfl (Nat.le_of_ble_eq_true rfl) (fun p e R s m below meth c C0 hno => ?_)
  show zW _ _ _ _ _ _ _ _ _ _ _ _ _ _ _ _ [(0, .ref p0), (1, .int p1)] []
  exact w_X5_perimeter_b0 C0 hf
def f_X1_perimeter_b0 (E : zE) (p0 : Nat) (p1 : Int32) (h : zH) : Option ((Int32 ⊕ (Nat × Nat)) × zH) :=
  bnd2 (nA h 3 (1 : Int32) (.inl fun _ => 0)) fun q1 h2 =>
  (cko h2 p0 0).bind fun _ =>
  bnd2 (f_X1_isFranchisee E p0 p1 h2) fun x7 h5 =>
  (zgd .boolean x7).bind fun _ =>
  (sI h5 q1 3 (0 : Int32) x7).bind fun h9 =>
  bnd2 (f_X1_requireIndex E q1 h9) fun x13 h11 =>
  Sum.elim (fun x14 => (
    (gR h11 p0 0 1).bind fun x16 =>
    (gR h11 x16 4 2).bind fun x18 =>
    (cko h11 x18 5).bind fun _ =>
    bnd2 (f_X5_perimeter E x18 p1 h11) fun x23 h21 =>
    some (.inl x23, h21)
  )) (fun q15 => (
    some (.inr q15, h11)
  )) x13
theorem w_X1_perimeter_b0 (C0 : zCx p l e R s m args below meth c D B0 2 "FranchiseLedger" cX1_perimeter E 10 154 (Option.some Jvm.ClassFile.FieldType.int) "perimeter") (hno : ∀ x ∈ c.exceptionTable.toList, False) {r : (Int32 ⊕ (Nat × Nat))} {h' : zH} {p0 : Nat} {p1 : Int32} {h : zH} (hf : f_X1_perimeter_b0 E p0 p1 h = some (r, h')) : zW p l e R s m args below meth c D B0 2 (zEnd D B0 R below args s (zoT zoI r) h') h 0 [(0, .ref p0), (1, .int p1)] [] := by
  unfold f_X1_perimeter_b0 at hf
  refine zr_iconst C0 (v := 1) dX1_perimeter_0 (by decide) ?_
  obtain ⟨q1, h2, e3, hf⟩ := zbind2 hf
  refine zr_newa C0 (atype := .boolean) (t := 3) q627 rfl (by decide) (fun _ => rfl) dX1_perimeter_1 e3 ?_
  refine zr_dup C0 dX1_perimeter_3 rfl ?_
  refine zr_iconst C0 (v := 0) dX1_perimeter_4 (by decide) ?_
  refine zr_aload_n C0 dX1_perimeter_5 rfl 0 rfl ?_
  refine zr_iload_n C0 dX1_perimeter_6 rfl 1 rfl ?_
  obtain ⟨_, e4, hf⟩ := zbind hf
  obtain ⟨x7, h5, e6, hf⟩ := zbind2 hf
  refine zr_callV_r C0 cv_X1_88_X1 rfl (zcko e4) (m_X1_isFranchisee C0.2.2.2.2.2.2.1 e6) (by decide) (by decide) rfl rfl (Nat.le_of_ble_eq_true rfl) dX1_perimeter_7 rfl ?_
  obtain ⟨_, e8, hf⟩ := zbind hf
  obtain ⟨h9, e10, hf⟩ := zbind hf
  refine zr_zast C0 dX1_perimeter_10 (zgd_b e8) e10 ?_
  obtain ⟨x13, h11, e12, hf⟩ := zbind2 hf
  rcases x13 with x14 | q15
  · have hf := zinl hf
    refine zr_callS_r C0 cv_X1_92 (m_X1_requireIndex C0.2.2.2.2.2.2.1 e12) (by decide) (by decide) rfl rfl (Nat.le_of_ble_eq_true rfl) dX1_perimeter_11 rfl ?_
    refine zr_aload_n C0 dX1_perimeter_14 rfl 0 rfl ?_
    obtain ⟨x16, e17, hf⟩ := zbind hf
    refine zr_get C0 fl_X1_39_X1 dX1_perimeter_15 (zgR e17) ?_
    obtain ⟨x18, e19, hf⟩ := zbind hf
    refine zr_get C0 fl_X1_171_X4 dX1_perimeter_18 (zgR e19) ?_
    refine zr_iload_n C0 dX1_perimeter_21 rfl 1 rfl ?_
    obtain ⟨_, e20, hf⟩ := zbind hf
    obtain ⟨x23, h21, e22, hf⟩ := zbind2 hf
    refine zr_callV_r C0 cv_X1_186_X5 rfl (zcko e20) (m_X5_perimeter C0.2.2.2.2.2.2.1 e22) (by decide) (by decide) rfl rfl (Nat.le_of_ble_eq_true rfl) dX1_perimeter_22 rfl ?_
    refine zretW hf ?_
    exact zr_iret C0 (ty := .int) rfl rfl dX1_perimeter_25 rfl
  · have hf := zinr hf
    refine zretW hf ?_
    exact zr_callS_t C0 cv_X1_92 (m_X1_requireIndex C0.2.2.2.2.2.2.1 e12) (by decide) (by decide) rfl rfl (Nat.le_of_ble_eq_true rfl) dX1_perimeter_11 (zr_out C0 hno rfl)
def f_X1_perimeter (E : zE) (p0 : Nat) (p1 : Int32) (h : zH) : Option ((Int32 ⊕ (Nat × Nat)) × zH) := f_X1_perimeter_b0 E p0 p1 h
theorem m_X1_perimeter {l : Launch} (hst : l.stackTraces = false) {D : zD} {B0 : Nat} {E : zE} {p0 : Nat} {p1 : Int32} {h h' : zH} {r : (Int32 ⊕ (Nat × Nat))} (hf : f_X1_perimeter E p0 p1 h = some (r, h')) : zMet l yX1_perimeter (ws_ yX1_perimeter cX1_perimeter 2 (Option.some Jvm.ClassFile.FieldType.int)) 10 154 D B0 E [.ref p0, .int p1] h (zoT zoI r) h' := by
  unfold f_X1_perimeter at hf
  refine zMet_of hst (by decide +kernel) rfl rfl (Nat.le_of_ble_eq_true rfl) (fun p e R s m below meth c C0 hno => ?_)
  show zW _ _ _ _ _ _ _ _ _ _ _ _ _ _ _ _ [(0, .ref p0), (1, .int p1)] []
  exact w_X1_perimeter_b0 C0 hno hf
def f_X5_border_b73 (E : zE) (k5 : Nat → Int32 → Int32 → Int32 → Int32 → zH → Option (Int32 × zH)) (p0 : Nat) (p1 : Int32) (p2 : Int32) (p3 : Int32) (p4 : Int32) (h : zH) : Option (Int32 × zH) :=
  k5 p0 p1 p2 p3 (p4 + 1) h
theorem w_X5_border_b73 (C0 : zCx p l e R s m args below meth c D B0 7 "FranchiseLedger$Grid" cX5_border E 3 108 (Option.some Jvm.ClassFile.FieldType.int) "border") {r : Int32} {h' : zH} {k5 : Nat → Int32 → Int32 → Int32 → Int32 → zH → Option (Int32 × zH)} (hk5 : ∀ (p0 : Nat) (p1 : Int32) (p2 : Int32) (p3 : Int32) (p4 : Int32) (h : zH), k5 p0 p1 p2 p3 p4 h = some (r, h') → zW p l e R s m args below meth c D B0 7 (zEnd D B0 R below args s (zoI r) h') h 5 [(0, .ref p0), (1, .int p1), (2, .int p2), (3, .int p3), (4, .int p4)] []) {p0 : Nat} {p1 : Int32} {p2 : Int32} {p3 : Int32} {p4 : Int32} {h : zH} (hf : f_X5_border_b73 E k5 p0 p1 p2 p3 p4 h = some (r, h')) : zW p l e R s m args below meth c D B0 7 (zEnd D B0 R below args s (zoI r) h') h 73 [(0, .ref p0), (1, .int p1), (2, .int p2), (3, .int p3), (4, .int p4)] [] := by
  unfold f_X5_border_b73 at hf
  refine zr_iinc (lv' := [(4, .int (p4 + 1)), (0, .ref p0), (1, .int p1), (2, .int p2), (3, .int p3)]) C0 dX5_border_73 4 rfl rfl (by decide) (by first | rfl | simp [zst1, zst2, zcat_rf]) ?_
  refine zr_goto C0 (tgt := 5) dX5_border_76 (by decide) ?_
  refine zr_sub [1, 2, 3, 4, 0] rfl ?_
  exact hk5 _ _ _ _ _ _ hf
def f_X5_border_b65 (E : zE) (k5 : Nat → Int32 → Int32 → Int32 → Int32 → zH → Option (Int32 × zH)) (k16 : Nat → Int32 → Int32 → Int32 → Int32 → Int32 → zH → Option (Int32 × zH)) (p0 : Nat) (p1 : Int32) (p2 : Int32) (p4 : Int32) (p5 : Int32) (s0 : Int32) (s1 : Int32) (h : zH) : Option (Int32 × zH) :=
  k16 p0 p1 p2 (s0 + s1) p4 (p5 + 1) h
theorem w_X5_border_b65 (C0 : zCx p l e R s m args below meth c D B0 7 "FranchiseLedger$Grid" cX5_border E 3 108 (Option.some Jvm.ClassFile.FieldType.int) "border") {r : Int32} {h' : zH} {k5 : Nat → Int32 → Int32 → Int32 → Int32 → zH → Option (Int32 × zH)} (hk5 : ∀ (p0 : Nat) (p1 : Int32) (p2 : Int32) (p3 : Int32) (p4 : Int32) (h : zH), k5 p0 p1 p2 p3 p4 h = some (r, h') → zW p l e R s m args below meth c D B0 7 (zEnd D B0 R below args s (zoI r) h') h 5 [(0, .ref p0), (1, .int p1), (2, .int p2), (3, .int p3), (4, .int p4)] []) {k16 : Nat → Int32 → Int32 → Int32 → Int32 → Int32 → zH → Option (Int32 × zH)} (hk16 : ∀ (p0 : Nat) (p1 : Int32) (p2 : Int32) (p3 : Int32) (p4 : Int32) (p5 : Int32) (h : zH), k16 p0 p1 p2 p3 p4 p5 h = some (r, h') → zW p l e R s m args below meth c D B0 7 (zEnd D B0 R below args s (zoI r) h') h 16 [(0, .ref p0), (1, .int p1), (2, .int p2), (3, .int p3), (4, .int p4), (5, .int p5)] []) {p0 : Nat} {p1 : Int32} {p2 : Int32} {p4 : Int32} {p5 : Int32} {s0 : Int32} {s1 : Int32} {h : zH} (hf : f_X5_border_b65 E k5 k16 p0 p1 p2 p4 p5 s0 s1 h = some (r, h')) : zW p l e R s m args below meth c D B0 7 (zEnd D B0 R below args s (zoI r) h') h 65 [(0, .ref p0), (1, .int p1), (2, .int p2), (4, .int p4), (5, .int p5)] [.int s1, .int s0] := by
  unfold f_X5_border_b65 at hf
  refine zr_iadd C0 dX5_border_65 ?_
  refine zr_istore_n (i := 3) (lv' := [(3, .int (s0 + s1)), (0, .ref p0), (1, .int p1), (2, .int p2), (4, .int p4), (5, .int p5)]) C0 dX5_border_66 rfl (by decide) (by first | rfl | simp [zst1, zst2, zcat_rf]) ?_
  refine zr_iinc (lv' := [(5, .int (p5 + 1)), (3, .int (s0 + s1)), (0, .ref p0), (1, .int p1), (2, .int p2), (4, .int p4)]) C0 dX5_border_67 5 rfl rfl (by decide) (by first | rfl | simp [zst1, zst2, zcat_rf]) ?_
  refine zr_goto C0 (tgt := 16) dX5_border_70 (by decide) ?_
  refine zr_sub [2, 3, 4, 1, 5, 0] rfl ?_
  exact hk16 _ _ _ _ _ _ _ hf
def f_X5_border_b64 (E : zE) (k5 : Nat → Int32 → Int32 → Int32 → Int32 → zH → Option (Int32 × zH)) (k16 : Nat → Int32 → Int32 → Int32 → Int32 → Int32 → zH → Option (Int32 × zH)) (p0 : Nat) (p1 : Int32) (p2 : Int32) (p4 : Int32) (p5 : Int32) (s0 : Int32) (h : zH) : Option (Int32 × zH) :=
  f_X5_border_b65 E k5 k16 p0 p1 p2 p4 p5 s0 (0 : Int32) h
theorem w_X5_border_b64 (C0 : zCx p l e R s m args below meth c D B0 7 "FranchiseLedger$Grid" cX5_border E 3 108 (Option.some Jvm.ClassFile.FieldType.int) "border") {r : Int32} {h' : zH} {k5 : Nat → Int32 → Int32 → Int32 → Int32 → zH → Option (Int32 × zH)} (hk5 : ∀ (p0 : Nat) (p1 : Int32) (p2 : Int32) (p3 : Int32) (p4 : Int32) (h : zH), k5 p0 p1 p2 p3 p4 h = some (r, h') → zW p l e R s m args below meth c D B0 7 (zEnd D B0 R below args s (zoI r) h') h 5 [(0, .ref p0), (1, .int p1), (2, .int p2), (3, .int p3), (4, .int p4)] []) {k16 : Nat → Int32 → Int32 → Int32 → Int32 → Int32 → zH → Option (Int32 × zH)} (hk16 : ∀ (p0 : Nat) (p1 : Int32) (p2 : Int32) (p3 : Int32) (p4 : Int32) (p5 : Int32) (h : zH), k16 p0 p1 p2 p3 p4 p5 h = some (r, h') → zW p l e R s m args below meth c D B0 7 (zEnd D B0 R below args s (zoI r) h') h 16 [(0, .ref p0), (1, .int p1), (2, .int p2), (3, .int p3), (4, .int p4), (5, .int p5)] []) {p0 : Nat} {p1 : Int32} {p2 : Int32} {p4 : Int32} {p5 : Int32} {s0 : Int32} {h : zH} (hf : f_X5_border_b64 E k5 k16 p0 p1 p2 p4 p5 s0 h = some (r, h')) : zW p l e R s m args below meth c D B0 7 (zEnd D B0 R below args s (zoI r) h') h 64 [(0, .ref p0), (1, .int p1), (2, .int p2), (4, .int p4), (5, .int p5)] [.int s0] := by
  unfold f_X5_border_b64 at hf
  refine zr_iconst C0 (v := 0) dX5_border_64 (by decide) ?_
  exact w_X5_border_b65 C0 hk5 hk16 hf
def f_X5_border_l16 (E : zE) (k5 : Nat → Int32 → Int32 → Int32 → Int32 → zH → Option (Int32 × zH)) : Nat → Nat → Int32 → Int32 → Int32 → Int32 → Int32 → zH → Option (Int32 × zH)
  | 0, _, _, _, _, _, _, _ => none
  | n + 1, p0, p1, p2, p3, p4, p5, h =>
    if (4 : Int32) ≤ p5 then (
      f_X5_border_b73 E k5 p0 p1 p2 p3 p4 h
    ) else (
      (gR h p0 5 0).bind fun x2 =>
      (dI h x2 2 p4).bind fun x4 =>
      if x4 = p1 then (
        bnd2 (f_X5_neighbour E p4 p5 h) fun x9 h7 =>
        if x9 = (-1 : Int32) then (
          f_X5_border_b64 E k5 (f_X5_border_l16 E k5 n) p0 p1 p2 p4 p5 p3 h7
        ) else (
          (gR h7 p0 5 0).bind fun x11 =>
          (dI h7 x11 2 x9).bind fun x13 =>
          if x13 = p2 then (
            f_X5_border_b65 E k5 (f_X5_border_l16 E k5 n) p0 p1 p2 p4 p5 p3 (1 : Int32) h7
          ) else (
            f_X5_border_b64 E k5 (f_X5_border_l16 E k5 n) p0 p1 p2 p4 p5 p3 h7
          )
        )
      ) else (
        f_X5_border_b73 E k5 p0 p1 p2 p3 p4 h
      )
    )
theorem w_X5_border_l16 (C0 : zCx p l e R s m args below meth c D B0 7 "FranchiseLedger$Grid" cX5_border E 3 108 (Option.some Jvm.ClassFile.FieldType.int) "border") {r : Int32} {h' : zH} {k5 : Nat → Int32 → Int32 → Int32 → Int32 → zH → Option (Int32 × zH)} (hk5 : ∀ (p0 : Nat) (p1 : Int32) (p2 : Int32) (p3 : Int32) (p4 : Int32) (h : zH), k5 p0 p1 p2 p3 p4 h = some (r, h') → zW p l e R s m args below meth c D B0 7 (zEnd D B0 R below args s (zoI r) h') h 5 [(0, .ref p0), (1, .int p1), (2, .int p2), (3, .int p3), (4, .int p4)] []) : ∀ (n : Nat) (p0 : Nat) (p1 : Int32) (p2 : Int32) (p3 : Int32) (p4 : Int32) (p5 : Int32) (h : zH), f_X5_border_l16 E k5 n p0 p1 p2 p3 p4 p5 h = some (r, h') → zW p l e R s m args below meth c D B0 7 (zEnd D B0 R below args s (zoI r) h') h 16 [(0, .ref p0), (1, .int p1), (2, .int p2), (3, .int p3), (4, .int p4), (5, .int p5)] [] := by
  intro n
  induction n with
  | zero =>
    intro p0 p1 p2 p3 p4 p5 h hf
    unfold f_X5_border_l16 at hf
    cases hf
  | succ n ih =>
    intro p0 p1 p2 p3 p4 p5 h hf
    unfold f_X5_border_l16 at hf
    refine zr_iload C0 dX5_border_16 5 rfl ?_
    refine zr_iconst C0 (v := 4) dX5_border_18 (by decide) ?_
    refine zr_icmp_ge C0 (tgt := 73) dX5_border_19 (by decide) (fun c1 => ?_) (fun c1 => ?_)
    · have hf := zif_t c1 hf
      refine zr_sub [0, 1, 2, 3, 4] rfl ?_
      exact w_X5_border_b73 C0 hk5 hf
    · have hf := zif_f c1 hf
      refine zr_aload_n C0 dX5_border_22 rfl 0 rfl ?_
      obtain ⟨x2, e3, hf⟩ := zbind hf
      refine zr_get C0 fl_X5_9_X5 dX5_border_23 (zgR e3) ?_
      refine zr_iload C0 dX5_border_26 4 rfl ?_
      obtain ⟨x4, e5, hf⟩ := zbind hf
      refine zr_bald C0 dX5_border_28 e5 ?_
      refine zr_iload_n C0 dX5_border_29 rfl 1 rfl ?_
      refine zr_icmp_ne C0 (tgt := 73) dX5_border_30 (by decide) (fun c6 => ?_) (fun c6 => ?_)
      · have hf := zif_f c6 hf
        refine zr_sub [0, 1, 2, 3, 4] rfl ?_
        exact w_X5_border_b73 C0 hk5 hf
      · have hf := zif_t c6 hf
        refine zr_iload C0 dX5_border_33 4 rfl ?_
        refine zr_iload C0 dX5_border_35 5 rfl ?_
        obtain ⟨x9, h7, e8, hf⟩ := zbind2 hf
        refine zr_callS_r C0 cv_X5_46 (m_X5_neighbour C0.2.2.2.2.2.2.1 e8) (by decide) (by decide) rfl rfl (Nat.le_of_ble_eq_true rfl) dX5_border_37 rfl ?_
        refine zr_istore (i := 6) (lv' := [(6, .int x9), (0, .ref p0), (1, .int p1), (2, .int p2), (3, .int p3), (4, .int p4), (5, .int p5)]) C0 dX5_border_40 (by decide) (by first | rfl | simp [zst1, zst2, zcat_rf]) ?_
        refine zr_iload_n C0 dX5_border_42 rfl 4 rfl ?_
        refine zr_iload C0 dX5_border_43 0 rfl ?_
        refine zr_iconst C0 (v := -1) dX5_border_45 (by decide) ?_
        refine zr_icmp_eq C0 (tgt := 64) dX5_border_46 (by decide) (fun c10 => ?_) (fun c10 => ?_)
        · have hf := zif_t c10 hf
          refine zr_sub [1, 2, 3, 5, 6] rfl ?_
          exact w_X5_border_b64 C0 hk5 ih hf
        · have hf := zif_f c10 hf
          refine zr_aload_n C0 dX5_border_49 rfl 1 rfl ?_
          obtain ⟨x11, e12, hf⟩ := zbind hf
          refine zr_get C0 fl_X5_9_X5 dX5_border_50 (zgR e12) ?_
          refine zr_iload C0 dX5_border_53 0 rfl ?_
          obtain ⟨x13, e14, hf⟩ := zbind hf
          refine zr_bald C0 dX5_border_55 e14 ?_
          refine zr_iload_n C0 dX5_border_56 rfl 3 rfl ?_
          refine zr_icmp_ne C0 (tgt := 64) dX5_border_57 (by decide) (fun c15 => ?_) (fun c15 => ?_)
          · have hf := zif_f c15 hf
            refine zr_sub [1, 2, 3, 5, 6] rfl ?_
            exact w_X5_border_b64 C0 hk5 ih hf
          · have hf := zif_t c15 hf
            refine zr_iconst C0 (v := 1) dX5_border_60 (by decide) ?_
            refine zr_goto C0 (tgt := 65) dX5_border_61 (by decide) ?_
            refine zr_sub [1, 2, 3, 5, 6] rfl ?_
            exact w_X5_border_b65 C0 hk5 ih hf
def f_X5_border_l5 (E : zE) : Nat → Nat → Int32 → Int32 → Int32 → Int32 → zH → Option (Int32 × zH)
  | 0, _, _, _, _, _, _ => none
  | n + 1, p0, p1, p2, p3, p4, h =>
    if (900 : Int32) ≤ p4 then (
      some (p3, h)
    ) else (
      f_X5_border_l16 E (f_X5_border_l5 E n) E.1 p0 p1 p2 p3 p4 (0 : Int32) h
    )
theorem w_X5_border_l5 (C0 : zCx p l e R s m args below meth c D B0 7 "FranchiseLedger$Grid" cX5_border E 3 108 (Option.some Jvm.ClassFile.FieldType.int) "border") {r : Int32} {h' : zH} : ∀ (n : Nat) (p0 : Nat) (p1 : Int32) (p2 : Int32) (p3 : Int32) (p4 : Int32) (h : zH), f_X5_border_l5 E n p0 p1 p2 p3 p4 h = some (r, h') → zW p l e R s m args below meth c D B0 7 (zEnd D B0 R below args s (zoI r) h') h 5 [(0, .ref p0), (1, .int p1), (2, .int p2), (3, .int p3), (4, .int p4)] [] := by
  intro n
  induction n with
  | zero =>
    intro p0 p1 p2 p3 p4 h hf
    unfold f_X5_border_l5 at hf
    cases hf
  | succ n ih =>
    intro p0 p1 p2 p3 p4 h hf
    unfold f_X5_border_l5 at hf
    refine zr_iload C0 dX5_border_5 4 rfl ?_
    refine zr_sipush C0 (v := 900) dX5_border_7 (by decide) ?_
    refine zr_icmp_ge C0 (tgt := 79) dX5_border_10 (by decide) (fun c1 => ?_) (fun c1 => ?_)
    · have hf := zif_t c1 hf
      refine zr_iload_n C0 dX5_border_79 rfl 3 rfl ?_
      refine zretW hf ?_
      exact zr_iret C0 (ty := .int) rfl rfl dX5_border_80 rfl
    · have hf := zif_f c1 hf
      refine zr_iconst C0 (v := 0) dX5_border_13 (by decide) ?_
      refine zr_istore (i := 5) (lv' := [(5, .int (0 : Int32)), (0, .ref p0), (1, .int p1), (2, .int p2), (3, .int p3), (4, .int p4)]) C0 dX5_border_14 (by decide) (by first | rfl | simp [zst1, zst2, zcat_rf]) ?_
      refine zr_sub [1, 2, 3, 4, 5, 0] rfl ?_
      exact w_X5_border_l16 C0 ih _ _ _ _ _ _ _ _ hf
def f_X5_border_b0 (E : zE) (p0 : Nat) (p1 : Int32) (p2 : Int32) (h : zH) : Option (Int32 × zH) :=
  f_X5_border_l5 E E.1 p0 p1 p2 (0 : Int32) (0 : Int32) h
theorem w_X5_border_b0 (C0 : zCx p l e R s m args below meth c D B0 7 "FranchiseLedger$Grid" cX5_border E 3 108 (Option.some Jvm.ClassFile.FieldType.int) "border") {r : Int32} {h' : zH} {p0 : Nat} {p1 : Int32} {p2 : Int32} {h : zH} (hf : f_X5_border_b0 E p0 p1 p2 h = some (r, h')) : zW p l e R s m args below meth c D B0 7 (zEnd D B0 R below args s (zoI r) h') h 0 [(0, .ref p0), (1, .int p1), (2, .int p2)] [] := by
  unfold f_X5_border_b0 at hf
  refine zr_iconst C0 (v := 0) dX5_border_0 (by decide) ?_
  refine zr_istore_n (i := 3) (lv' := [(3, .int (0 : Int32)), (0, .ref p0), (1, .int p1), (2, .int p2)]) C0 dX5_border_1 rfl (by decide) (by first | rfl | simp [zst1, zst2, zcat_rf]) ?_
  refine zr_iconst C0 (v := 0) dX5_border_2 (by decide) ?_
  refine zr_istore (i := 4) (lv' := [(4, .int (0 : Int32)), (3, .int (0 : Int32)), (0, .ref p0), (1, .int p1), (2, .int p2)]) C0 dX5_border_3 (by decide) (by first | rfl | simp [zst1, zst2, zcat_rf]) ?_
  refine zr_sub [2, 3, 4, 1, 0] rfl ?_
  exact w_X5_border_l5 C0 _ _ _ _ _ _ _ hf
def f_X5_border (E : zE) (p0 : Nat) (p1 : Int32) (p2 : Int32) (h : zH) : Option (Int32 × zH) := f_X5_border_b0 E p0 p1 p2 h
theorem m_X5_border {l : Launch} (hst : l.stackTraces = false) {D : zD} {B0 : Nat} {E : zE} {p0 : Nat} {p1 : Int32} {p2 : Int32} {h h' : zH} {r : Int32} (hf : f_X5_border E p0 p1 p2 h = some (r, h')) : zMet l yX5_border (ws_ yX5_border cX5_border 7 (Option.some Jvm.ClassFile.FieldType.int)) 3 108 D B0 E [.ref p0, .int p1, .int p2] h (zoI r) h' := by
  unfold f_X5_border at hf
  refine zMet_of hst (by decide +kernel) rfl rfl (Nat.le_of_ble_eq_true rfl) (fun p e R s m below meth c C0 hno => ?_)
  show zW _ _ _ _ _ _ _ _ _ _ _ _ _ _ _ _ [(0, .ref p0), (1, .int p1), (2, .int p2)] []
  exact w_X5_border_b0 C0 hf
def f_X1_border_b43 (E : zE) (s0 : Int32) (h : zH) : Option ((Int32 ⊕ (Nat × Nat)) × zH) :=
  some (.inl s0, h)
theorem w_X1_border_b43 (C0 : zCx p l e R s m args below meth c D B0 3 "FranchiseLedger" cX1_border E 10 154 (Option.some Jvm.ClassFile.FieldType.int) "border") (hno : ∀ x ∈ c.exceptionTable.toList, False) {r : (Int32 ⊕ (Nat × Nat))} {h' : zH} {s0 : Int32} {h : zH} (hf : f_X1_border_b43 E s0 h = some (r, h')) : zW p l e R s m args below meth c D B0 3 (zEnd D B0 R below args s (zoT zoI r) h') h 43 [] [.int s0] := by
  unfold f_X1_border_b43 at hf
  refine zretW hf ?_
  exact zr_iret C0 (ty := .int) rfl rfl dX1_border_43 rfl
def f_X1_border_b0 (E : zE) (p0 : Nat) (p1 : Int32) (p2 : Int32) (h : zH) : Option ((Int32 ⊕ (Nat × Nat)) × zH) :=
  bnd2 (nA h 3 (2 : Int32) (.inl fun _ => 0)) fun q1 h2 =>
  (cko h2 p0 0).bind fun _ =>
  bnd2 (f_X1_isFranchisee E p0 p1 h2) fun x7 h5 =>
  (zgd .boolean x7).bind fun _ =>
  (sI h5 q1 3 (0 : Int32) x7).bind fun h9 =>
  (cko h9 p0 0).bind fun _ =>
  bnd2 (f_X1_isFranchisee E p0 p2 h9) fun x14 h12 =>
  (zgd .boolean x14).bind fun _ =>
  (sI h12 q1 3 (1 : Int32) x14).bind fun h16 =>
  bnd2 (f_X1_requireIndex E q1 h16) fun x20 h18 =>
  Sum.elim (fun x21 => (
    if p1 = p2 then (
      f_X1_border_b43 E (0 : Int32) h18
    ) else (
      (gR h18 p0 0 1).bind fun x24 =>
      (gR h18 x24 4 2).bind fun x26 =>
      (cko h18 x26 5).bind fun _ =>
      bnd2 (f_X5_border E x26 p1 p2 h18) fun x31 h29 =>
      f_X1_border_b43 E x31 h29
    )
  )) (fun q22 => (
    some (.inr q22, h18)
  )) x20
theorem w_X1_border_b0 (C0 : zCx p l e R s m args below meth c D B0 3 "FranchiseLedger" cX1_border E 10 154 (Option.some Jvm.ClassFile.FieldType.int) "border") (hno : ∀ x ∈ c.exceptionTable.toList, False) {r : (Int32 ⊕ (Nat × Nat))} {h' : zH} {p0 : Nat} {p1 : Int32} {p2 : Int32} {h : zH} (hf : f_X1_border_b0 E p0 p1 p2 h = some (r, h')) : zW p l e R s m args below meth c D B0 3 (zEnd D B0 R below args s (zoT zoI r) h') h 0 [(0, .ref p0), (1, .int p1), (2, .int p2)] [] := by
  unfold f_X1_border_b0 at hf
  refine zr_iconst C0 (v := 2) dX1_border_0 (by decide) ?_
  obtain ⟨q1, h2, e3, hf⟩ := zbind2 hf
  refine zr_newa C0 (atype := .boolean) (t := 3) q627 rfl (by decide) (fun _ => rfl) dX1_border_1 e3 ?_
  refine zr_dup C0 dX1_border_3 rfl ?_
  refine zr_iconst C0 (v := 0) dX1_border_4 (by decide) ?_
  refine zr_aload_n C0 dX1_border_5 rfl 0 rfl ?_
  refine zr_iload_n C0 dX1_border_6 rfl 1 rfl ?_
  obtain ⟨_, e4, hf⟩ := zbind hf
  obtain ⟨x7, h5, e6, hf⟩ := zbind2 hf
  refine zr_callV_r C0 cv_X1_88_X1 rfl (zcko e4) (m_X1_isFranchisee C0.2.2.2.2.2.2.1 e6) (by decide) (by decide) rfl rfl (Nat.le_of_ble_eq_true rfl) dX1_border_7 rfl ?_
  obtain ⟨_, e8, hf⟩ := zbind hf
  obtain ⟨h9, e10, hf⟩ := zbind hf
  refine zr_zast C0 dX1_border_10 (zgd_b e8) e10 ?_
  refine zr_dup C0 dX1_border_11 rfl ?_
  refine zr_iconst C0 (v := 1) dX1_border_12 (by decide) ?_
  refine zr_aload_n C0 dX1_border_13 rfl 0 rfl ?_
  refine zr_iload_n C0 dX1_border_14 rfl 2 rfl ?_
  obtain ⟨_, e11, hf⟩ := zbind hf
  obtain ⟨x14, h12, e13, hf⟩ := zbind2 hf
  refine zr_callV_r C0 cv_X1_88_X1 rfl (zcko e11) (m_X1_isFranchisee C0.2.2.2.2.2.2.1 e13) (by decide) (by decide) rfl rfl (Nat.le_of_ble_eq_true rfl) dX1_border_15 rfl ?_
  obtain ⟨_, e15, hf⟩ := zbind hf
  obtain ⟨h16, e17, hf⟩ := zbind hf
  refine zr_zast C0 dX1_border_18 (zgd_b e15) e17 ?_
  obtain ⟨x20, h18, e19, hf⟩ := zbind2 hf
  rcases x20 with x21 | q22
  · have hf := zinl hf
    refine zr_callS_r C0 cv_X1_92 (m_X1_requireIndex C0.2.2.2.2.2.2.1 e19) (by decide) (by decide) rfl rfl (Nat.le_of_ble_eq_true rfl) dX1_border_19 rfl ?_
    refine zr_iload_n C0 dX1_border_22 rfl 1 rfl ?_
    refine zr_iload_n C0 dX1_border_23 rfl 2 rfl ?_
    refine zr_icmp_ne C0 (tgt := 31) dX1_border_24 (by decide) (fun c23 => ?_) (fun c23 => ?_)
    · have hf := zif_f c23 hf
      refine zr_aload_n C0 dX1_border_31 rfl 0 rfl ?_
      obtain ⟨x24, e25, hf⟩ := zbind hf
      refine zr_get C0 fl_X1_39_X1 dX1_border_32 (zgR e25) ?_
      obtain ⟨x26, e27, hf⟩ := zbind hf
      refine zr_get C0 fl_X1_171_X4 dX1_border_35 (zgR e27) ?_
      refine zr_iload_n C0 dX1_border_38 rfl 1 rfl ?_
      refine zr_iload_n C0 dX1_border_39 rfl 2 rfl ?_
      obtain ⟨_, e28, hf⟩ := zbind hf
      obtain ⟨x31, h29, e30, hf⟩ := zbind2 hf
      refine zr_callV_r C0 cv_X1_189_X5 rfl (zcko e28) (m_X5_border C0.2.2.2.2.2.2.1 e30) (by decide) (by decide) rfl rfl (Nat.le_of_ble_eq_true rfl) dX1_border_40 rfl ?_
      refine zr_sub [] rfl ?_
      exact w_X1_border_b43 C0 hno hf
    · have hf := zif_t c23 hf
      refine zr_iconst C0 (v := 0) dX1_border_27 (by decide) ?_
      refine zr_goto C0 (tgt := 43) dX1_border_28 (by decide) ?_
      refine zr_sub [] rfl ?_
      exact w_X1_border_b43 C0 hno hf
  · have hf := zinr hf
    refine zretW hf ?_
    exact zr_callS_t C0 cv_X1_92 (m_X1_requireIndex C0.2.2.2.2.2.2.1 e19) (by decide) (by decide) rfl rfl (Nat.le_of_ble_eq_true rfl) dX1_border_19 (zr_out C0 hno rfl)
def f_X1_border (E : zE) (p0 : Nat) (p1 : Int32) (p2 : Int32) (h : zH) : Option ((Int32 ⊕ (Nat × Nat)) × zH) := f_X1_border_b0 E p0 p1 p2 h
theorem m_X1_border {l : Launch} (hst : l.stackTraces = false) {D : zD} {B0 : Nat} {E : zE} {p0 : Nat} {p1 : Int32} {p2 : Int32} {h h' : zH} {r : (Int32 ⊕ (Nat × Nat))} (hf : f_X1_border E p0 p1 p2 h = some (r, h')) : zMet l yX1_border (ws_ yX1_border cX1_border 3 (Option.some Jvm.ClassFile.FieldType.int)) 10 154 D B0 E [.ref p0, .int p1, .int p2] h (zoT zoI r) h' := by
  unfold f_X1_border at hf
  refine zMet_of hst (by decide +kernel) rfl rfl (Nat.le_of_ble_eq_true rfl) (fun p e R s m below meth c C0 hno => ?_)
  show zW _ _ _ _ _ _ _ _ _ _ _ _ _ _ _ _ [(0, .ref p0), (1, .int p1), (2, .int p2)] []
  exact w_X1_border_b0 C0 hno hf
def f_X5_first_l2 (E : zE) : Nat → Nat → Int32 → Int32 → zH → Option (Int32 × zH)
  | 0, _, _, _, _ => none
  | n + 1, p0, p1, p2, h =>
    if (900 : Int32) ≤ p2 then (
      some ((-1 : Int32), h)
    ) else (
      (gR h p0 5 0).bind fun x2 =>
      (dI h x2 2 p2).bind fun x4 =>
      if x4 = p1 then (
        some (p2, h)
      ) else (
        f_X5_first_l2 E n p0 p1 (p2 + 1) h
      )
    )
theorem w_X5_first_l2 (C0 : zCx p l e R s m args below meth c D B0 3 "FranchiseLedger$Grid" cX5_first E 1 60 (Option.some Jvm.ClassFile.FieldType.int) "first") {r : Int32} {h' : zH} : ∀ (n : Nat) (p0 : Nat) (p1 : Int32) (p2 : Int32) (h : zH), f_X5_first_l2 E n p0 p1 p2 h = some (r, h') → zW p l e R s m args below meth c D B0 3 (zEnd D B0 R below args s (zoI r) h') h 2 [(0, .ref p0), (1, .int p1), (2, .int p2)] [] := by
  intro n
  induction n with
  | zero =>
    intro p0 p1 p2 h hf
    unfold f_X5_first_l2 at hf
    cases hf
  | succ n ih =>
    intro p0 p1 p2 h hf
    unfold f_X5_first_l2 at hf
    refine zr_iload_n C0 dX5_first_2 rfl 2 rfl ?_
    refine zr_sipush C0 (v := 900) dX5_first_3 (by decide) ?_
    refine zr_icmp_ge C0 (tgt := 27) dX5_first_6 (by decide) (fun c1 => ?_) (fun c1 => ?_)
    · have hf := zif_t c1 hf
      refine zr_iconst C0 (v := -1) dX5_first_27 (by decide) ?_
      refine zretW hf ?_
      exact zr_iret C0 (ty := .int) rfl rfl dX5_first_28 rfl
    · have hf := zif_f c1 hf
      refine zr_aload_n C0 dX5_first_9 rfl 0 rfl ?_
      obtain ⟨x2, e3, hf⟩ := zbind hf
      refine zr_get C0 fl_X5_9_X5 dX5_first_10 (zgR e3) ?_
      refine zr_iload_n C0 dX5_first_13 rfl 2 rfl ?_
      obtain ⟨x4, e5, hf⟩ := zbind hf
      refine zr_bald C0 dX5_first_14 e5 ?_
      refine zr_iload_n C0 dX5_first_15 rfl 1 rfl ?_
      refine zr_icmp_ne C0 (tgt := 21) dX5_first_16 (by decide) (fun c6 => ?_) (fun c6 => ?_)
      · have hf := zif_f c6 hf
        refine zr_iinc (lv' := [(2, .int (p2 + 1)), (0, .ref p0), (1, .int p1)]) C0 dX5_first_21 2 rfl rfl (by decide) (by first | rfl | simp [zst1, zst2, zcat_rf]) ?_
        refine zr_goto C0 (tgt := 2) dX5_first_24 (by decide) ?_
        refine zr_sub [1, 2, 0] rfl ?_
        exact ih _ _ _ _ hf
      · have hf := zif_t c6 hf
        refine zr_iload_n C0 dX5_first_19 rfl 2 rfl ?_
        refine zretW hf ?_
        exact zr_iret C0 (ty := .int) rfl rfl dX5_first_20 rfl
def f_X5_first_b0 (E : zE) (p0 : Nat) (p1 : Int32) (h : zH) : Option (Int32 × zH) :=
  f_X5_first_l2 E E.1 p0 p1 (0 : Int32) h
theorem w_X5_first_b0 (C0 : zCx p l e R s m args below meth c D B0 3 "FranchiseLedger$Grid" cX5_first E 1 60 (Option.some Jvm.ClassFile.FieldType.int) "first") {r : Int32} {h' : zH} {p0 : Nat} {p1 : Int32} {h : zH} (hf : f_X5_first_b0 E p0 p1 h = some (r, h')) : zW p l e R s m args below meth c D B0 3 (zEnd D B0 R below args s (zoI r) h') h 0 [(0, .ref p0), (1, .int p1)] [] := by
  unfold f_X5_first_b0 at hf
  refine zr_iconst C0 (v := 0) dX5_first_0 (by decide) ?_
  refine zr_istore_n (i := 2) (lv' := [(2, .int (0 : Int32)), (0, .ref p0), (1, .int p1)]) C0 dX5_first_1 rfl (by decide) (by first | rfl | simp [zst1, zst2, zcat_rf]) ?_
  refine zr_sub [1, 2, 0] rfl ?_
  exact w_X5_first_l2 C0 _ _ _ _ _ hf
def f_X5_first (E : zE) (p0 : Nat) (p1 : Int32) (h : zH) : Option (Int32 × zH) := f_X5_first_b0 E p0 p1 h
theorem m_X5_first {l : Launch} (hst : l.stackTraces = false) {D : zD} {B0 : Nat} {E : zE} {p0 : Nat} {p1 : Int32} {h h' : zH} {r : Int32} (hf : f_X5_first E p0 p1 h = some (r, h')) : zMet l yX5_first (ws_ yX5_first cX5_first 3 (Option.some Jvm.ClassFile.FieldType.int)) 1 60 D B0 E [.ref p0, .int p1] h (zoI r) h' := by
  unfold f_X5_first at hf
  refine zMet_of hst (by decide +kernel) rfl rfl (Nat.le_of_ble_eq_true rfl) (fun p e R s m below meth c C0 hno => ?_)
  show zW _ _ _ _ _ _ _ _ _ _ _ _ _ _ _ _ [(0, .ref p0), (1, .int p1)] []
  exact w_X5_first_b0 C0 hf
def f_X5_isConnected_b158 (E : zE) (s0 : Int32) (h : zH) : Option (Int32 × zH) :=
  (zgd .boolean s0).bind fun _ =>
  some (s0, h)
theorem w_X5_isConnected_b158 (C0 : zCx p l e R s m args below meth c D B0 7 "FranchiseLedger$Grid" cX5_isConnected E 3 108 (Option.some Jvm.ClassFile.FieldType.boolean) "isConnected") {r : Int32} {h' : zH} {s0 : Int32} {h : zH} (hf : f_X5_isConnected_b158 E s0 h = some (r, h')) : zW p l e R s m args below meth c D B0 7 (zEnd D B0 R below args s (zoI r) h') h 158 [] [.int s0] := by
  unfold f_X5_isConnected_b158 at hf
  obtain ⟨_, e1, hf⟩ := zbind hf
  refine zretW hf ?_
  exact zr_iret C0 (ty := .boolean) rfl (zgd_n e1) dX5_isConnected_158 rfl
def f_X5_isConnected_b132 (E : zE) (k54 : Nat → Int32 → Int32 → Int32 → zH → Option (Int32 × zH)) (k63 : Nat → Int32 → Int32 → Int32 → Int32 → zH → Option (Int32 × zH)) (p0 : Nat) (p1 : Int32) (p3 : Int32) (p4 : Int32) (p5 : Int32) (h : zH) : Option (Int32 × zH) :=
  k63 p0 p1 p3 p4 (p5 + 1) h
theorem w_X5_isConnected_b132 (C0 : zCx p l e R s m args below meth c D B0 7 "FranchiseLedger$Grid" cX5_isConnected E 3 108 (Option.some Jvm.ClassFile.FieldType.boolean) "isConnected") {r : Int32} {h' : zH} {k54 : Nat → Int32 → Int32 → Int32 → zH → Option (Int32 × zH)} (hk54 : ∀ (p0 : Nat) (p1 : Int32) (p3 : Int32) (p4 : Int32) (h : zH), k54 p0 p1 p3 p4 h = some (r, h') → zW p l e R s m args below meth c D B0 7 (zEnd D B0 R below args s (zoI r) h') h 54 [(0, .ref p0), (1, .int p1), (3, .int p3), (4, .int p4)] []) {k63 : Nat → Int32 → Int32 → Int32 → Int32 → zH → Option (Int32 × zH)} (hk63 : ∀ (p0 : Nat) (p1 : Int32) (p3 : Int32) (p4 : Int32) (p5 : Int32) (h : zH), k63 p0 p1 p3 p4 p5 h = some (r, h') → zW p l e R s m args below meth c D B0 7 (zEnd D B0 R below args s (zoI r) h') h 63 [(0, .ref p0), (1, .int p1), (3, .int p3), (4, .int p4), (5, .int p5)] []) {p0 : Nat} {p1 : Int32} {p3 : Int32} {p4 : Int32} {p5 : Int32} {h : zH} (hf : f_X5_isConnected_b132 E k54 k63 p0 p1 p3 p4 p5 h = some (r, h')) : zW p l e R s m args below meth c D B0 7 (zEnd D B0 R below args s (zoI r) h') h 132 [(0, .ref p0), (1, .int p1), (3, .int p3), (4, .int p4), (5, .int p5)] [] := by
  unfold f_X5_isConnected_b132 at hf
  refine zr_iinc (lv' := [(5, .int (p5 + 1)), (0, .ref p0), (1, .int p1), (3, .int p3), (4, .int p4)]) C0 dX5_isConnected_132 4 rfl rfl (by decide) (by first | rfl | simp [zst1, zst2, zcat_rf]) ?_
  refine zr_goto C0 (tgt := 63) dX5_isConnected_135 (by decide) ?_
  refine zr_sub [1, 2, 3, 4, 0] rfl ?_
  exact hk63 _ _ _ _ _ _ hf
def f_X5_isConnected_l63 (E : zE) (k54 : Nat → Int32 → Int32 → Int32 → zH → Option (Int32 × zH)) : Nat → Nat → Int32 → Int32 → Int32 → Int32 → zH → Option (Int32 × zH)
  | 0, _, _, _, _, _, _ => none
  | n + 1, p0, p1, p3, p4, p5, h =>
    if (4 : Int32) ≤ p5 then (
      k54 p0 p1 p3 (p4 + 1) h
    ) else (
      (gR h p0 5 1).bind fun x2 =>
      (dI h x2 0 p4).bind fun x4 =>
      bnd2 (f_X5_neighbour E x4 p5 h) fun x8 h6 =>
      if x8 = (-1 : Int32) then (
        f_X5_isConnected_b132 E k54 (f_X5_isConnected_l63 E k54 n) p0 p1 p3 p4 p5 h6
      ) else (
        (gR h6 p0 5 2).bind fun x10 =>
        (dI h6 x10 3 x8).bind fun x12 =>
        if x12 = 0 then (
          (gR h6 p0 5 0).bind fun x15 =>
          (dI h6 x15 2 x8).bind fun x17 =>
          if x17 = p1 then (
            (gR h6 p0 5 2).bind fun x20 =>
            (sI h6 x20 3 x8 (1 : Int32)).bind fun h22 =>
            (gR h22 p0 5 1).bind fun x24 =>
            (sI h22 x24 0 p3 x8).bind fun h26 =>
            f_X5_isConnected_b132 E k54 (f_X5_isConnected_l63 E k54 n) p0 p1 (p3 + 1) p4 p5 h26
          ) else (
            f_X5_isConnected_b132 E k54 (f_X5_isConnected_l63 E k54 n) p0 p1 p3 p4 p5 h6
          )
        ) else (
          f_X5_isConnected_b132 E k54 (f_X5_isConnected_l63 E k54 n) p0 p1 p3 p4 p5 h6
        )
      )
    )
theorem w_X5_isConnected_l63 (C0 : zCx p l e R s m args below meth c D B0 7 "FranchiseLedger$Grid" cX5_isConnected E 3 108 (Option.some Jvm.ClassFile.FieldType.boolean) "isConnected") {r : Int32} {h' : zH} {k54 : Nat → Int32 → Int32 → Int32 → zH → Option (Int32 × zH)} (hk54 : ∀ (p0 : Nat) (p1 : Int32) (p3 : Int32) (p4 : Int32) (h : zH), k54 p0 p1 p3 p4 h = some (r, h') → zW p l e R s m args below meth c D B0 7 (zEnd D B0 R below args s (zoI r) h') h 54 [(0, .ref p0), (1, .int p1), (3, .int p3), (4, .int p4)] []) : ∀ (n : Nat) (p0 : Nat) (p1 : Int32) (p3 : Int32) (p4 : Int32) (p5 : Int32) (h : zH), f_X5_isConnected_l63 E k54 n p0 p1 p3 p4 p5 h = some (r, h') → zW p l e R s m args below meth c D B0 7 (zEnd D B0 R below args s (zoI r) h') h 63 [(0, .ref p0), (1, .int p1), (3, .int p3), (4, .int p4), (5, .int p5)] [] := by
  intro n
  induction n with
  | zero =>
    intro p0 p1 p3 p4 p5 h hf
    unfold f_X5_isConnected_l63 at hf
    cases hf
  | succ n ih =>
    intro p0 p1 p3 p4 p5 h hf
    unfold f_X5_isConnected_l63 at hf
    refine zr_iload C0 dX5_isConnected_63 4 rfl ?_
    refine zr_iconst C0 (v := 4) dX5_isConnected_65 (by decide) ?_
    refine zr_icmp_ge C0 (tgt := 138) dX5_isConnected_66 (by decide) (fun c1 => ?_) (fun c1 => ?_)
    · have hf := zif_t c1 hf
      refine zr_iinc (lv' := [(4, .int (p4 + 1)), (0, .ref p0), (1, .int p1), (3, .int p3), (5, .int p5)]) C0 dX5_isConnected_138 3 rfl rfl (by decide) (by first | rfl | simp [zst1, zst2, zcat_rf]) ?_
      refine zr_goto C0 (tgt := 54) dX5_isConnected_141 (by decide) ?_
      refine zr_sub [1, 2, 3, 0] rfl ?_
      exact hk54 _ _ _ _ _ hf
    · have hf := zif_f c1 hf
      refine zr_aload_n C0 dX5_isConnected_69 rfl 0 rfl ?_
      obtain ⟨x2, e3, hf⟩ := zbind hf
      refine zr_get C0 fl_X5_15_X5 dX5_isConnected_70 (zgR e3) ?_
      refine zr_iload C0 dX5_isConnected_73 3 rfl ?_
      obtain ⟨x4, e5, hf⟩ := zbind hf
      refine zr_iald C0 dX5_isConnected_75 e5 ?_
      refine zr_iload C0 dX5_isConnected_76 4 rfl ?_
      obtain ⟨x8, h6, e7, hf⟩ := zbind2 hf
      refine zr_callS_r C0 cv_X5_46 (m_X5_neighbour C0.2.2.2.2.2.2.1 e7) (by decide) (by decide) rfl rfl (Nat.le_of_ble_eq_true rfl) dX5_isConnected_78 rfl ?_
      refine zr_istore (i := 6) (lv' := [(6, .int x8), (0, .ref p0), (1, .int p1), (3, .int p3), (4, .int p4), (5, .int p5)]) C0 dX5_isConnected_81 (by decide) (by first | rfl | simp [zst1, zst2, zcat_rf]) ?_
      refine zr_iload C0 dX5_isConnected_83 0 rfl ?_
      refine zr_iconst C0 (v := -1) dX5_isConnected_85 (by decide) ?_
      refine zr_icmp_eq C0 (tgt := 132) dX5_isConnected_86 (by decide) (fun c9 => ?_) (fun c9 => ?_)
      · have hf := zif_t c9 hf
        refine zr_sub [1, 2, 3, 4, 5] rfl ?_
        exact w_X5_isConnected_b132 C0 hk54 ih hf
      · have hf := zif_f c9 hf
        refine zr_aload_n C0 dX5_isConnected_89 rfl 1 rfl ?_
        obtain ⟨x10, e11, hf⟩ := zbind hf
        refine zr_get C0 fl_X5_19_X5 dX5_isConnected_90 (zgR e11) ?_
        refine zr_iload C0 dX5_isConnected_93 0 rfl ?_
        obtain ⟨x12, e13, hf⟩ := zbind hf
        refine zr_zald C0 dX5_isConnected_95 e13 ?_
        refine zr_if_ne C0 (tgt := 132) dX5_isConnected_96 (by decide) (fun c14 => ?_) (fun c14 => ?_)
        · have hf := zif_f c14 hf
          refine zr_sub [1, 2, 3, 4, 5] rfl ?_
          exact w_X5_isConnected_b132 C0 hk54 ih hf
        · have hf := zif_t c14 hf
          refine zr_aload_n C0 dX5_isConnected_99 rfl 1 rfl ?_
          obtain ⟨x15, e16, hf⟩ := zbind hf
          refine zr_get C0 fl_X5_9_X5 dX5_isConnected_100 (zgR e16) ?_
          refine zr_iload C0 dX5_isConnected_103 0 rfl ?_
          obtain ⟨x17, e18, hf⟩ := zbind hf
          refine zr_bald C0 dX5_isConnected_105 e18 ?_
          refine zr_iload_n C0 dX5_isConnected_106 rfl 2 rfl ?_
          refine zr_icmp_eq C0 (tgt := 113) dX5_isConnected_107 (by decide) (fun c19 => ?_) (fun c19 => ?_)
          · have hf := zif_t c19 hf
            refine zr_aload_n C0 dX5_isConnected_113 rfl 1 rfl ?_
            obtain ⟨x20, e21, hf⟩ := zbind hf
            refine zr_get C0 fl_X5_19_X5 dX5_isConnected_114 (zgR e21) ?_
            refine zr_iload C0 dX5_isConnected_117 0 rfl ?_
            refine zr_iconst C0 (v := 1) dX5_isConnected_119 (by decide) ?_
            obtain ⟨h22, e23, hf⟩ := zbind hf
            refine zr_zast C0 dX5_isConnected_120 (Or.inr rfl) e23 ?_
            refine zr_aload_n C0 dX5_isConnected_121 rfl 1 rfl ?_
            obtain ⟨x24, e25, hf⟩ := zbind hf
            refine zr_get C0 fl_X5_15_X5 dX5_isConnected_122 (zgR e25) ?_
            refine zr_iload_n C0 dX5_isConnected_125 rfl 3 rfl ?_
            refine zr_iload C0 dX5_isConnected_126 0 rfl ?_
            obtain ⟨h26, e27, hf⟩ := zbind hf
            refine zr_iast C0 dX5_isConnected_128 e27 ?_
            refine zr_iinc (lv' := [(3, .int (p3 + 1)), (6, .int x8), (0, .ref p0), (1, .int p1), (4, .int p4), (5, .int p5)]) C0 dX5_isConnected_129 3 rfl rfl (by decide) (by first | rfl | simp [zst1, zst2, zcat_rf]) ?_
            refine zr_sub [2, 3, 0, 4, 5] rfl ?_
            exact w_X5_isConnected_b132 C0 hk54 ih hf
          · have hf := zif_f c19 hf
            refine zr_goto C0 (tgt := 132) dX5_isConnected_110 (by decide) ?_
            refine zr_sub [1, 2, 3, 4, 5] rfl ?_
            exact w_X5_isConnected_b132 C0 hk54 ih hf
def f_X5_isConnected_l54 (E : zE) : Nat → Nat → Int32 → Int32 → Int32 → zH → Option (Int32 × zH)
  | 0, _, _, _, _, _ => none
  | n + 1, p0, p1, p3, p4, h =>
    if p3 ≤ p4 then (
      (cko h p0 5).bind fun _ =>
      bnd2 (f_X5_area E p0 p1 h) fun x5 h3 =>
      if p3 = x5 then (
        f_X5_isConnected_b158 E (1 : Int32) h3
      ) else (
        f_X5_isConnected_b158 E (0 : Int32) h3
      )
    ) else (
      f_X5_isConnected_l63 E (f_X5_isConnected_l54 E n) E.1 p0 p1 p3 p4 (0 : Int32) h
    )
theorem w_X5_isConnected_l54 (C0 : zCx p l e R s m args below meth c D B0 7 "FranchiseLedger$Grid" cX5_isConnected E 3 108 (Option.some Jvm.ClassFile.FieldType.boolean) "isConnected") {r : Int32} {h' : zH} : ∀ (n : Nat) (p0 : Nat) (p1 : Int32) (p3 : Int32) (p4 : Int32) (h : zH), f_X5_isConnected_l54 E n p0 p1 p3 p4 h = some (r, h') → zW p l e R s m args below meth c D B0 7 (zEnd D B0 R below args s (zoI r) h') h 54 [(0, .ref p0), (1, .int p1), (3, .int p3), (4, .int p4)] [] := by
  intro n
  induction n with
  | zero =>
    intro p0 p1 p3 p4 h hf
    unfold f_X5_isConnected_l54 at hf
    cases hf
  | succ n ih =>
    intro p0 p1 p3 p4 h hf
    unfold f_X5_isConnected_l54 at hf
    refine zr_iload C0 dX5_isConnected_54 3 rfl ?_
    refine zr_iload_n C0 dX5_isConnected_56 rfl 2 rfl ?_
    refine zr_icmp_ge C0 (tgt := 144) dX5_isConnected_57 (by decide) (fun c1 => ?_) (fun c1 => ?_)
    · have hf := zif_t c1 hf
      refine zr_iload_n C0 dX5_isConnected_144 rfl 2 rfl ?_
      refine zr_aload_n C0 dX5_isConnected_145 rfl 0 rfl ?_
      refine zr_iload_n C0 dX5_isConnected_146 rfl 1 rfl ?_
      obtain ⟨_, e2, hf⟩ := zbind hf
      obtain ⟨x5, h3, e4, hf⟩ := zbind2 hf
      refine zr_callV_r C0 cv_X5_52_X5 rfl (zcko e2) (m_X5_area C0.2.2.2.2.2.2.1 e4) (by decide) (by decide) rfl rfl (Nat.le_of_ble_eq_true rfl) dX5_isConnected_147 rfl ?_
      refine zr_icmp_ne C0 (tgt := 157) dX5_isConnected_150 (by decide) (fun c6 => ?_) (fun c6 => ?_)
      · have hf := zif_f c6 hf
        refine zr_iconst C0 (v := 0) dX5_isConnected_157 (by decide) ?_
        refine zr_sub [] rfl ?_
        exact w_X5_isConnected_b158 C0 hf
      · have hf := zif_t c6 hf
        refine zr_iconst C0 (v := 1) dX5_isConnected_153 (by decide) ?_
        refine zr_goto C0 (tgt := 158) dX5_isConnected_154 (by decide) ?_
        refine zr_sub [] rfl ?_
        exact w_X5_isConnected_b158 C0 hf
    · have hf := zif_f c1 hf
      refine zr_iconst C0 (v := 0) dX5_isConnected_60 (by decide) ?_
      refine zr_istore (i := 5) (lv' := [(5, .int (0 : Int32)), (0, .ref p0), (1, .int p1), (3, .int p3), (4, .int p4)]) C0 dX5_isConnected_61 (by decide) (by first | rfl | simp [zst1, zst2, zcat_rf]) ?_
      refine zr_sub [1, 2, 3, 4, 0] rfl ?_
      exact w_X5_isConnected_l63 C0 ih _ _ _ _ _ _ _ hf
def f_X5_isConnected_l15 (E : zE) : Nat → Nat → Int32 → Int32 → Int32 → zH → Option (Int32 × zH)
  | 0, _, _, _, _, _ => none
  | n + 1, p0, p1, p2, p3, h =>
    if (900 : Int32) ≤ p3 then (
      (gR h p0 5 1).bind fun x2 =>
      (sI h x2 0 (0 : Int32) p2).bind fun h4 =>
      (gR h4 p0 5 2).bind fun x6 =>
      (sI h4 x6 3 p2 (1 : Int32)).bind fun h8 =>
      f_X5_isConnected_l54 E E.1 p0 p1 (1 : Int32) (0 : Int32) h8
    ) else (
      (gR h p0 5 2).bind fun x10 =>
      (sI h x10 3 p3 (0 : Int32)).bind fun h12 =>
      f_X5_isConnected_l15 E n p0 p1 p2 (p3 + 1) h12
    )
theorem w_X5_isConnected_l15 (C0 : zCx p l e R s m args below meth c D B0 7 "FranchiseLedger$Grid" cX5_isConnected E 3 108 (Option.some Jvm.ClassFile.FieldType.boolean) "isConnected") {r : Int32} {h' : zH} : ∀ (n : Nat) (p0 : Nat) (p1 : Int32) (p2 : Int32) (p3 : Int32) (h : zH), f_X5_isConnected_l15 E n p0 p1 p2 p3 h = some (r, h') → zW p l e R s m args below meth c D B0 7 (zEnd D B0 R below args s (zoI r) h') h 15 [(0, .ref p0), (1, .int p1), (2, .int p2), (3, .int p3)] [] := by
  intro n
  induction n with
  | zero =>
    intro p0 p1 p2 p3 h hf
    unfold f_X5_isConnected_l15 at hf
    cases hf
  | succ n ih =>
    intro p0 p1 p2 p3 h hf
    unfold f_X5_isConnected_l15 at hf
    refine zr_iload_n C0 dX5_isConnected_15 rfl 3 rfl ?_
    refine zr_sipush C0 (v := 900) dX5_isConnected_16 (by decide) ?_
    refine zr_icmp_ge C0 (tgt := 35) dX5_isConnected_19 (by decide) (fun c1 => ?_) (fun c1 => ?_)
    · have hf := zif_t c1 hf
      refine zr_iconst C0 (v := 1) dX5_isConnected_35 (by decide) ?_
      refine zr_istore_n (i := 3) (lv' := [(3, .int (1 : Int32)), (0, .ref p0), (1, .int p1), (2, .int p2)]) C0 dX5_isConnected_36 rfl (by decide) (by first | rfl | simp [zst1, zst2, zcat_rf]) ?_
      refine zr_aload_n C0 dX5_isConnected_37 rfl 1 rfl ?_
      obtain ⟨x2, e3, hf⟩ := zbind hf
      refine zr_get C0 fl_X5_15_X5 dX5_isConnected_38 (zgR e3) ?_
      refine zr_iconst C0 (v := 0) dX5_isConnected_41 (by decide) ?_
      refine zr_iload_n C0 dX5_isConnected_42 rfl 3 rfl ?_
      obtain ⟨h4, e5, hf⟩ := zbind hf
      refine zr_iast C0 dX5_isConnected_43 e5 ?_
      refine zr_aload_n C0 dX5_isConnected_44 rfl 1 rfl ?_
      obtain ⟨x6, e7, hf⟩ := zbind hf
      refine zr_get C0 fl_X5_19_X5 dX5_isConnected_45 (zgR e7) ?_
      refine zr_iload_n C0 dX5_isConnected_48 rfl 3 rfl ?_
      refine zr_iconst C0 (v := 1) dX5_isConnected_49 (by decide) ?_
      obtain ⟨h8, e9, hf⟩ := zbind hf
      refine zr_zast C0 dX5_isConnected_50 (Or.inr rfl) e9 ?_
      refine zr_iconst C0 (v := 0) dX5_isConnected_51 (by decide) ?_
      refine zr_istore (i := 4) (lv' := [(4, .int (0 : Int32)), (3, .int (1 : Int32)), (0, .ref p0), (1, .int p1), (2, .int p2)]) C0 dX5_isConnected_52 (by decide) (by first | rfl | simp [zst1, zst2, zcat_rf]) ?_
      refine zr_sub [2, 3, 1, 0] rfl ?_
      exact w_X5_isConnected_l54 C0 _ _ _ _ _ _ hf
    · have hf := zif_f c1 hf
      refine zr_aload_n C0 dX5_isConnected_22 rfl 0 rfl ?_
      obtain ⟨x10, e11, hf⟩ := zbind hf
      refine zr_get C0 fl_X5_19_X5 dX5_isConnected_23 (zgR e11) ?_
      refine zr_iload_n C0 dX5_isConnected_26 rfl 3 rfl ?_
      refine zr_iconst C0 (v := 0) dX5_isConnected_27 (by decide) ?_
      obtain ⟨h12, e13, hf⟩ := zbind hf
      refine zr_zast C0 dX5_isConnected_28 (Or.inl rfl) e13 ?_
      refine zr_iinc (lv' := [(3, .int (p3 + 1)), (0, .ref p0), (1, .int p1), (2, .int p2)]) C0 dX5_isConnected_29 3 rfl rfl (by decide) (by first | rfl | simp [zst1, zst2, zcat_rf]) ?_
      refine zr_goto C0 (tgt := 15) dX5_isConnected_32 (by decide) ?_
      refine zr_sub [1, 2, 3, 0] rfl ?_
      exact ih _ _ _ _ _ hf
def f_X5_isConnected_b0 (E : zE) (p0 : Nat) (p1 : Int32) (h : zH) : Option (Int32 × zH) :=
  (cko h p0 5).bind fun _ =>
  bnd2 (f_X5_first E p0 p1 h) fun x4 h2 =>
  if x4 = (-1 : Int32) then (
    some ((0 : Int32), h2)
  ) else (
    f_X5_isConnected_l15 E E.1 p0 p1 x4 (0 : Int32) h2
  )
theorem w_X5_isConnected_b0 (C0 : zCx p l e R s m args below meth c D B0 7 "FranchiseLedger$Grid" cX5_isConnected E 3 108 (Option.some Jvm.ClassFile.FieldType.boolean) "isConnected") {r : Int32} {h' : zH} {p0 : Nat} {p1 : Int32} {h : zH} (hf : f_X5_isConnected_b0 E p0 p1 h = some (r, h')) : zW p l e R s m args below meth c D B0 7 (zEnd D B0 R below args s (zoI r) h') h 0 [(0, .ref p0), (1, .int p1)] [] := by
  unfold f_X5_isConnected_b0 at hf
  refine zr_aload_n C0 dX5_isConnected_0 rfl 0 rfl ?_
  refine zr_iload_n C0 dX5_isConnected_1 rfl 1 rfl ?_
  obtain ⟨_, e1, hf⟩ := zbind hf
  obtain ⟨x4, h2, e3, hf⟩ := zbind2 hf
  refine zr_callV_r C0 cv_X5_49_X5 rfl (zcko e1) (m_X5_first C0.2.2.2.2.2.2.1 e3) (by decide) (by decide) rfl rfl (Nat.le_of_ble_eq_true rfl) dX5_isConnected_2 rfl ?_
  refine zr_istore_n (i := 2) (lv' := [(2, .int x4), (0, .ref p0), (1, .int p1)]) C0 dX5_isConnected_5 rfl (by decide) (by first | rfl | simp [zst1, zst2, zcat_rf]) ?_
  refine zr_iload_n C0 dX5_isConnected_6 rfl 0 rfl ?_
  refine zr_iconst C0 (v := -1) dX5_isConnected_7 (by decide) ?_
  refine zr_icmp_ne C0 (tgt := 13) dX5_isConnected_8 (by decide) (fun c5 => ?_) (fun c5 => ?_)
  · have hf := zif_f c5 hf
    refine zr_iconst C0 (v := 0) dX5_isConnected_13 (by decide) ?_
    refine zr_istore_n (i := 3) (lv' := [(3, .int (0 : Int32)), (2, .int x4), (0, .ref p0), (1, .int p1)]) C0 dX5_isConnected_14 rfl (by decide) (by first | rfl | simp [zst1, zst2, zcat_rf]) ?_
    refine zr_sub [2, 3, 1, 0] rfl ?_
    exact w_X5_isConnected_l15 C0 _ _ _ _ _ _ hf
  · have hf := zif_t c5 hf
    refine zr_iconst C0 (v := 0) dX5_isConnected_11 (by decide) ?_
    refine zretW hf ?_
    exact zr_iret C0 (ty := .boolean) rfl (by decide) dX5_isConnected_12 rfl
def f_X5_isConnected (E : zE) (p0 : Nat) (p1 : Int32) (h : zH) : Option (Int32 × zH) := f_X5_isConnected_b0 E p0 p1 h
theorem m_X5_isConnected {l : Launch} (hst : l.stackTraces = false) {D : zD} {B0 : Nat} {E : zE} {p0 : Nat} {p1 : Int32} {h h' : zH} {r : Int32} (hf : f_X5_isConnected E p0 p1 h = some (r, h')) : zMet l yX5_isConnected (ws_ yX5_isConnected cX5_isConnected 7 (Option.some Jvm.ClassFile.FieldType.boolean)) 3 108 D B0 E [.ref p0, .int p1] h (zoI r) h' := by
  unfold f_X5_isConnected at hf
  refine zMet_of hst (by decide +kernel) rfl rfl (Nat.le_of_ble_eq_true rfl) (fun p e R s m below meth c C0 hno => ?_)
  show zW _ _ _ _ _ _ _ _ _ _ _ _ _ _ _ _ [(0, .ref p0), (1, .int p1)] []
  exact w_X5_isConnected_b0 C0 hf
def f_X1_isConnected_b0 (E : zE) (p0 : Nat) (p1 : Int32) (h : zH) : Option ((Int32 ⊕ (Nat × Nat)) × zH) :=
  bnd2 (nA h 3 (1 : Int32) (.inl fun _ => 0)) fun q1 h2 =>
  (cko h2 p0 0).bind fun _ =>
  bnd2 (f_X1_isFranchisee E p0 p1 h2) fun x7 h5 =>
  (zgd .boolean x7).bind fun _ =>
  (sI h5 q1 3 (0 : Int32) x7).bind fun h9 =>
  bnd2 (f_X1_requireIndex E q1 h9) fun x13 h11 =>
  Sum.elim (fun x14 => (
    (gR h11 p0 0 1).bind fun x16 =>
    (gR h11 x16 4 2).bind fun x18 =>
    (cko h11 x18 5).bind fun _ =>
    bnd2 (f_X5_isConnected E x18 p1 h11) fun x23 h21 =>
    (zgd .boolean x23).bind fun _ =>
    some (.inl x23, h21)
  )) (fun q15 => (
    some (.inr q15, h11)
  )) x13
theorem w_X1_isConnected_b0 (C0 : zCx p l e R s m args below meth c D B0 2 "FranchiseLedger" cX1_isConnected E 10 154 (Option.some Jvm.ClassFile.FieldType.boolean) "isConnected") (hno : ∀ x ∈ c.exceptionTable.toList, False) {r : (Int32 ⊕ (Nat × Nat))} {h' : zH} {p0 : Nat} {p1 : Int32} {h : zH} (hf : f_X1_isConnected_b0 E p0 p1 h = some (r, h')) : zW p l e R s m args below meth c D B0 2 (zEnd D B0 R below args s (zoT zoI r) h') h 0 [(0, .ref p0), (1, .int p1)] [] := by
  unfold f_X1_isConnected_b0 at hf
  refine zr_iconst C0 (v := 1) dX1_isConnected_0 (by decide) ?_
  obtain ⟨q1, h2, e3, hf⟩ := zbind2 hf
  refine zr_newa C0 (atype := .boolean) (t := 3) q627 rfl (by decide) (fun _ => rfl) dX1_isConnected_1 e3 ?_
  refine zr_dup C0 dX1_isConnected_3 rfl ?_
  refine zr_iconst C0 (v := 0) dX1_isConnected_4 (by decide) ?_
  refine zr_aload_n C0 dX1_isConnected_5 rfl 0 rfl ?_
  refine zr_iload_n C0 dX1_isConnected_6 rfl 1 rfl ?_
  obtain ⟨_, e4, hf⟩ := zbind hf
  obtain ⟨x7, h5, e6, hf⟩ := zbind2 hf
  refine zr_callV_r C0 cv_X1_88_X1 rfl (zcko e4) (m_X1_isFranchisee C0.2.2.2.2.2.2.1 e6) (by decide) (by decide) rfl rfl (Nat.le_of_ble_eq_true rfl) dX1_isConnected_7 rfl ?_
  obtain ⟨_, e8, hf⟩ := zbind hf
  obtain ⟨h9, e10, hf⟩ := zbind hf
  refine zr_zast C0 dX1_isConnected_10 (zgd_b e8) e10 ?_
  obtain ⟨x13, h11, e12, hf⟩ := zbind2 hf
  rcases x13 with x14 | q15
  · have hf := zinl hf
    refine zr_callS_r C0 cv_X1_92 (m_X1_requireIndex C0.2.2.2.2.2.2.1 e12) (by decide) (by decide) rfl rfl (Nat.le_of_ble_eq_true rfl) dX1_isConnected_11 rfl ?_
    refine zr_aload_n C0 dX1_isConnected_14 rfl 0 rfl ?_
    obtain ⟨x16, e17, hf⟩ := zbind hf
    refine zr_get C0 fl_X1_39_X1 dX1_isConnected_15 (zgR e17) ?_
    obtain ⟨x18, e19, hf⟩ := zbind hf
    refine zr_get C0 fl_X1_171_X4 dX1_isConnected_18 (zgR e19) ?_
    refine zr_iload_n C0 dX1_isConnected_21 rfl 1 rfl ?_
    obtain ⟨_, e20, hf⟩ := zbind hf
    obtain ⟨x23, h21, e22, hf⟩ := zbind2 hf
    refine zr_callV_r C0 cv_X1_192_X5 rfl (zcko e20) (m_X5_isConnected C0.2.2.2.2.2.2.1 e22) (by decide) (by decide) rfl rfl (Nat.le_of_ble_eq_true rfl) dX1_isConnected_22 rfl ?_
    obtain ⟨_, e24, hf⟩ := zbind hf
    refine zretW hf ?_
    exact zr_iret C0 (ty := .boolean) rfl (zgd_n e24) dX1_isConnected_25 rfl
  · have hf := zinr hf
    refine zretW hf ?_
    exact zr_callS_t C0 cv_X1_92 (m_X1_requireIndex C0.2.2.2.2.2.2.1 e12) (by decide) (by decide) rfl rfl (Nat.le_of_ble_eq_true rfl) dX1_isConnected_11 (zr_out C0 hno rfl)
def f_X1_isConnected (E : zE) (p0 : Nat) (p1 : Int32) (h : zH) : Option ((Int32 ⊕ (Nat × Nat)) × zH) := f_X1_isConnected_b0 E p0 p1 h
theorem m_X1_isConnected {l : Launch} (hst : l.stackTraces = false) {D : zD} {B0 : Nat} {E : zE} {p0 : Nat} {p1 : Int32} {h h' : zH} {r : (Int32 ⊕ (Nat × Nat))} (hf : f_X1_isConnected E p0 p1 h = some (r, h')) : zMet l yX1_isConnected (ws_ yX1_isConnected cX1_isConnected 2 (Option.some Jvm.ClassFile.FieldType.boolean)) 10 154 D B0 E [.ref p0, .int p1] h (zoT zoI r) h' := by
  unfold f_X1_isConnected at hf
  refine zMet_of hst (by decide +kernel) rfl rfl (Nat.le_of_ble_eq_true rfl) (fun p e R s m below meth c C0 hno => ?_)
  show zW _ _ _ _ _ _ _ _ _ _ _ _ _ _ _ _ [(0, .ref p0), (1, .int p1)] []
  exact w_X1_isConnected_b0 C0 hno hf
def f_J12_abs_b10 (E : zE) (s0 : Int32) (h : zH) : Option (Int32 × zH) :=
  some (s0, h)
theorem w_J12_abs_b10 (C0 : zCx p l e R s m args below meth c D B0 1 "java/lang/Math" cJ12_abs E 1 60 (Option.some Jvm.ClassFile.FieldType.int) "abs") {r : Int32} {h' : zH} {s0 : Int32} {h : zH} (hf : f_J12_abs_b10 E s0 h = some (r, h')) : zW p l e R s m args below meth c D B0 1 (zEnd D B0 R below args s (zoI r) h') h 10 [] [.int s0] := by
  unfold f_J12_abs_b10 at hf
  refine zretW hf ?_
  exact zr_iret C0 (ty := .int) rfl rfl dJ12_abs_10 rfl
def f_J12_abs_b0 (E : zE) (p0 : Int32) (h : zH) : Option (Int32 × zH) :=
  if 0 ≤ p0 then (
    f_J12_abs_b10 E p0 h
  ) else (
    f_J12_abs_b10 E (-p0) h
  )
theorem w_J12_abs_b0 (C0 : zCx p l e R s m args below meth c D B0 1 "java/lang/Math" cJ12_abs E 1 60 (Option.some Jvm.ClassFile.FieldType.int) "abs") {r : Int32} {h' : zH} {p0 : Int32} {h : zH} (hf : f_J12_abs_b0 E p0 h = some (r, h')) : zW p l e R s m args below meth c D B0 1 (zEnd D B0 R below args s (zoI r) h') h 0 [(0, .int p0)] [] := by
  unfold f_J12_abs_b0 at hf
  refine zr_iload_n C0 dJ12_abs_0 rfl 0 rfl ?_
  refine zr_if_ge C0 (tgt := 9) dJ12_abs_1 (by decide) (fun c1 => ?_) (fun c1 => ?_)
  · have hf := zif_t c1 hf
    refine zr_iload_n C0 dJ12_abs_9 rfl 0 rfl ?_
    refine zr_sub [] rfl ?_
    exact w_J12_abs_b10 C0 hf
  · have hf := zif_f c1 hf
    refine zr_iload_n C0 dJ12_abs_4 rfl 0 rfl ?_
    refine zr_ineg C0 dJ12_abs_5 ?_
    refine zr_goto C0 (tgt := 10) dJ12_abs_6 (by decide) ?_
    refine zr_sub [] rfl ?_
    exact w_J12_abs_b10 C0 hf
def f_J12_abs (E : zE) (p0 : Int32) (h : zH) : Option (Int32 × zH) := f_J12_abs_b0 E p0 h
theorem m_J12_abs {l : Launch} (hst : l.stackTraces = false) {D : zD} {B0 : Nat} {E : zE} {p0 : Int32} {h h' : zH} {r : Int32} (hf : f_J12_abs E p0 h = some (r, h')) : zMet l yJ12_abs (ws_ yJ12_abs cJ12_abs 1 (Option.some Jvm.ClassFile.FieldType.int)) 1 60 D B0 E [.int p0] h (zoI r) h' := by
  unfold f_J12_abs at hf
  refine zMet_ofF hst (by decide +kernel) rfl rfl (Nat.le_of_ble_eq_true rfl) (fun p e R s m below meth c C0 hno => ?_)
  show zW _ _ _ _ _ _ _ _ _ _ _ _ _ _ _ _ [(0, .int p0)] []
  exact w_J12_abs_b0 C0 hf
def f_X1_distance_2_b0 (E : zE) (p0 : Int32) (p1 : Int32) (h : zH) : Option (Int32 × zH) :=
  bnd2 (f_X1_column E p0 h) fun x3 h1 =>
  bnd2 (f_X1_column E p1 h1) fun x6 h4 =>
  bnd2 (f_J12_abs E (x3 - x6) h4) fun x9 h7 =>
  bnd2 (f_X1_row E p0 h7) fun x12 h10 =>
  bnd2 (f_X1_row E p1 h10) fun x15 h13 =>
  bnd2 (f_J12_abs E (x12 - x15) h13) fun x18 h16 =>
  some ((x9 + x18), h16)
theorem w_X1_distance_2_b0 (C0 : zCx p l e R s m args below meth c D B0 2 "FranchiseLedger" cX1_distance_2 E 2 80 (Option.some Jvm.ClassFile.FieldType.int) "distance") {r : Int32} {h' : zH} {p0 : Int32} {p1 : Int32} {h : zH} (hf : f_X1_distance_2_b0 E p0 p1 h = some (r, h')) : zW p l e R s m args below meth c D B0 2 (zEnd D B0 R below args s (zoI r) h') h 0 [(0, .int p0), (1, .int p1)] [] := by
  unfold f_X1_distance_2_b0 at hf
  refine zr_iload_n C0 dX1_distance_2_0 rfl 0 rfl ?_
  obtain ⟨x3, h1, e2, hf⟩ := zbind2 hf
  refine zr_callS_r C0 cv_X1_12 (m_X1_column C0.2.2.2.2.2.2.1 e2) (by decide) (by decide) rfl rfl (Nat.le_of_ble_eq_true rfl) dX1_distance_2_1 rfl ?_
  refine zr_iload_n C0 dX1_distance_2_4 rfl 1 rfl ?_
  obtain ⟨x6, h4, e5, hf⟩ := zbind2 hf
  refine zr_callS_r C0 cv_X1_12 (m_X1_column C0.2.2.2.2.2.2.1 e5) (by decide) (by decide) rfl rfl (Nat.le_of_ble_eq_true rfl) dX1_distance_2_5 rfl ?_
  refine zr_isub C0 dX1_distance_2_8 ?_
  obtain ⟨x9, h7, e8, hf⟩ := zbind2 hf
  refine zr_callS_r C0 cv_X1_16 (m_J12_abs C0.2.2.2.2.2.2.1 e8) (by decide) (by decide) rfl rfl (Nat.le_of_ble_eq_true rfl) dX1_distance_2_9 rfl ?_
  refine zr_iload_n C0 dX1_distance_2_12 rfl 0 rfl ?_
  obtain ⟨x12, h10, e11, hf⟩ := zbind2 hf
  refine zr_callS_r C0 cv_X1_21 (m_X1_row C0.2.2.2.2.2.2.1 e11) (by decide) (by decide) rfl rfl (Nat.le_of_ble_eq_true rfl) dX1_distance_2_13 rfl ?_
  refine zr_iload_n C0 dX1_distance_2_16 rfl 1 rfl ?_
  obtain ⟨x15, h13, e14, hf⟩ := zbind2 hf
  refine zr_callS_r C0 cv_X1_21 (m_X1_row C0.2.2.2.2.2.2.1 e14) (by decide) (by decide) rfl rfl (Nat.le_of_ble_eq_true rfl) dX1_distance_2_17 rfl ?_
  refine zr_isub C0 dX1_distance_2_20 ?_
  obtain ⟨x18, h16, e17, hf⟩ := zbind2 hf
  refine zr_callS_r C0 cv_X1_16 (m_J12_abs C0.2.2.2.2.2.2.1 e17) (by decide) (by decide) rfl rfl (Nat.le_of_ble_eq_true rfl) dX1_distance_2_21 rfl ?_
  refine zr_iadd C0 dX1_distance_2_24 ?_
  refine zretW hf ?_
  exact zr_iret C0 (ty := .int) rfl rfl dX1_distance_2_25 rfl
def f_X1_distance_2 (E : zE) (p0 : Int32) (p1 : Int32) (h : zH) : Option (Int32 × zH) := f_X1_distance_2_b0 E p0 p1 h
theorem m_X1_distance_2 {l : Launch} (hst : l.stackTraces = false) {D : zD} {B0 : Nat} {E : zE} {p0 : Int32} {p1 : Int32} {h h' : zH} {r : Int32} (hf : f_X1_distance_2 E p0 p1 h = some (r, h')) : zMet l yX1_distance_2 (ws_ yX1_distance_2 cX1_distance_2 2 (Option.some Jvm.ClassFile.FieldType.int)) 2 80 D B0 E [.int p0, .int p1] h (zoI r) h' := by
  unfold f_X1_distance_2 at hf
  refine zMet_of hst (by decide +kernel) rfl rfl (Nat.le_of_ble_eq_true rfl) (fun p e R s m below meth c C0 hno => ?_)
  show zW _ _ _ _ _ _ _ _ _ _ _ _ _ _ _ _ [(0, .int p0), (1, .int p1)] []
  exact w_X1_distance_2_b0 C0 hf
def f_X5_distanceTo_b55 (E : zE) (s0 : Int32) (h : zH) : Option (Int32 × zH) :=
  some (s0, h)
theorem w_X5_distanceTo_b55 (C0 : zCx p l e R s m args below meth c D B0 5 "FranchiseLedger$Grid" cX5_distanceTo E 3 101 (Option.some Jvm.ClassFile.FieldType.int) "distanceTo") {r : Int32} {h' : zH} {s0 : Int32} {h : zH} (hf : f_X5_distanceTo_b55 E s0 h = some (r, h')) : zW p l e R s m args below meth c D B0 5 (zEnd D B0 R below args s (zoI r) h') h 55 [] [.int s0] := by
  unfold f_X5_distanceTo_b55 at hf
  refine zretW hf ?_
  exact zr_iret C0 (ty := .int) rfl rfl dX5_distanceTo_55 rfl
def f_X5_distanceTo_b37 (E : zE) (k7 : Nat → Int32 → Int32 → Int32 → Int32 → zH → Option (Int32 × zH)) (p0 : Nat) (p1 : Int32) (p2 : Int32) (p3 : Int32) (p4 : Int32) (h : zH) : Option (Int32 × zH) :=
  k7 p0 p1 p2 p3 (p4 + 1) h
theorem w_X5_distanceTo_b37 (C0 : zCx p l e R s m args below meth c D B0 5 "FranchiseLedger$Grid" cX5_distanceTo E 3 101 (Option.some Jvm.ClassFile.FieldType.int) "distanceTo") {r : Int32} {h' : zH} {k7 : Nat → Int32 → Int32 → Int32 → Int32 → zH → Option (Int32 × zH)} (hk7 : ∀ (p0 : Nat) (p1 : Int32) (p2 : Int32) (p3 : Int32) (p4 : Int32) (h : zH), k7 p0 p1 p2 p3 p4 h = some (r, h') → zW p l e R s m args below meth c D B0 5 (zEnd D B0 R below args s (zoI r) h') h 7 [(0, .ref p0), (1, .int p1), (2, .int p2), (3, .int p3), (4, .int p4)] []) {p0 : Nat} {p1 : Int32} {p2 : Int32} {p3 : Int32} {p4 : Int32} {h : zH} (hf : f_X5_distanceTo_b37 E k7 p0 p1 p2 p3 p4 h = some (r, h')) : zW p l e R s m args below meth c D B0 5 (zEnd D B0 R below args s (zoI r) h') h 37 [(0, .ref p0), (1, .int p1), (2, .int p2), (3, .int p3), (4, .int p4)] [] := by
  unfold f_X5_distanceTo_b37 at hf
  refine zr_iinc (lv' := [(4, .int (p4 + 1)), (0, .ref p0), (1, .int p1), (2, .int p2), (3, .int p3)]) C0 dX5_distanceTo_37 4 rfl rfl (by decide) (by first | rfl | simp [zst1, zst2, zcat_rf]) ?_
  refine zr_goto C0 (tgt := 7) dX5_distanceTo_40 (by decide) ?_
  refine zr_sub [1, 2, 3, 4, 0] rfl ?_
  exact hk7 _ _ _ _ _ _ hf
def f_X5_distanceTo_l7 (E : zE) : Nat → Nat → Int32 → Int32 → Int32 → Int32 → zH → Option (Int32 × zH)
  | 0, _, _, _, _, _, _ => none
  | n + 1, p0, p1, p2, p3, p4, h =>
    if (900 : Int32) ≤ p4 then (
      if p3 = (1000 : Int32) then (
        f_X5_distanceTo_b55 E (-1 : Int32) h
      ) else (
        f_X5_distanceTo_b55 E p3 h
      )
    ) else (
      (gR h p0 5 0).bind fun x3 =>
      (dI h x3 2 p4).bind fun x5 =>
      if x5 = p1 then (
        bnd2 (f_X1_distance_2 E p4 p2 h) fun x10 h8 =>
        bnd2 (f_J12_min E p3 x10 h8) fun x13 h11 =>
        f_X5_distanceTo_b37 E (f_X5_distanceTo_l7 E n) p0 p1 p2 x13 p4 h11
      ) else (
        f_X5_distanceTo_b37 E (f_X5_distanceTo_l7 E n) p0 p1 p2 p3 p4 h
      )
    )
theorem w_X5_distanceTo_l7 (C0 : zCx p l e R s m args below meth c D B0 5 "FranchiseLedger$Grid" cX5_distanceTo E 3 101 (Option.some Jvm.ClassFile.FieldType.int) "distanceTo") {r : Int32} {h' : zH} : ∀ (n : Nat) (p0 : Nat) (p1 : Int32) (p2 : Int32) (p3 : Int32) (p4 : Int32) (h : zH), f_X5_distanceTo_l7 E n p0 p1 p2 p3 p4 h = some (r, h') → zW p l e R s m args below meth c D B0 5 (zEnd D B0 R below args s (zoI r) h') h 7 [(0, .ref p0), (1, .int p1), (2, .int p2), (3, .int p3), (4, .int p4)] [] := by
  intro n
  induction n with
  | zero =>
    intro p0 p1 p2 p3 p4 h hf
    unfold f_X5_distanceTo_l7 at hf
    cases hf
  | succ n ih =>
    intro p0 p1 p2 p3 p4 h hf
    unfold f_X5_distanceTo_l7 at hf
    refine zr_iload C0 dX5_distanceTo_7 4 rfl ?_
    refine zr_sipush C0 (v := 900) dX5_distanceTo_9 (by decide) ?_
    refine zr_icmp_ge C0 (tgt := 43) dX5_distanceTo_12 (by decide) (fun c1 => ?_) (fun c1 => ?_)
    · have hf := zif_t c1 hf
      refine zr_iload_n C0 dX5_distanceTo_43 rfl 3 rfl ?_
      refine zr_sipush C0 (v := 1000) dX5_distanceTo_44 (by decide) ?_
      refine zr_icmp_ne C0 (tgt := 54) dX5_distanceTo_47 (by decide) (fun c2 => ?_) (fun c2 => ?_)
      · have hf := zif_f c2 hf
        refine zr_iload_n C0 dX5_distanceTo_54 rfl 3 rfl ?_
        refine zr_sub [] rfl ?_
        exact w_X5_distanceTo_b55 C0 hf
      · have hf := zif_t c2 hf
        refine zr_iconst C0 (v := -1) dX5_distanceTo_50 (by decide) ?_
        refine zr_goto C0 (tgt := 55) dX5_distanceTo_51 (by decide) ?_
        refine zr_sub [] rfl ?_
        exact w_X5_distanceTo_b55 C0 hf
    · have hf := zif_f c1 hf
      refine zr_aload_n C0 dX5_distanceTo_15 rfl 0 rfl ?_
      obtain ⟨x3, e4, hf⟩ := zbind hf
      refine zr_get C0 fl_X5_9_X5 dX5_distanceTo_16 (zgR e4) ?_
      refine zr_iload C0 dX5_distanceTo_19 4 rfl ?_
      obtain ⟨x5, e6, hf⟩ := zbind hf
      refine zr_bald C0 dX5_distanceTo_21 e6 ?_
      refine zr_iload_n C0 dX5_distanceTo_22 rfl 1 rfl ?_
      refine zr_icmp_ne C0 (tgt := 37) dX5_distanceTo_23 (by decide) (fun c7 => ?_) (fun c7 => ?_)
      · have hf := zif_f c7 hf
        exact w_X5_distanceTo_b37 C0 ih hf
      · have hf := zif_t c7 hf
        refine zr_iload_n C0 dX5_distanceTo_26 rfl 3 rfl ?_
        refine zr_iload C0 dX5_distanceTo_27 4 rfl ?_
        refine zr_iload_n C0 dX5_distanceTo_29 rfl 2 rfl ?_
        obtain ⟨x10, h8, e9, hf⟩ := zbind2 hf
        refine zr_callSN_r C0 cv_X5_55 (m_X1_distance_2 C0.2.2.2.2.2.2.1 e9) (by decide) (by decide) rfl rfl (Nat.le_of_ble_eq_true rfl) dX5_distanceTo_30 rfl ?_
        obtain ⟨x13, h11, e12, hf⟩ := zbind2 hf
        refine zr_callS_r C0 cv_X5_58 (m_J12_min C0.2.2.2.2.2.2.1 e12) (by decide) (by decide) rfl rfl (Nat.le_of_ble_eq_true rfl) dX5_distanceTo_33 rfl ?_
        refine zr_istore_n (i := 3) (lv' := [(3, .int x13), (0, .ref p0), (1, .int p1), (2, .int p2), (4, .int p4)]) C0 dX5_distanceTo_36 rfl (by decide) (by first | rfl | simp [zst1, zst2, zcat_rf]) ?_
        refine zr_sub [1, 2, 3, 0, 4] rfl ?_
        exact w_X5_distanceTo_b37 C0 ih hf
def f_X5_distanceTo_b0 (E : zE) (p0 : Nat) (p1 : Int32) (p2 : Int32) (h : zH) : Option (Int32 × zH) :=
  f_X5_distanceTo_l7 E E.1 p0 p1 p2 (1000 : Int32) (0 : Int32) h
theorem w_X5_distanceTo_b0 (C0 : zCx p l e R s m args below meth c D B0 5 "FranchiseLedger$Grid" cX5_distanceTo E 3 101 (Option.some Jvm.ClassFile.FieldType.int) "distanceTo") {r : Int32} {h' : zH} {p0 : Nat} {p1 : Int32} {p2 : Int32} {h : zH} (hf : f_X5_distanceTo_b0 E p0 p1 p2 h = some (r, h')) : zW p l e R s m args below meth c D B0 5 (zEnd D B0 R below args s (zoI r) h') h 0 [(0, .ref p0), (1, .int p1), (2, .int p2)] [] := by
  unfold f_X5_distanceTo_b0 at hf
  refine zr_sipush C0 (v := 1000) dX5_distanceTo_0 (by decide) ?_
  refine zr_istore_n (i := 3) (lv' := [(3, .int (1000 : Int32)), (0, .ref p0), (1, .int p1), (2, .int p2)]) C0 dX5_distanceTo_3 rfl (by decide) (by first | rfl | simp [zst1, zst2, zcat_rf]) ?_
  refine zr_iconst C0 (v := 0) dX5_distanceTo_4 (by decide) ?_
  refine zr_istore (i := 4) (lv' := [(4, .int (0 : Int32)), (3, .int (1000 : Int32)), (0, .ref p0), (1, .int p1), (2, .int p2)]) C0 dX5_distanceTo_5 (by decide) (by first | rfl | simp [zst1, zst2, zcat_rf]) ?_
  refine zr_sub [2, 3, 4, 1, 0] rfl ?_
  exact w_X5_distanceTo_l7 C0 _ _ _ _ _ _ _ hf
def f_X5_distanceTo (E : zE) (p0 : Nat) (p1 : Int32) (p2 : Int32) (h : zH) : Option (Int32 × zH) := f_X5_distanceTo_b0 E p0 p1 p2 h
theorem m_X5_distanceTo {l : Launch} (hst : l.stackTraces = false) {D : zD} {B0 : Nat} {E : zE} {p0 : Nat} {p1 : Int32} {p2 : Int32} {h h' : zH} {r : Int32} (hf : f_X5_distanceTo E p0 p1 p2 h = some (r, h')) : zMet l yX5_distanceTo (ws_ yX5_distanceTo cX5_distanceTo 5 (Option.some Jvm.ClassFile.FieldType.int)) 3 101 D B0 E [.ref p0, .int p1, .int p2] h (zoI r) h' := by
  unfold f_X5_distanceTo at hf
  refine zMet_of hst (by decide +kernel) rfl rfl (Nat.le_of_ble_eq_true rfl) (fun p e R s m below meth c C0 hno => ?_)
  show zW _ _ _ _ _ _ _ _ _ _ _ _ _ _ _ _ [(0, .ref p0), (1, .int p1), (2, .int p2)] []
  exact w_X5_distanceTo_b0 C0 hf
def f_X1_distance_b0 (E : zE) (p0 : Nat) (p1 : Int32) (p2 : Int32) (p3 : Int32) (h : zH) : Option ((Int32 ⊕ (Nat × Nat)) × zH) :=
  bnd2 (nA h 3 (1 : Int32) (.inl fun _ => 0)) fun q1 h2 =>
  (cko h2 p0 0).bind fun _ =>
  bnd2 (f_X1_isFranchisee E p0 p1 h2) fun x7 h5 =>
  (zgd .boolean x7).bind fun _ =>
  (sI h5 q1 3 (0 : Int32) x7).bind fun h9 =>
  bnd2 (f_X1_requireIndex E q1 h9) fun x13 h11 =>
  Sum.elim (fun x14 => (
    bnd2 (nA h11 3 (1 : Int32) (.inl fun _ => 0)) fun q16 h17 =>
    bnd2 (f_X1_isPlace E p2 p3 h17) fun x21 h19 =>
    (zgd .boolean x21).bind fun _ =>
    (sI h19 q16 3 (0 : Int32) x21).bind fun h23 =>
    bnd2 (f_X1_requireArguments E q16 h23) fun x27 h25 =>
    Sum.elim (fun x28 => (
      (gR h25 p0 0 1).bind fun x30 =>
      (gR h25 x30 4 2).bind fun x32 =>
      bnd2 (f_X1_cell E p2 p3 h25) fun x36 h34 =>
      (cko h34 x32 5).bind fun _ =>
      bnd2 (f_X5_distanceTo E x32 p1 x36 h34) fun x40 h38 =>
      some (.inl x40, h38)
    )) (fun q29 => (
      some (.inr q29, h25)
    )) x27
  )) (fun q15 => (
    some (.inr q15, h11)
  )) x13
theorem w_X1_distance_b0 (C0 : zCx p l e R s m args below meth c D B0 4 "FranchiseLedger" cX1_distance E 10 154 (Option.some Jvm.ClassFile.FieldType.int) "distance") (hno : ∀ x ∈ c.exceptionTable.toList, False) {r : (Int32 ⊕ (Nat × Nat))} {h' : zH} {p0 : Nat} {p1 : Int32} {p2 : Int32} {p3 : Int32} {h : zH} (hf : f_X1_distance_b0 E p0 p1 p2 p3 h = some (r, h')) : zW p l e R s m args below meth c D B0 4 (zEnd D B0 R below args s (zoT zoI r) h') h 0 [(0, .ref p0), (1, .int p1), (2, .int p2), (3, .int p3)] [] := by
  unfold f_X1_distance_b0 at hf
  refine zr_iconst C0 (v := 1) dX1_distance_0 (by decide) ?_
  obtain ⟨q1, h2, e3, hf⟩ := zbind2 hf
  refine zr_newa C0 (atype := .boolean) (t := 3) q627 rfl (by decide) (fun _ => rfl) dX1_distance_1 e3 ?_
  refine zr_dup C0 dX1_distance_3 rfl ?_
  refine zr_iconst C0 (v := 0) dX1_distance_4 (by decide) ?_
  refine zr_aload_n C0 dX1_distance_5 rfl 0 rfl ?_
  refine zr_iload_n C0 dX1_distance_6 rfl 1 rfl ?_
  obtain ⟨_, e4, hf⟩ := zbind hf
  obtain ⟨x7, h5, e6, hf⟩ := zbind2 hf
  refine zr_callV_r C0 cv_X1_88_X1 rfl (zcko e4) (m_X1_isFranchisee C0.2.2.2.2.2.2.1 e6) (by decide) (by decide) rfl rfl (Nat.le_of_ble_eq_true rfl) dX1_distance_7 rfl ?_
  obtain ⟨_, e8, hf⟩ := zbind hf
  obtain ⟨h9, e10, hf⟩ := zbind hf
  refine zr_zast C0 dX1_distance_10 (zgd_b e8) e10 ?_
  obtain ⟨x13, h11, e12, hf⟩ := zbind2 hf
  rcases x13 with x14 | q15
  · have hf := zinl hf
    refine zr_callS_r C0 cv_X1_92 (m_X1_requireIndex C0.2.2.2.2.2.2.1 e12) (by decide) (by decide) rfl rfl (Nat.le_of_ble_eq_true rfl) dX1_distance_11 rfl ?_
    refine zr_iconst C0 (v := 1) dX1_distance_14 (by decide) ?_
    obtain ⟨q16, h17, e18, hf⟩ := zbind2 hf
    refine zr_newa C0 (atype := .boolean) (t := 3) q627 rfl (by decide) (fun _ => rfl) dX1_distance_15 e18 ?_
    refine zr_dup C0 dX1_distance_17 rfl ?_
    refine zr_iconst C0 (v := 0) dX1_distance_18 (by decide) ?_
    refine zr_iload_n C0 dX1_distance_19 rfl 2 rfl ?_
    refine zr_iload_n C0 dX1_distance_20 rfl 3 rfl ?_
    obtain ⟨x21, h19, e20, hf⟩ := zbind2 hf
    refine zr_callS_r C0 cv_X1_164 (m_X1_isPlace C0.2.2.2.2.2.2.1 e20) (by decide) (by decide) rfl rfl (Nat.le_of_ble_eq_true rfl) dX1_distance_21 rfl ?_
    obtain ⟨_, e22, hf⟩ := zbind hf
    obtain ⟨h23, e24, hf⟩ := zbind hf
    refine zr_zast C0 dX1_distance_24 (zgd_b e22) e24 ?_
    obtain ⟨x27, h25, e26, hf⟩ := zbind2 hf
    rcases x27 with x28 | q29
    · have hf := zinl hf
      refine zr_callS_r C0 cv_X1_168 (m_X1_requireArguments C0.2.2.2.2.2.2.1 e26) (by decide) (by decide) rfl rfl (Nat.le_of_ble_eq_true rfl) dX1_distance_25 rfl ?_
      refine zr_aload_n C0 dX1_distance_28 rfl 0 rfl ?_
      obtain ⟨x30, e31, hf⟩ := zbind hf
      refine zr_get C0 fl_X1_39_X1 dX1_distance_29 (zgR e31) ?_
      obtain ⟨x32, e33, hf⟩ := zbind hf
      refine zr_get C0 fl_X1_171_X4 dX1_distance_32 (zgR e33) ?_
      refine zr_iload_n C0 dX1_distance_35 rfl 1 rfl ?_
      refine zr_iload_n C0 dX1_distance_36 rfl 2 rfl ?_
      refine zr_iload_n C0 dX1_distance_37 rfl 3 rfl ?_
      obtain ⟨x36, h34, e35, hf⟩ := zbind2 hf
      refine zr_callS_r C0 cv_X1_180 (m_X1_cell C0.2.2.2.2.2.2.1 e35) (by decide) (by decide) rfl rfl (Nat.le_of_ble_eq_true rfl) dX1_distance_38 rfl ?_
      obtain ⟨_, e37, hf⟩ := zbind hf
      obtain ⟨x40, h38, e39, hf⟩ := zbind2 hf
      refine zr_callV_r C0 cv_X1_195_X5 rfl (zcko e37) (m_X5_distanceTo C0.2.2.2.2.2.2.1 e39) (by decide) (by decide) rfl rfl (Nat.le_of_ble_eq_true rfl) dX1_distance_41 rfl ?_
      refine zretW hf ?_
      exact zr_iret C0 (ty := .int) rfl rfl dX1_distance_44 rfl
    · have hf := zinr hf
      refine zretW hf ?_
      exact zr_callS_t C0 cv_X1_168 (m_X1_requireArguments C0.2.2.2.2.2.2.1 e26) (by decide) (by decide) rfl rfl (Nat.le_of_ble_eq_true rfl) dX1_distance_25 (zr_out C0 hno rfl)
  · have hf := zinr hf
    refine zretW hf ?_
    exact zr_callS_t C0 cv_X1_92 (m_X1_requireIndex C0.2.2.2.2.2.2.1 e12) (by decide) (by decide) rfl rfl (Nat.le_of_ble_eq_true rfl) dX1_distance_11 (zr_out C0 hno rfl)
def f_X1_distance (E : zE) (p0 : Nat) (p1 : Int32) (p2 : Int32) (p3 : Int32) (h : zH) : Option ((Int32 ⊕ (Nat × Nat)) × zH) := f_X1_distance_b0 E p0 p1 p2 p3 h
theorem m_X1_distance {l : Launch} (hst : l.stackTraces = false) {D : zD} {B0 : Nat} {E : zE} {p0 : Nat} {p1 : Int32} {p2 : Int32} {p3 : Int32} {h h' : zH} {r : (Int32 ⊕ (Nat × Nat))} (hf : f_X1_distance E p0 p1 p2 p3 h = some (r, h')) : zMet l yX1_distance (ws_ yX1_distance cX1_distance 4 (Option.some Jvm.ClassFile.FieldType.int)) 10 154 D B0 E [.ref p0, .int p1, .int p2, .int p3] h (zoT zoI r) h' := by
  unfold f_X1_distance at hf
  refine zMet_of hst (by decide +kernel) rfl rfl (Nat.le_of_ble_eq_true rfl) (fun p e R s m below meth c C0 hno => ?_)
  show zW _ _ _ _ _ _ _ _ _ _ _ _ _ _ _ _ [(0, .ref p0), (1, .int p1), (2, .int p2), (3, .int p3)] []
  exact w_X1_distance_b0 C0 hno hf
def f_X1_moveCells_b72 (E : zE) (k18 : Nat → Int32 → Int32 → Nat → Nat → Int32 → Int32 → zH → Option (Int32 × zH)) (p0 : Nat) (p1 : Int32) (p2 : Int32) (p3 : Nat) (p4 : Nat) (p5 : Int32) (p6 : Int32) (h : zH) : Option (Int32 × zH) :=
  k18 p0 p1 p2 p3 p4 p5 (p6 + 1) h
theorem w_X1_moveCells_b72 (C0 : zCx p l e R s m args below meth c D B0 7 "FranchiseLedger" cX1_moveCells E 5 146 (Option.some Jvm.ClassFile.FieldType.int) "moveCells") {r : Int32} {h' : zH} {k18 : Nat → Int32 → Int32 → Nat → Nat → Int32 → Int32 → zH → Option (Int32 × zH)} (hk18 : ∀ (p0 : Nat) (p1 : Int32) (p2 : Int32) (p3 : Nat) (p4 : Nat) (p5 : Int32) (p6 : Int32) (h : zH), k18 p0 p1 p2 p3 p4 p5 p6 h = some (r, h') → zW p l e R s m args below meth c D B0 7 (zEnd D B0 R below args s (zoI r) h') h 18 [(0, .ref p0), (1, .int p1), (2, .int p2), (3, .ref p3), (4, .ref p4), (5, .int p5), (6, .int p6)] []) {p0 : Nat} {p1 : Int32} {p2 : Int32} {p3 : Nat} {p4 : Nat} {p5 : Int32} {p6 : Int32} {h : zH} (hf : f_X1_moveCells_b72 E k18 p0 p1 p2 p3 p4 p5 p6 h = some (r, h')) : zW p l e R s m args below meth c D B0 7 (zEnd D B0 R below args s (zoI r) h') h 72 [(0, .ref p0), (1, .int p1), (2, .int p2), (3, .ref p3), (4, .ref p4), (5, .int p5), (6, .int p6)] [] := by
  unfold f_X1_moveCells_b72 at hf
  refine zr_iinc (lv' := [(6, .int (p6 + 1)), (0, .ref p0), (1, .int p1), (2, .int p2), (3, .ref p3), (4, .ref p4), (5, .int p5)]) C0 dX1_moveCells_72 6 rfl rfl (by decide) (by first | rfl | simp [zst1, zst2, zcat_rf]) ?_
  refine zr_goto C0 (tgt := 18) dX1_moveCells_75 (by decide) ?_
  refine zr_sub [1, 2, 3, 4, 5, 6, 0] rfl ?_
  exact hk18 _ _ _ _ _ _ _ _ hf
def f_X1_moveCells_l18 (E : zE) : Nat → Nat → Int32 → Int32 → Nat → Nat → Int32 → Int32 → zH → Option (Int32 × zH)
  | 0, _, _, _, _, _, _, _, _ => none
  | n + 1, p0, p1, p2, p3, p4, p5, p6, h =>
    if (900 : Int32) ≤ p6 then (
      some (p5, h)
    ) else (
      (dI h p4 2 p6).bind fun x2 =>
      if x2 = p1 then (
        (cko h p3 12).bind fun _ =>
        bnd2 (f_X13_contains E p3 p6 h) fun x8 h6 =>
        if x8 = 0 then (
          f_X1_moveCells_b72 E (f_X1_moveCells_l18 E n) p0 p1 p2 p3 p4 p5 p6 h6
        ) else (
          (gR h6 p0 0 1).bind fun x10 =>
          (cko h6 x10 4).bind fun _ =>
          bnd2 (f_X4_hasOutlet E x10 p6 h6) fun x15 h13 =>
          if x15 = 0 then (
            (sI h13 p4 2 p6 ((p2.toInt8.toInt32).toInt8.toInt32)).bind fun h17 =>
            f_X1_moveCells_b72 E (f_X1_moveCells_l18 E n) p0 p1 p2 p3 p4 (p5 + 1) p6 h17
          ) else (
            some ((-2 : Int32), h13)
          )
        )
      ) else (
        f_X1_moveCells_b72 E (f_X1_moveCells_l18 E n) p0 p1 p2 p3 p4 p5 p6 h
      )
    )
theorem w_X1_moveCells_l18 (C0 : zCx p l e R s m args below meth c D B0 7 "FranchiseLedger" cX1_moveCells E 5 146 (Option.some Jvm.ClassFile.FieldType.int) "moveCells") {r : Int32} {h' : zH} : ∀ (n : Nat) (p0 : Nat) (p1 : Int32) (p2 : Int32) (p3 : Nat) (p4 : Nat) (p5 : Int32) (p6 : Int32) (h : zH), f_X1_moveCells_l18 E n p0 p1 p2 p3 p4 p5 p6 h = some (r, h') → zW p l e R s m args below meth c D B0 7 (zEnd D B0 R below args s (zoI r) h') h 18 [(0, .ref p0), (1, .int p1), (2, .int p2), (3, .ref p3), (4, .ref p4), (5, .int p5), (6, .int p6)] [] := by
  intro n
  induction n with
  | zero =>
    intro p0 p1 p2 p3 p4 p5 p6 h hf
    unfold f_X1_moveCells_l18 at hf
    cases hf
  | succ n ih =>
    intro p0 p1 p2 p3 p4 p5 p6 h hf
    unfold f_X1_moveCells_l18 at hf
    refine zr_iload C0 dX1_moveCells_18 6 rfl ?_
    refine zr_sipush C0 (v := 900) dX1_moveCells_20 (by decide) ?_
    refine zr_icmp_ge C0 (tgt := 78) dX1_moveCells_23 (by decide) (fun c1 => ?_) (fun c1 => ?_)
    · have hf := zif_t c1 hf
      refine zr_iload C0 dX1_moveCells_78 5 rfl ?_
      refine zretW hf ?_
      exact zr_iret C0 (ty := .int) rfl rfl dX1_moveCells_80 rfl
    · have hf := zif_f c1 hf
      refine zr_aload C0 dX1_moveCells_26 4 rfl ?_
      refine zr_iload C0 dX1_moveCells_28 6 rfl ?_
      obtain ⟨x2, e3, hf⟩ := zbind hf
      refine zr_bald C0 dX1_moveCells_30 e3 ?_
      refine zr_iload_n C0 dX1_moveCells_31 rfl 1 rfl ?_
      refine zr_icmp_ne C0 (tgt := 72) dX1_moveCells_32 (by decide) (fun c4 => ?_) (fun c4 => ?_)
      · have hf := zif_f c4 hf
        exact w_X1_moveCells_b72 C0 ih hf
      · have hf := zif_t c4 hf
        refine zr_aload_n C0 dX1_moveCells_35 rfl 3 rfl ?_
        refine zr_iload C0 dX1_moveCells_36 6 rfl ?_
        obtain ⟨_, e5, hf⟩ := zbind hf
        obtain ⟨x8, h6, e7, hf⟩ := zbind2 hf
        refine zr_callV_r C0 cv_X1_198_X13 rfl (zcko e5) (m_X13_contains C0.2.2.2.2.2.2.1 e7) (by decide) (by decide) rfl rfl (Nat.le_of_ble_eq_true rfl) dX1_moveCells_38 rfl ?_
        refine zr_if_ne C0 (tgt := 47) dX1_moveCells_41 (by decide) (fun c9 => ?_) (fun c9 => ?_)
        · have hf := zif_f c9 hf
          refine zr_aload_n C0 dX1_moveCells_47 rfl 0 rfl ?_
          obtain ⟨x10, e11, hf⟩ := zbind hf
          refine zr_get C0 fl_X1_39_X1 dX1_moveCells_48 (zgR e11) ?_
          refine zr_iload C0 dX1_moveCells_51 6 rfl ?_
          obtain ⟨_, e12, hf⟩ := zbind hf
          obtain ⟨x15, h13, e14, hf⟩ := zbind2 hf
          refine zr_callV_r C0 cv_X1_203_X4 rfl (zcko e12) (m_X4_hasOutlet C0.2.2.2.2.2.2.1 e14) (by decide) (by decide) rfl rfl (Nat.le_of_ble_eq_true rfl) dX1_moveCells_53 rfl ?_
          refine zr_if_eq C0 (tgt := 62) dX1_moveCells_56 (by decide) (fun c16 => ?_) (fun c16 => ?_)
          · have hf := zif_t c16 hf
            refine zr_aload C0 dX1_moveCells_62 4 rfl ?_
            refine zr_iload C0 dX1_moveCells_64 6 rfl ?_
            refine zr_iload_n C0 dX1_moveCells_66 rfl 2 rfl ?_
            refine zr_i2b C0 dX1_moveCells_67 ?_
            obtain ⟨h17, e18, hf⟩ := zbind hf
            refine zr_bast C0 dX1_moveCells_68 e18 ?_
            refine zr_iinc (lv' := [(5, .int (p5 + 1)), (0, .ref p0), (1, .int p1), (2, .int p2), (3, .ref p3), (4, .ref p4), (6, .int p6)]) C0 dX1_moveCells_69 5 rfl rfl (by decide) (by first | rfl | simp [zst1, zst2, zcat_rf]) ?_
            refine zr_sub [1, 2, 3, 4, 5, 0, 6] rfl ?_
            exact w_X1_moveCells_b72 C0 ih hf
          · have hf := zif_f c16 hf
            refine zr_bipush C0 (v := -2) dX1_moveCells_59 (by decide) ?_
            refine zretW hf ?_
            exact zr_iret C0 (ty := .int) rfl rfl dX1_moveCells_61 rfl
        · have hf := zif_t c9 hf
          refine zr_goto C0 (tgt := 72) dX1_moveCells_44 (by decide) ?_
          exact w_X1_moveCells_b72 C0 ih hf
def f_X1_moveCells_b0 (E : zE) (p0 : Nat) (p1 : Int32) (p2 : Int32) (p3 : Nat) (h : zH) : Option (Int32 × zH) :=
  (gR h p0 0 1).bind fun x1 =>
  (gR h x1 4 2).bind fun x3 =>
  (gR h x3 5 0).bind fun x5 =>
  f_X1_moveCells_l18 E E.1 p0 p1 p2 p3 x5 (0 : Int32) (0 : Int32) h
theorem w_X1_moveCells_b0 (C0 : zCx p l e R s m args below meth c D B0 7 "FranchiseLedger" cX1_moveCells E 5 146 (Option.some Jvm.ClassFile.FieldType.int) "moveCells") {r : Int32} {h' : zH} {p0 : Nat} {p1 : Int32} {p2 : Int32} {p3 : Nat} {h : zH} (hf : f_X1_moveCells_b0 E p0 p1 p2 p3 h = some (r, h')) : zW p l e R s m args below meth c D B0 7 (zEnd D B0 R below args s (zoI r) h') h 0 [(0, .ref p0), (1, .int p1), (2, .int p2), (3, .ref p3)] [] := by
  unfold f_X1_moveCells_b0 at hf
  refine zr_aload_n C0 dX1_moveCells_0 rfl 0 rfl ?_
  obtain ⟨x1, e2, hf⟩ := zbind hf
  refine zr_get C0 fl_X1_39_X1 dX1_moveCells_1 (zgR e2) ?_
  obtain ⟨x3, e4, hf⟩ := zbind hf
  refine zr_get C0 fl_X1_171_X4 dX1_moveCells_4 (zgR e4) ?_
  obtain ⟨x5, e6, hf⟩ := zbind hf
  refine zr_get C0 fl_X1_175_X5 dX1_moveCells_7 (zgR e6) ?_
  refine zr_astore (i := 4) (lv' := [(4, .ref x5), (0, .ref p0), (1, .int p1), (2, .int p2), (3, .ref p3)]) C0 dX1_moveCells_10 (by decide) (by first | rfl | simp [zst1, zst2, zcat_rf]) ?_
  refine zr_iconst C0 (v := 0) dX1_moveCells_12 (by decide) ?_
  refine zr_istore (i := 5) (lv' := [(5, .int (0 : Int32)), (4, .ref x5), (0, .ref p0), (1, .int p1), (2, .int p2), (3, .ref p3)]) C0 dX1_moveCells_13 (by decide) (by first | rfl | simp [zst1, zst2, zcat_rf]) ?_
  refine zr_iconst C0 (v := 0) dX1_moveCells_15 (by decide) ?_
  refine zr_istore (i := 6) (lv' := [(6, .int (0 : Int32)), (5, .int (0 : Int32)), (4, .ref x5), (0, .ref p0), (1, .int p1), (2, .int p2), (3, .ref p3)]) C0 dX1_moveCells_16 (by decide) (by first | rfl | simp [zst1, zst2, zcat_rf]) ?_
  refine zr_sub [3, 4, 5, 6, 2, 1, 0] rfl ?_
  exact w_X1_moveCells_l18 C0 _ _ _ _ _ _ _ _ _ hf
def f_X1_moveCells (E : zE) (p0 : Nat) (p1 : Int32) (p2 : Int32) (p3 : Nat) (h : zH) : Option (Int32 × zH) := f_X1_moveCells_b0 E p0 p1 p2 p3 h
theorem m_X1_moveCells {l : Launch} (hst : l.stackTraces = false) {D : zD} {B0 : Nat} {E : zE} {p0 : Nat} {p1 : Int32} {p2 : Int32} {p3 : Nat} {h h' : zH} {r : Int32} (hf : f_X1_moveCells E p0 p1 p2 p3 h = some (r, h')) : zMet l yX1_moveCells (ws_ yX1_moveCells cX1_moveCells 7 (Option.some Jvm.ClassFile.FieldType.int)) 5 146 D B0 E [.ref p0, .int p1, .int p2, .ref p3] h (zoI r) h' := by
  unfold f_X1_moveCells at hf
  refine zMet_of hst (by decide +kernel) rfl rfl (Nat.le_of_ble_eq_true rfl) (fun p e R s m below meth c C0 hno => ?_)
  show zW _ _ _ _ _ _ _ _ _ _ _ _ _ _ _ _ [(0, .ref p0), (1, .int p1), (2, .int p2), (3, .ref p3)] []
  exact w_X1_moveCells_b0 C0 hf
def f_X1_cede_b91 (E : zE) (h : zH) : Option ((Int32 ⊕ (Nat × Nat)) × zH) :=
  some (.inl (-2 : Int32), h)
theorem w_X1_cede_b91 (C0 : zCx p l e R s m args below meth c D B0 10 "FranchiseLedger" cX1_cede E 11 175 (Option.some Jvm.ClassFile.FieldType.int) "cede") (hno : ∀ x ∈ c.exceptionTable.toList, False) {r : (Int32 ⊕ (Nat × Nat))} {h' : zH} {h : zH} (hf : f_X1_cede_b91 E  h = some (r, h')) : zW p l e R s m args below meth c D B0 10 (zEnd D B0 R below args s (zoT zoI r) h') h 91 [] [] := by
  unfold f_X1_cede_b91 at hf
  refine zr_bipush C0 (v := -2) dX1_cede_91 (by decide) ?_
  refine zretW hf ?_
  exact zr_iret C0 (ty := .int) rfl rfl dX1_cede_93 rfl
def f_X1_cede_b202 (E : zE) (p9 : Int32) (h : zH) : Option ((Int32 ⊕ (Nat × Nat)) × zH) :=
  some (.inl p9, h)
theorem w_X1_cede_b202 (C0 : zCx p l e R s m args below meth c D B0 10 "FranchiseLedger" cX1_cede E 11 175 (Option.some Jvm.ClassFile.FieldType.int) "cede") (hno : ∀ x ∈ c.exceptionTable.toList, False) {r : (Int32 ⊕ (Nat × Nat))} {h' : zH} {p9 : Int32} {h : zH} (hf : f_X1_cede_b202 E p9 h = some (r, h')) : zW p l e R s m args below meth c D B0 10 (zEnd D B0 R below args s (zoT zoI r) h') h 202 [(9, .int p9)] [] := by
  unfold f_X1_cede_b202 at hf
  refine zr_iload C0 dX1_cede_202 0 rfl ?_
  refine zretW hf ?_
  exact zr_iret C0 (ty := .int) rfl rfl dX1_cede_204 rfl
def f_X1_cede_b175 (E : zE) (p0 : Nat) (p9 : Int32) (h : zH) : Option ((Int32 ⊕ (Nat × Nat)) × zH) :=
  if 0 ≤ p9 then (
    f_X1_cede_b202 E p9 h
  ) else (
    (gR h p0 0 3).bind fun x2 =>
    (gR h p0 0 1).bind fun x4 =>
    (gR h x4 4 2).bind fun x6 =>
    (gR h x6 5 0).bind fun x8 =>
    (cpA h x2 (0 : Int32) x8 (0 : Int32) (900 : Int32)).bind fun h10 =>
    f_X1_cede_b202 E p9 h10
  )
theorem w_X1_cede_b175 (C0 : zCx p l e R s m args below meth c D B0 10 "FranchiseLedger" cX1_cede E 11 175 (Option.some Jvm.ClassFile.FieldType.int) "cede") (hno : ∀ x ∈ c.exceptionTable.toList, False) {r : (Int32 ⊕ (Nat × Nat))} {h' : zH} {p0 : Nat} {p9 : Int32} {h : zH} (hf : f_X1_cede_b175 E p0 p9 h = some (r, h')) : zW p l e R s m args below meth c D B0 10 (zEnd D B0 R below args s (zoT zoI r) h') h 175 [(0, .ref p0), (9, .int p9)] [] := by
  unfold f_X1_cede_b175 at hf
  refine zr_iload C0 dX1_cede_175 1 rfl ?_
  refine zr_if_ge C0 (tgt := 202) dX1_cede_177 (by decide) (fun c1 => ?_) (fun c1 => ?_)
  · have hf := zif_t c1 hf
    refine zr_sub [1] rfl ?_
    exact w_X1_cede_b202 C0 hno hf
  · have hf := zif_f c1 hf
    refine zr_aload_n C0 dX1_cede_180 rfl 0 rfl ?_
    obtain ⟨x2, e3, hf⟩ := zbind hf
    refine zr_get C0 fl_X1_47_X1 dX1_cede_181 (zgR e3) ?_
    refine zr_iconst C0 (v := 0) dX1_cede_184 (by decide) ?_
    refine zr_aload_n C0 dX1_cede_185 rfl 0 rfl ?_
    obtain ⟨x4, e5, hf⟩ := zbind hf
    refine zr_get C0 fl_X1_39_X1 dX1_cede_186 (zgR e5) ?_
    obtain ⟨x6, e7, hf⟩ := zbind hf
    refine zr_get C0 fl_X1_171_X4 dX1_cede_189 (zgR e7) ?_
    obtain ⟨x8, e9, hf⟩ := zbind hf
    refine zr_get C0 fl_X1_175_X5 dX1_cede_192 (zgR e9) ?_
    refine zr_iconst C0 (v := 0) dX1_cede_195 (by decide) ?_
    refine zr_sipush C0 (v := 900) dX1_cede_196 (by decide) ?_
    obtain ⟨h10, e11, hf⟩ := zbind hf
    refine zr_copy C0 q2097 (by decide) (Nat.le_of_ble_eq_true rfl) dX1_cede_199 e11 ?_
    refine zr_sub [1] rfl ?_
    exact w_X1_cede_b202 C0 hno hf
def f_X1_cede_b171 (E : zE) (p0 : Nat) (h : zH) : Option ((Int32 ⊕ (Nat × Nat)) × zH) :=
  f_X1_cede_b175 E p0 (-2 : Int32) h
theorem w_X1_cede_b171 (C0 : zCx p l e R s m args below meth c D B0 10 "FranchiseLedger" cX1_cede E 11 175 (Option.some Jvm.ClassFile.FieldType.int) "cede") (hno : ∀ x ∈ c.exceptionTable.toList, False) {r : (Int32 ⊕ (Nat × Nat))} {h' : zH} {p0 : Nat} {h : zH} (hf : f_X1_cede_b171 E p0 h = some (r, h')) : zW p l e R s m args below meth c D B0 10 (zEnd D B0 R below args s (zoT zoI r) h') h 171 [(0, .ref p0)] [] := by
  unfold f_X1_cede_b171 at hf
  refine zr_bipush C0 (v := -2) dX1_cede_171 (by decide) ?_
  refine zr_istore (i := 9) (lv' := [(9, .int (-2 : Int32)), (0, .ref p0)]) C0 dX1_cede_173 (by decide) (by first | rfl | simp [zst1, zst2, zcat_rf]) ?_
  refine zr_sub [1, 0] rfl ?_
  exact w_X1_cede_b175 C0 hno hf
def f_X1_cede_b29 (E : zE) (p0 : Nat) (p1 : Int32) (p2 : Int32) (p3 : Int32) (p4 : Int32) (p5 : Int32) (p6 : Int32) (p7 : Nat) (p8 : Nat) (s0 : Nat) (s1 : Nat) (s2 : Int32) (s3 : Int32) (h : zH) : Option ((Int32 ⊕ (Nat × Nat)) × zH) :=
  (zgd .boolean s3).bind fun _ =>
  (sI h s1 3 s2 s3).bind fun h2 =>
  bnd2 (f_X1_isPlace E p3 p4 h2) fun x6 h4 =>
  (zgd .boolean x6).bind fun _ =>
  (sI h4 s0 3 (1 : Int32) x6).bind fun h8 =>
  bnd2 (f_X1_inRange E (p5.toInt64) ((p3 + (1 : Int32)).toInt64) (30 : Int64) h8) fun x12 h10 =>
  (zgd .boolean x12).bind fun _ =>
  (sI h10 s0 3 (2 : Int32) x12).bind fun h14 =>
  bnd2 (f_X1_inRange E (p6.toInt64) ((p4 + (1 : Int32)).toInt64) (30 : Int64) h14) fun x18 h16 =>
  (zgd .boolean x18).bind fun _ =>
  (sI h16 s0 3 (3 : Int32) x18).bind fun h20 =>
  bnd2 (f_X1_requireArguments E s0 h20) fun x24 h22 =>
  Sum.elim (fun x25 => (
    (cko h22 p7 10).bind fun _ =>
    bnd2 (f_X11_isActive E p7 h22) fun x30 h28 =>
    if x30 = 0 then (
      f_X1_cede_b91 E  h28
    ) else (
      (cko h28 p8 10).bind fun _ =>
      bnd2 (f_X11_isActive E p8 h28) fun x35 h33 =>
      if x35 = 0 then (
        f_X1_cede_b91 E  h33
      ) else (
        (gR h33 p0 0 1).bind fun x37 =>
        (gR h33 x37 4 2).bind fun x39 =>
        (gR h33 x39 5 0).bind fun x41 =>
        (gR h33 p0 0 3).bind fun x43 =>
        (cpA h33 x41 (0 : Int32) x43 (0 : Int32) (900 : Int32)).bind fun h45 =>
        bnd2 (nO h45 12 4 [.int 0, .int 0, .int 0, .int 0]) fun q47 h48 =>
        bnd2 (f_X13_init E q47 p3 p4 p5 p6 h48) fun x52 h50 =>
        (cko h50 p0 0).bind fun _ =>
        bnd2 (f_X1_moveCells E p0 p1 p2 q47 h50) fun x56 h54 =>
        if x56 ≤ 0 then (
          f_X1_cede_b175 E p0 x56 h54
        ) else (
          (gR h54 p0 0 1).bind fun x58 =>
          (gR h54 x58 4 2).bind fun x60 =>
          (cko h54 x60 5).bind fun _ =>
          bnd2 (f_X5_isConnected E x60 p1 h54) fun x65 h63 =>
          if x65 = 0 then (
            f_X1_cede_b171 E p0 h63
          ) else (
            (gR h63 p0 0 1).bind fun x67 =>
            (gR h63 x67 4 2).bind fun x69 =>
            (cko h63 x69 5).bind fun _ =>
            bnd2 (f_X5_isConnected E x69 p2 h63) fun x74 h72 =>
            if x74 = 0 then (
              f_X1_cede_b171 E p0 h72
            ) else (
              f_X1_cede_b175 E p0 x56 h72
            )
          )
        )
      )
    )
  )) (fun q26 => (
    some (.inr q26, h22)
  )) x24
theorem w_X1_cede_b29 (C0 : zCx p l e R s m args below meth c D B0 10 "FranchiseLedger" cX1_cede E 11 175 (Option.some Jvm.ClassFile.FieldType.int) "cede") (hno : ∀ x ∈ c.exceptionTable.toList, False) {r : (Int32 ⊕ (Nat × Nat))} {h' : zH} {p0 : Nat} {p1 : Int32} {p2 : Int32} {p3 : Int32} {p4 : Int32} {p5 : Int32} {p6 : Int32} {p7 : Nat} {p8 : Nat} {s0 : Nat} {s1 : Nat} {s2 : Int32} {s3 : Int32} {h : zH} (hf : f_X1_cede_b29 E p0 p1 p2 p3 p4 p5 p6 p7 p8 s0 s1 s2 s3 h = some (r, h')) : zW p l e R s m args below meth c D B0 10 (zEnd D B0 R below args s (zoT zoI r) h') h 29 [(0, .ref p0), (1, .int p1), (2, .int p2), (3, .int p3), (4, .int p4), (5, .int p5), (6, .int p6), (7, .ref p7), (8, .ref p8)] [.int s3, .int s2, .ref s1, .ref s0] := by
  unfold f_X1_cede_b29 at hf
  obtain ⟨_, e1, hf⟩ := zbind hf
  obtain ⟨h2, e3, hf⟩ := zbind hf
  refine zr_zast C0 dX1_cede_29 (zgd_b e1) e3 ?_
  refine zr_dup C0 dX1_cede_30 rfl ?_
  refine zr_iconst C0 (v := 1) dX1_cede_31 (by decide) ?_
  refine zr_iload_n C0 dX1_cede_32 rfl 3 rfl ?_
  refine zr_iload C0 dX1_cede_33 4 rfl ?_
  obtain ⟨x6, h4, e5, hf⟩ := zbind2 hf
  refine zr_callS_r C0 cv_X1_164 (m_X1_isPlace C0.2.2.2.2.2.2.1 e5) (by decide) (by decide) rfl rfl (Nat.le_of_ble_eq_true rfl) dX1_cede_35 rfl ?_
  obtain ⟨_, e7, hf⟩ := zbind hf
  obtain ⟨h8, e9, hf⟩ := zbind hf
  refine zr_zast C0 dX1_cede_38 (zgd_b e7) e9 ?_
  refine zr_dup C0 dX1_cede_39 rfl ?_
  refine zr_iconst C0 (v := 2) dX1_cede_40 (by decide) ?_
  refine zr_iload C0 dX1_cede_41 5 rfl ?_
  refine zr_i2l C0 dX1_cede_43 ?_
  refine zr_iload_n C0 dX1_cede_44 rfl 3 rfl ?_
  refine zr_iconst C0 (v := 1) dX1_cede_45 (by decide) ?_
  refine zr_iadd C0 dX1_cede_46 ?_
  refine zr_i2l C0 dX1_cede_47 ?_
  refine zr_ldc2 C0 (v := 30) q2096 dX1_cede_48 ?_
  obtain ⟨x12, h10, e11, hf⟩ := zbind2 hf
  refine zr_callS_r C0 cv_X1_84 (m_X1_inRange C0.2.2.2.2.2.2.1 e11) (by decide) (by decide) rfl rfl (Nat.le_of_ble_eq_true rfl) dX1_cede_51 rfl ?_
  obtain ⟨_, e13, hf⟩ := zbind hf
  obtain ⟨h14, e15, hf⟩ := zbind hf
  refine zr_zast C0 dX1_cede_54 (zgd_b e13) e15 ?_
  refine zr_dup C0 dX1_cede_55 rfl ?_
  refine zr_iconst C0 (v := 3) dX1_cede_56 (by decide) ?_
  refine zr_iload C0 dX1_cede_57 6 rfl ?_
  refine zr_i2l C0 dX1_cede_59 ?_
  refine zr_iload C0 dX1_cede_60 4 rfl ?_
  refine zr_iconst C0 (v := 1) dX1_cede_62 (by decide) ?_
  refine zr_iadd C0 dX1_cede_63 ?_
  refine zr_i2l C0 dX1_cede_64 ?_
  refine zr_ldc2 C0 (v := 30) q2096 dX1_cede_65 ?_
  obtain ⟨x18, h16, e17, hf⟩ := zbind2 hf
  refine zr_callS_r C0 cv_X1_84 (m_X1_inRange C0.2.2.2.2.2.2.1 e17) (by decide) (by decide) rfl rfl (Nat.le_of_ble_eq_true rfl) dX1_cede_68 rfl ?_
  obtain ⟨_, e19, hf⟩ := zbind hf
  obtain ⟨h20, e21, hf⟩ := zbind hf
  refine zr_zast C0 dX1_cede_71 (zgd_b e19) e21 ?_
  obtain ⟨x24, h22, e23, hf⟩ := zbind2 hf
  rcases x24 with x25 | q26
  · have hf := zinl hf
    refine zr_callS_r C0 cv_X1_168 (m_X1_requireArguments C0.2.2.2.2.2.2.1 e23) (by decide) (by decide) rfl rfl (Nat.le_of_ble_eq_true rfl) dX1_cede_72 rfl ?_
    refine zr_aload C0 dX1_cede_75 7 rfl ?_
    obtain ⟨_, e27, hf⟩ := zbind hf
    obtain ⟨x30, h28, e29, hf⟩ := zbind2 hf
    refine zr_callV_r C0 cv_X1_208_X11 rfl (zcko e27) (m_X11_isActive C0.2.2.2.2.2.2.1 e29) (by decide) (by decide) rfl rfl (Nat.le_of_ble_eq_true rfl) dX1_cede_77 rfl ?_
    refine zr_if_eq C0 (tgt := 91) dX1_cede_80 (by decide) (fun c31 => ?_) (fun c31 => ?_)
    · have hf := zif_t c31 hf
      refine zr_sub [] rfl ?_
      exact w_X1_cede_b91 C0 hno hf
    · have hf := zif_f c31 hf
      refine zr_aload C0 dX1_cede_83 8 rfl ?_
      obtain ⟨_, e32, hf⟩ := zbind hf
      obtain ⟨x35, h33, e34, hf⟩ := zbind2 hf
      refine zr_callV_r C0 cv_X1_208_X11 rfl (zcko e32) (m_X11_isActive C0.2.2.2.2.2.2.1 e34) (by decide) (by decide) rfl rfl (Nat.le_of_ble_eq_true rfl) dX1_cede_85 rfl ?_
      refine zr_if_ne C0 (tgt := 94) dX1_cede_88 (by decide) (fun c36 => ?_) (fun c36 => ?_)
      · have hf := zif_f c36 hf
        refine zr_aload_n C0 dX1_cede_94 rfl 0 rfl ?_
        obtain ⟨x37, e38, hf⟩ := zbind hf
        refine zr_get C0 fl_X1_39_X1 dX1_cede_95 (zgR e38) ?_
        obtain ⟨x39, e40, hf⟩ := zbind hf
        refine zr_get C0 fl_X1_171_X4 dX1_cede_98 (zgR e40) ?_
        obtain ⟨x41, e42, hf⟩ := zbind hf
        refine zr_get C0 fl_X1_175_X5 dX1_cede_101 (zgR e42) ?_
        refine zr_iconst C0 (v := 0) dX1_cede_104 (by decide) ?_
        refine zr_aload_n C0 dX1_cede_105 rfl 0 rfl ?_
        obtain ⟨x43, e44, hf⟩ := zbind hf
        refine zr_get C0 fl_X1_47_X1 dX1_cede_106 (zgR e44) ?_
        refine zr_iconst C0 (v := 0) dX1_cede_109 (by decide) ?_
        refine zr_sipush C0 (v := 900) dX1_cede_110 (by decide) ?_
        obtain ⟨h45, e46, hf⟩ := zbind hf
        refine zr_copy C0 q2097 (by decide) (Nat.le_of_ble_eq_true rfl) dX1_cede_113 e46 ?_
        refine zr_aload_n C0 dX1_cede_116 rfl 0 rfl ?_
        refine zr_iload_n C0 dX1_cede_117 rfl 1 rfl ?_
        refine zr_iload_n C0 dX1_cede_118 rfl 2 rfl ?_
        obtain ⟨q47, h48, e49, hf⟩ := zbind2 hf
        refine zr_newc C0 (C := RX13) (T := TX13) (N := 4) rfl in_X13 tyX13_ok q2098 q1669 q169 nw_X13 dX1_cede_119 e49 ?_
        refine zr_dup C0 dX1_cede_122 rfl ?_
        refine zr_iload_n C0 dX1_cede_123 rfl 3 rfl ?_
        refine zr_iload C0 dX1_cede_124 4 rfl ?_
        refine zr_iload C0 dX1_cede_126 5 rfl ?_
        refine zr_iload C0 dX1_cede_128 6 rfl ?_
        obtain ⟨x52, h50, e51, hf⟩ := zbind2 hf
        refine zr_callIN_r C0 cv_X1_218 (m_X13_init C0.2.2.2.2.2.2.1 e51) (by decide) (by decide) rfl rfl (Nat.le_of_ble_eq_true rfl) dX1_cede_130 rfl ?_
        obtain ⟨_, e53, hf⟩ := zbind hf
        obtain ⟨x56, h54, e55, hf⟩ := zbind2 hf
        refine zr_callV_r C0 cv_X1_221_X1 rfl (zcko e53) (m_X1_moveCells C0.2.2.2.2.2.2.1 e55) (by decide) (by decide) rfl rfl (Nat.le_of_ble_eq_true rfl) dX1_cede_133 rfl ?_
        refine zr_istore (i := 9) (lv' := [(9, .int x56), (0, .ref p0), (1, .int p1), (2, .int p2), (3, .int p3), (4, .int p4), (5, .int p5), (6, .int p6), (7, .ref p7), (8, .ref p8)]) C0 dX1_cede_136 (by decide) (by first | rfl | simp [zst1, zst2, zcat_rf]) ?_
        refine zr_iload C0 dX1_cede_138 0 rfl ?_
        refine zr_if_le C0 (tgt := 175) dX1_cede_140 (by decide) (fun c57 => ?_) (fun c57 => ?_)
        · have hf := zif_t c57 hf
          refine zr_sub [1, 0] rfl ?_
          exact w_X1_cede_b175 C0 hno hf
        · have hf := zif_f c57 hf
          refine zr_aload_n C0 dX1_cede_143 rfl 1 rfl ?_
          obtain ⟨x58, e59, hf⟩ := zbind hf
          refine zr_get C0 fl_X1_39_X1 dX1_cede_144 (zgR e59) ?_
          obtain ⟨x60, e61, hf⟩ := zbind hf
          refine zr_get C0 fl_X1_171_X4 dX1_cede_147 (zgR e61) ?_
          refine zr_iload_n C0 dX1_cede_150 rfl 2 rfl ?_
          obtain ⟨_, e62, hf⟩ := zbind hf
          obtain ⟨x65, h63, e64, hf⟩ := zbind2 hf
          refine zr_callV_r C0 cv_X1_192_X5 rfl (zcko e62) (m_X5_isConnected C0.2.2.2.2.2.2.1 e64) (by decide) (by decide) rfl rfl (Nat.le_of_ble_eq_true rfl) dX1_cede_151 rfl ?_
          refine zr_if_eq C0 (tgt := 171) dX1_cede_154 (by decide) (fun c66 => ?_) (fun c66 => ?_)
          · have hf := zif_t c66 hf
            refine zr_sub [1] rfl ?_
            exact w_X1_cede_b171 C0 hno hf
          · have hf := zif_f c66 hf
            refine zr_aload_n C0 dX1_cede_157 rfl 1 rfl ?_
            obtain ⟨x67, e68, hf⟩ := zbind hf
            refine zr_get C0 fl_X1_39_X1 dX1_cede_158 (zgR e68) ?_
            obtain ⟨x69, e70, hf⟩ := zbind hf
            refine zr_get C0 fl_X1_171_X4 dX1_cede_161 (zgR e70) ?_
            refine zr_iload_n C0 dX1_cede_164 rfl 3 rfl ?_
            obtain ⟨_, e71, hf⟩ := zbind hf
            obtain ⟨x74, h72, e73, hf⟩ := zbind2 hf
            refine zr_callV_r C0 cv_X1_192_X5 rfl (zcko e71) (m_X5_isConnected C0.2.2.2.2.2.2.1 e73) (by decide) (by decide) rfl rfl (Nat.le_of_ble_eq_true rfl) dX1_cede_165 rfl ?_
            refine zr_if_ne C0 (tgt := 175) dX1_cede_168 (by decide) (fun c75 => ?_) (fun c75 => ?_)
            · have hf := zif_f c75 hf
              refine zr_sub [1, 0] rfl ?_
              exact w_X1_cede_b175 C0 hno hf
            · have hf := zif_t c75 hf
              refine zr_sub [1] rfl ?_
              exact w_X1_cede_b171 C0 hno hf
      · have hf := zif_t c36 hf
        refine zr_sub [] rfl ?_
        exact w_X1_cede_b91 C0 hno hf
  · have hf := zinr hf
    refine zretW hf ?_
    exact zr_callS_t C0 cv_X1_168 (m_X1_requireArguments C0.2.2.2.2.2.2.1 e23) (by decide) (by decide) rfl rfl (Nat.le_of_ble_eq_true rfl) dX1_cede_72 (zr_out C0 hno rfl)
def f_X1_cede_b0 (E : zE) (p0 : Nat) (p1 : Int32) (p2 : Int32) (p3 : Int32) (p4 : Int32) (p5 : Int32) (p6 : Int32) (h : zH) : Option ((Int32 ⊕ (Nat × Nat)) × zH) :=
  (cko h p0 0).bind fun _ =>
  bnd2 (f_X1_franchisee E p0 p1 h) fun x4 h2 =>
  Sum.elim (fun x5 => (
    (cko h2 p0 0).bind fun _ =>
    bnd2 (f_X1_franchisee E p0 p2 h2) fun x10 h8 =>
    Sum.elim (fun x11 => (
      bnd2 (nA h8 3 (4 : Int32) (.inl fun _ => 0)) fun q13 h14 =>
      if p1 = p2 then (
        f_X1_cede_b29 E p0 p1 p2 p3 p4 p5 p6 x5 x11 q13 q13 (0 : Int32) (0 : Int32) h14
      ) else (
        f_X1_cede_b29 E p0 p1 p2 p3 p4 p5 p6 x5 x11 q13 q13 (0 : Int32) (1 : Int32) h14
      )
    )) (fun q12 => (
      some (.inr q12, h8)
    )) x10
  )) (fun q6 => (
    some (.inr q6, h2)
  )) x4
theorem w_X1_cede_b0 (C0 : zCx p l e R s m args below meth c D B0 10 "FranchiseLedger" cX1_cede E 11 175 (Option.some Jvm.ClassFile.FieldType.int) "cede") (hno : ∀ x ∈ c.exceptionTable.toList, False) {r : (Int32 ⊕ (Nat × Nat))} {h' : zH} {p0 : Nat} {p1 : Int32} {p2 : Int32} {p3 : Int32} {p4 : Int32} {p5 : Int32} {p6 : Int32} {h : zH} (hf : f_X1_cede_b0 E p0 p1 p2 p3 p4 p5 p6 h = some (r, h')) : zW p l e R s m args below meth c D B0 10 (zEnd D B0 R below args s (zoT zoI r) h') h 0 [(0, .ref p0), (1, .int p1), (2, .int p2), (3, .int p3), (4, .int p4), (5, .int p5), (6, .int p6)] [] := by
  unfold f_X1_cede_b0 at hf
  refine zr_aload_n C0 dX1_cede_0 rfl 0 rfl ?_
  refine zr_iload_n C0 dX1_cede_1 rfl 1 rfl ?_
  obtain ⟨_, e1, hf⟩ := zbind hf
  obtain ⟨x4, h2, e3, hf⟩ := zbind2 hf
  rcases x4 with x5 | q6
  · have hf := zinl hf
    refine zr_callV_r C0 cv_X1_134_X1 rfl (zcko e1) (m_X1_franchisee C0.2.2.2.2.2.2.1 e3) (by decide) (by decide) rfl rfl (Nat.le_of_ble_eq_true rfl) dX1_cede_2 rfl ?_
    refine zr_astore (i := 7) (lv' := [(7, .ref x5), (0, .ref p0), (1, .int p1), (2, .int p2), (3, .int p3), (4, .int p4), (5, .int p5), (6, .int p6)]) C0 dX1_cede_5 (by decide) (by first | rfl | simp [zst1, zst2, zcat_rf]) ?_
    refine zr_aload_n C0 dX1_cede_7 rfl 1 rfl ?_
    refine zr_iload_n C0 dX1_cede_8 rfl 3 rfl ?_
    obtain ⟨_, e7, hf⟩ := zbind hf
    obtain ⟨x10, h8, e9, hf⟩ := zbind2 hf
    rcases x10 with x11 | q12
    · have hf := zinl hf
      refine zr_callV_r C0 cv_X1_134_X1 rfl (zcko e7) (m_X1_franchisee C0.2.2.2.2.2.2.1 e9) (by decide) (by decide) rfl rfl (Nat.le_of_ble_eq_true rfl) dX1_cede_9 rfl ?_
      refine zr_astore (i := 8) (lv' := [(8, .ref x11), (7, .ref x5), (0, .ref p0), (1, .int p1), (2, .int p2), (3, .int p3), (4, .int p4), (5, .int p5), (6, .int p6)]) C0 dX1_cede_12 (by decide) (by first | rfl | simp [zst1, zst2, zcat_rf]) ?_
      refine zr_iconst C0 (v := 4) dX1_cede_14 (by decide) ?_
      obtain ⟨q13, h14, e15, hf⟩ := zbind2 hf
      refine zr_newa C0 (atype := .boolean) (t := 3) q627 rfl (by decide) (fun _ => rfl) dX1_cede_15 e15 ?_
      refine zr_dup C0 dX1_cede_17 rfl ?_
      refine zr_iconst C0 (v := 0) dX1_cede_18 (by decide) ?_
      refine zr_iload_n C0 dX1_cede_19 rfl 3 rfl ?_
      refine zr_iload_n C0 dX1_cede_20 rfl 4 rfl ?_
      refine zr_icmp_eq C0 (tgt := 28) dX1_cede_21 (by decide) (fun c16 => ?_) (fun c16 => ?_)
      · have hf := zif_t c16 hf
        refine zr_iconst C0 (v := 0) dX1_cede_28 (by decide) ?_
        refine zr_sub [2, 3, 4, 5, 6, 7, 8, 1, 0] rfl ?_
        exact w_X1_cede_b29 C0 hno hf
      · have hf := zif_f c16 hf
        refine zr_iconst C0 (v := 1) dX1_cede_24 (by decide) ?_
        refine zr_goto C0 (tgt := 29) dX1_cede_25 (by decide) ?_
        refine zr_sub [2, 3, 4, 5, 6, 7, 8, 1, 0] rfl ?_
        exact w_X1_cede_b29 C0 hno hf
    · have hf := zinr hf
      refine zretW hf ?_
      exact zr_callV_t C0 cv_X1_134_X1 rfl (zcko e7) (m_X1_franchisee C0.2.2.2.2.2.2.1 e9) (by decide) (by decide) rfl rfl (Nat.le_of_ble_eq_true rfl) dX1_cede_9 (zr_out C0 hno rfl)
  · have hf := zinr hf
    refine zretW hf ?_
    exact zr_callV_t C0 cv_X1_134_X1 rfl (zcko e1) (m_X1_franchisee C0.2.2.2.2.2.2.1 e3) (by decide) (by decide) rfl rfl (Nat.le_of_ble_eq_true rfl) dX1_cede_2 (zr_out C0 hno rfl)
def f_X1_cede (E : zE) (p0 : Nat) (p1 : Int32) (p2 : Int32) (p3 : Int32) (p4 : Int32) (p5 : Int32) (p6 : Int32) (h : zH) : Option ((Int32 ⊕ (Nat × Nat)) × zH) := f_X1_cede_b0 E p0 p1 p2 p3 p4 p5 p6 h
theorem m_X1_cede {l : Launch} (hst : l.stackTraces = false) {D : zD} {B0 : Nat} {E : zE} {p0 : Nat} {p1 : Int32} {p2 : Int32} {p3 : Int32} {p4 : Int32} {p5 : Int32} {p6 : Int32} {h h' : zH} {r : (Int32 ⊕ (Nat × Nat))} (hf : f_X1_cede E p0 p1 p2 p3 p4 p5 p6 h = some (r, h')) : zMet l yX1_cede (ws_ yX1_cede cX1_cede 10 (Option.some Jvm.ClassFile.FieldType.int)) 11 175 D B0 E [.ref p0, .int p1, .int p2, .int p3, .int p4, .int p5, .int p6] h (zoT zoI r) h' := by
  unfold f_X1_cede at hf
  refine zMet_of hst (by decide +kernel) rfl rfl (Nat.le_of_ble_eq_true rfl) (fun p e R s m below meth c C0 hno => ?_)
  show zW _ _ _ _ _ _ _ _ _ _ _ _ _ _ _ _ [(0, .ref p0), (1, .int p1), (2, .int p2), (3, .int p3), (4, .int p4), (5, .int p5), (6, .int p6)] []
  exact w_X1_cede_b0 C0 hno hf
def f_X1_outletOwner_b0 (E : zE) (p0 : Nat) (p1 : Int32) (h : zH) : Option ((Int32 ⊕ (Nat × Nat)) × zH) :=
  (cko h p0 0).bind fun _ =>
  bnd2 (f_X1_outlet E p0 p1 h) fun x4 h2 =>
  Sum.elim (fun x5 => (
    (gI h2 x5 13 1).bind fun x7 =>
    some (.inl x7, h2)
  )) (fun q6 => (
    some (.inr q6, h2)
  )) x4
theorem w_X1_outletOwner_b0 (C0 : zCx p l e R s m args below meth c D B0 2 "FranchiseLedger" cX1_outletOwner E 11 175 (Option.some Jvm.ClassFile.FieldType.int) "outletOwner") (hno : ∀ x ∈ c.exceptionTable.toList, False) {r : (Int32 ⊕ (Nat × Nat))} {h' : zH} {p0 : Nat} {p1 : Int32} {h : zH} (hf : f_X1_outletOwner_b0 E p0 p1 h = some (r, h')) : zW p l e R s m args below meth c D B0 2 (zEnd D B0 R below args s (zoT zoI r) h') h 0 [(0, .ref p0), (1, .int p1)] [] := by
  unfold f_X1_outletOwner_b0 at hf
  refine zr_aload_n C0 dX1_outletOwner_0 rfl 0 rfl ?_
  refine zr_iload_n C0 dX1_outletOwner_1 rfl 1 rfl ?_
  obtain ⟨_, e1, hf⟩ := zbind hf
  obtain ⟨x4, h2, e3, hf⟩ := zbind2 hf
  rcases x4 with x5 | q6
  · have hf := zinl hf
    refine zr_callV_r C0 cv_X1_121_X1 rfl (zcko e1) (m_X1_outlet C0.2.2.2.2.2.2.1 e3) (by decide) (by decide) rfl rfl (Nat.le_of_ble_eq_true rfl) dX1_outletOwner_2 rfl ?_
    obtain ⟨x7, e8, hf⟩ := zbind hf
    refine zr_get C0 fl_X1_125_X14 dX1_outletOwner_5 (zgI e8) ?_
    refine zretW hf ?_
    exact zr_iret C0 (ty := .int) rfl rfl dX1_outletOwner_8 rfl
  · have hf := zinr hf
    refine zretW hf ?_
    exact zr_callV_t C0 cv_X1_121_X1 rfl (zcko e1) (m_X1_outlet C0.2.2.2.2.2.2.1 e3) (by decide) (by decide) rfl rfl (Nat.le_of_ble_eq_true rfl) dX1_outletOwner_2 (zr_out C0 hno rfl)
def f_X1_outletOwner (E : zE) (p0 : Nat) (p1 : Int32) (h : zH) : Option ((Int32 ⊕ (Nat × Nat)) × zH) := f_X1_outletOwner_b0 E p0 p1 h
theorem m_X1_outletOwner {l : Launch} (hst : l.stackTraces = false) {D : zD} {B0 : Nat} {E : zE} {p0 : Nat} {p1 : Int32} {h h' : zH} {r : (Int32 ⊕ (Nat × Nat))} (hf : f_X1_outletOwner E p0 p1 h = some (r, h')) : zMet l yX1_outletOwner (ws_ yX1_outletOwner cX1_outletOwner 2 (Option.some Jvm.ClassFile.FieldType.int)) 11 175 D B0 E [.ref p0, .int p1] h (zoT zoI r) h' := by
  unfold f_X1_outletOwner at hf
  refine zMet_of hst (by decide +kernel) rfl rfl (Nat.le_of_ble_eq_true rfl) (fun p e R s m below meth c C0 hno => ?_)
  show zW _ _ _ _ _ _ _ _ _ _ _ _ _ _ _ _ [(0, .ref p0), (1, .int p1)] []
  exact w_X1_outletOwner_b0 C0 hno hf
def f_X1_told_b0 (E : zE) (p0 : Int32) (h : zH) : Option (Int32 × zH) :=
  bnd2 (f_X1_row E p0 h) fun x3 h1 =>
  bnd2 (f_X1_column E p0 h1) fun x6 h4 =>
  some ((((100 : Int32) * x3) + x6), h4)
theorem w_X1_told_b0 (C0 : zCx p l e R s m args below meth c D B0 1 "FranchiseLedger" cX1_told E 2 80 (Option.some Jvm.ClassFile.FieldType.int) "told") {r : Int32} {h' : zH} {p0 : Int32} {h : zH} (hf : f_X1_told_b0 E p0 h = some (r, h')) : zW p l e R s m args below meth c D B0 1 (zEnd D B0 R below args s (zoI r) h') h 0 [(0, .int p0)] [] := by
  unfold f_X1_told_b0 at hf
  refine zr_bipush C0 (v := 100) dX1_told_0 (by decide) ?_
  refine zr_iload_n C0 dX1_told_2 rfl 0 rfl ?_
  obtain ⟨x3, h1, e2, hf⟩ := zbind2 hf
  refine zr_callS_r C0 cv_X1_21 (m_X1_row C0.2.2.2.2.2.2.1 e2) (by decide) (by decide) rfl rfl (Nat.le_of_ble_eq_true rfl) dX1_told_3 rfl ?_
  refine zr_imul C0 dX1_told_6 ?_
  refine zr_iload_n C0 dX1_told_7 rfl 0 rfl ?_
  obtain ⟨x6, h4, e5, hf⟩ := zbind2 hf
  refine zr_callS_r C0 cv_X1_12 (m_X1_column C0.2.2.2.2.2.2.1 e5) (by decide) (by decide) rfl rfl (Nat.le_of_ble_eq_true rfl) dX1_told_8 rfl ?_
  refine zr_iadd C0 dX1_told_11 ?_
  refine zretW hf ?_
  exact zr_iret C0 (ty := .int) rfl rfl dX1_told_12 rfl
def f_X1_told (E : zE) (p0 : Int32) (h : zH) : Option (Int32 × zH) := f_X1_told_b0 E p0 h
theorem m_X1_told {l : Launch} (hst : l.stackTraces = false) {D : zD} {B0 : Nat} {E : zE} {p0 : Int32} {h h' : zH} {r : Int32} (hf : f_X1_told E p0 h = some (r, h')) : zMet l yX1_told (ws_ yX1_told cX1_told 1 (Option.some Jvm.ClassFile.FieldType.int)) 2 80 D B0 E [.int p0] h (zoI r) h' := by
  unfold f_X1_told at hf
  refine zMet_of hst (by decide +kernel) rfl rfl (Nat.le_of_ble_eq_true rfl) (fun p e R s m below meth c C0 hno => ?_)
  show zW _ _ _ _ _ _ _ _ _ _ _ _ _ _ _ _ [(0, .int p0)] []
  exact w_X1_told_b0 C0 hf
def f_X1_outletCell_b0 (E : zE) (p0 : Nat) (p1 : Int32) (h : zH) : Option ((Int32 ⊕ (Nat × Nat)) × zH) :=
  (cko h p0 0).bind fun _ =>
  bnd2 (f_X1_outlet E p0 p1 h) fun x4 h2 =>
  Sum.elim (fun x5 => (
    (gI h2 x5 13 0).bind fun x7 =>
    bnd2 (f_X1_told E x7 h2) fun x11 h9 =>
    some (.inl x11, h9)
  )) (fun q6 => (
    some (.inr q6, h2)
  )) x4
theorem w_X1_outletCell_b0 (C0 : zCx p l e R s m args below meth c D B0 2 "FranchiseLedger" cX1_outletCell E 11 175 (Option.some Jvm.ClassFile.FieldType.int) "outletCell") (hno : ∀ x ∈ c.exceptionTable.toList, False) {r : (Int32 ⊕ (Nat × Nat))} {h' : zH} {p0 : Nat} {p1 : Int32} {h : zH} (hf : f_X1_outletCell_b0 E p0 p1 h = some (r, h')) : zW p l e R s m args below meth c D B0 2 (zEnd D B0 R below args s (zoT zoI r) h') h 0 [(0, .ref p0), (1, .int p1)] [] := by
  unfold f_X1_outletCell_b0 at hf
  refine zr_aload_n C0 dX1_outletCell_0 rfl 0 rfl ?_
  refine zr_iload_n C0 dX1_outletCell_1 rfl 1 rfl ?_
  obtain ⟨_, e1, hf⟩ := zbind hf
  obtain ⟨x4, h2, e3, hf⟩ := zbind2 hf
  rcases x4 with x5 | q6
  · have hf := zinl hf
    refine zr_callV_r C0 cv_X1_121_X1 rfl (zcko e1) (m_X1_outlet C0.2.2.2.2.2.2.1 e3) (by decide) (by decide) rfl rfl (Nat.le_of_ble_eq_true rfl) dX1_outletCell_2 rfl ?_
    obtain ⟨x7, e8, hf⟩ := zbind hf
    refine zr_get C0 fl_X1_128_X14 dX1_outletCell_5 (zgI e8) ?_
    obtain ⟨x11, h9, e10, hf⟩ := zbind2 hf
    refine zr_callS_r C0 cv_X1_131 (m_X1_told C0.2.2.2.2.2.2.1 e10) (by decide) (by decide) rfl rfl (Nat.le_of_ble_eq_true rfl) dX1_outletCell_8 rfl ?_
    refine zretW hf ?_
    exact zr_iret C0 (ty := .int) rfl rfl dX1_outletCell_11 rfl
  · have hf := zinr hf
    refine zretW hf ?_
    exact zr_callV_t C0 cv_X1_121_X1 rfl (zcko e1) (m_X1_outlet C0.2.2.2.2.2.2.1 e3) (by decide) (by decide) rfl rfl (Nat.le_of_ble_eq_true rfl) dX1_outletCell_2 (zr_out C0 hno rfl)
def f_X1_outletCell (E : zE) (p0 : Nat) (p1 : Int32) (h : zH) : Option ((Int32 ⊕ (Nat × Nat)) × zH) := f_X1_outletCell_b0 E p0 p1 h
theorem m_X1_outletCell {l : Launch} (hst : l.stackTraces = false) {D : zD} {B0 : Nat} {E : zE} {p0 : Nat} {p1 : Int32} {h h' : zH} {r : (Int32 ⊕ (Nat × Nat))} (hf : f_X1_outletCell E p0 p1 h = some (r, h')) : zMet l yX1_outletCell (ws_ yX1_outletCell cX1_outletCell 2 (Option.some Jvm.ClassFile.FieldType.int)) 11 175 D B0 E [.ref p0, .int p1] h (zoT zoI r) h' := by
  unfold f_X1_outletCell at hf
  refine zMet_of hst (by decide +kernel) rfl rfl (Nat.le_of_ble_eq_true rfl) (fun p e R s m below meth c C0 hno => ?_)
  show zW _ _ _ _ _ _ _ _ _ _ _ _ _ _ _ _ [(0, .ref p0), (1, .int p1)] []
  exact w_X1_outletCell_b0 C0 hno hf
def f_X1_openOutlet_b65 (E : zE) (h : zH) : Option ((Int32 ⊕ (Nat × Nat)) × zH) :=
  some (.inl (-2 : Int32), h)
theorem w_X1_openOutlet_b65 (C0 : zCx p l e R s m args below meth c D B0 6 "FranchiseLedger" cX1_openOutlet E 11 212 (Option.some Jvm.ClassFile.FieldType.int) "openOutlet") (hno : ∀ x ∈ c.exceptionTable.toList, False) {r : (Int32 ⊕ (Nat × Nat))} {h' : zH} {h : zH} (hf : f_X1_openOutlet_b65 E  h = some (r, h')) : zW p l e R s m args below meth c D B0 6 (zEnd D B0 R below args s (zoT zoI r) h') h 65 [] [] := by
  unfold f_X1_openOutlet_b65 at hf
  refine zr_bipush C0 (v := -2) dX1_openOutlet_65 (by decide) ?_
  refine zretW hf ?_
  exact zr_iret C0 (ty := .int) rfl rfl dX1_openOutlet_67 rfl
def f_X1_openOutlet_b0 (E : zE) (p0 : Nat) (p1 : Int32) (p2 : Int32) (p3 : Int32) (h : zH) : Option ((Int32 ⊕ (Nat × Nat)) × zH) :=
  (cko h p0 0).bind fun _ =>
  bnd2 (f_X1_franchisee E p0 p1 h) fun x4 h2 =>
  Sum.elim (fun x5 => (
    bnd2 (nA h2 3 (1 : Int32) (.inl fun _ => 0)) fun q7 h8 =>
    bnd2 (f_X1_isPlace E p2 p3 h8) fun x12 h10 =>
    (zgd .boolean x12).bind fun _ =>
    (sI h10 q7 3 (0 : Int32) x12).bind fun h14 =>
    bnd2 (f_X1_requireArguments E q7 h14) fun x18 h16 =>
    Sum.elim (fun x19 => (
      bnd2 (f_X1_cell E p2 p3 h16) fun x23 h21 =>
      (cko h21 x5 10).bind fun _ =>
      bnd2 (f_X11_isActive E x5 h21) fun x27 h25 =>
      if x27 = 0 then (
        f_X1_openOutlet_b65 E  h25
      ) else (
        (gR h25 p0 0 1).bind fun x29 =>
        (gR h25 x29 4 2).bind fun x31 =>
        (gR h25 x31 5 0).bind fun x33 =>
        (dI h25 x33 2 x23).bind fun x35 =>
        if x35 = p1 then (
          (gR h25 p0 0 1).bind fun x38 =>
          (cko h25 x38 4).bind fun _ =>
          bnd2 (f_X4_hasOutlet E x38 x23 h25) fun x43 h41 =>
          if x43 = 0 then (
            (gR h41 p0 0 1).bind fun x45 =>
            (gR h41 x45 4 1).bind fun x47 =>
            (cko h41 x47 15).bind fun _ =>
            bnd2 (f_J2_size E x47 h41) fun x52 h50 =>
            if x52 = (16 : Int32) then (
              some (.inl (-3 : Int32), h50)
            ) else (
              (gR h50 p0 0 1).bind fun x54 =>
              (gR h50 x54 4 1).bind fun x56 =>
              bnd2 (nO h50 13 3 [.int 0, .int 0, .long 0]) fun q58 h59 =>
              bnd2 (f_X14_init_2 E q58 x23 p1 h59) fun x63 h61 =>
              (cko h61 x56 15).bind fun _ =>
              bnd2 (f_J2_add E x56 q58 h61) fun x67 h65 =>
              (gR h65 p0 0 1).bind fun x68 =>
              (gR h65 x68 4 1).bind fun x70 =>
              (cko h65 x70 15).bind fun _ =>
              bnd2 (f_J2_size E x70 h65) fun x75 h73 =>
              some (.inl (x75 - (1 : Int32)), h73)
            )
          ) else (
            f_X1_openOutlet_b65 E  h41
          )
        ) else (
          f_X1_openOutlet_b65 E  h25
        )
      )
    )) (fun q20 => (
      some (.inr q20, h16)
    )) x18
  )) (fun q6 => (
    some (.inr q6, h2)
  )) x4
theorem w_X1_openOutlet_b0 (C0 : zCx p l e R s m args below meth c D B0 6 "FranchiseLedger" cX1_openOutlet E 11 212 (Option.some Jvm.ClassFile.FieldType.int) "openOutlet") (hno : ∀ x ∈ c.exceptionTable.toList, False) {r : (Int32 ⊕ (Nat × Nat))} {h' : zH} {p0 : Nat} {p1 : Int32} {p2 : Int32} {p3 : Int32} {h : zH} (hf : f_X1_openOutlet_b0 E p0 p1 p2 p3 h = some (r, h')) : zW p l e R s m args below meth c D B0 6 (zEnd D B0 R below args s (zoT zoI r) h') h 0 [(0, .ref p0), (1, .int p1), (2, .int p2), (3, .int p3)] [] := by
  unfold f_X1_openOutlet_b0 at hf
  refine zr_aload_n C0 dX1_openOutlet_0 rfl 0 rfl ?_
  refine zr_iload_n C0 dX1_openOutlet_1 rfl 1 rfl ?_
  obtain ⟨_, e1, hf⟩ := zbind hf
  obtain ⟨x4, h2, e3, hf⟩ := zbind2 hf
  rcases x4 with x5 | q6
  · have hf := zinl hf
    refine zr_callV_r C0 cv_X1_134_X1 rfl (zcko e1) (m_X1_franchisee C0.2.2.2.2.2.2.1 e3) (by decide) (by decide) rfl rfl (Nat.le_of_ble_eq_true rfl) dX1_openOutlet_2 rfl ?_
    refine zr_astore (i := 4) (lv' := [(4, .ref x5), (0, .ref p0), (1, .int p1), (2, .int p2), (3, .int p3)]) C0 dX1_openOutlet_5 (by decide) (by first | rfl | simp [zst1, zst2, zcat_rf]) ?_
    refine zr_iconst C0 (v := 1) dX1_openOutlet_7 (by decide) ?_
    obtain ⟨q7, h8, e9, hf⟩ := zbind2 hf
    refine zr_newa C0 (atype := .boolean) (t := 3) q627 rfl (by decide) (fun _ => rfl) dX1_openOutlet_8 e9 ?_
    refine zr_dup C0 dX1_openOutlet_10 rfl ?_
    refine zr_iconst C0 (v := 0) dX1_openOutlet_11 (by decide) ?_
    refine zr_iload_n C0 dX1_openOutlet_12 rfl 3 rfl ?_
    refine zr_iload_n C0 dX1_openOutlet_13 rfl 4 rfl ?_
    obtain ⟨x12, h10, e11, hf⟩ := zbind2 hf
    refine zr_callS_r C0 cv_X1_164 (m_X1_isPlace C0.2.2.2.2.2.2.1 e11) (by decide) (by decide) rfl rfl (Nat.le_of_ble_eq_true rfl) dX1_openOutlet_14 rfl ?_
    obtain ⟨_, e13, hf⟩ := zbind hf
    obtain ⟨h14, e15, hf⟩ := zbind hf
    refine zr_zast C0 dX1_openOutlet_17 (zgd_b e13) e15 ?_
    obtain ⟨x18, h16, e17, hf⟩ := zbind2 hf
    rcases x18 with x19 | q20
    · have hf := zinl hf
      refine zr_callS_r C0 cv_X1_168 (m_X1_requireArguments C0.2.2.2.2.2.2.1 e17) (by decide) (by decide) rfl rfl (Nat.le_of_ble_eq_true rfl) dX1_openOutlet_18 rfl ?_
      refine zr_iload_n C0 dX1_openOutlet_21 rfl 3 rfl ?_
      refine zr_iload_n C0 dX1_openOutlet_22 rfl 4 rfl ?_
      obtain ⟨x23, h21, e22, hf⟩ := zbind2 hf
      refine zr_callS_r C0 cv_X1_180 (m_X1_cell C0.2.2.2.2.2.2.1 e22) (by decide) (by decide) rfl rfl (Nat.le_of_ble_eq_true rfl) dX1_openOutlet_23 rfl ?_
      refine zr_istore (i := 5) (lv' := [(5, .int x23), (4, .ref x5), (0, .ref p0), (1, .int p1), (2, .int p2), (3, .int p3)]) C0 dX1_openOutlet_26 (by decide) (by first | rfl | simp [zst1, zst2, zcat_rf]) ?_
      refine zr_aload C0 dX1_openOutlet_28 1 rfl ?_
      obtain ⟨_, e24, hf⟩ := zbind hf
      obtain ⟨x27, h25, e26, hf⟩ := zbind2 hf
      refine zr_callV_r C0 cv_X1_208_X11 rfl (zcko e24) (m_X11_isActive C0.2.2.2.2.2.2.1 e26) (by decide) (by decide) rfl rfl (Nat.le_of_ble_eq_true rfl) dX1_openOutlet_30 rfl ?_
      refine zr_if_eq C0 (tgt := 65) dX1_openOutlet_33 (by decide) (fun c28 => ?_) (fun c28 => ?_)
      · have hf := zif_t c28 hf
        refine zr_sub [] rfl ?_
        exact w_X1_openOutlet_b65 C0 hno hf
      · have hf := zif_f c28 hf
        refine zr_aload_n C0 dX1_openOutlet_36 rfl 2 rfl ?_
        obtain ⟨x29, e30, hf⟩ := zbind hf
        refine zr_get C0 fl_X1_39_X1 dX1_openOutlet_37 (zgR e30) ?_
        obtain ⟨x31, e32, hf⟩ := zbind hf
        refine zr_get C0 fl_X1_171_X4 dX1_openOutlet_40 (zgR e32) ?_
        obtain ⟨x33, e34, hf⟩ := zbind hf
        refine zr_get C0 fl_X1_175_X5 dX1_openOutlet_43 (zgR e34) ?_
        refine zr_iload C0 dX1_openOutlet_46 0 rfl ?_
        obtain ⟨x35, e36, hf⟩ := zbind hf
        refine zr_bald C0 dX1_openOutlet_48 e36 ?_
        refine zr_iload_n C0 dX1_openOutlet_49 rfl 3 rfl ?_
        refine zr_icmp_ne C0 (tgt := 65) dX1_openOutlet_50 (by decide) (fun c37 => ?_) (fun c37 => ?_)
        · have hf := zif_f c37 hf
          refine zr_sub [] rfl ?_
          exact w_X1_openOutlet_b65 C0 hno hf
        · have hf := zif_t c37 hf
          refine zr_aload_n C0 dX1_openOutlet_53 rfl 2 rfl ?_
          obtain ⟨x38, e39, hf⟩ := zbind hf
          refine zr_get C0 fl_X1_39_X1 dX1_openOutlet_54 (zgR e39) ?_
          refine zr_iload C0 dX1_openOutlet_57 0 rfl ?_
          obtain ⟨_, e40, hf⟩ := zbind hf
          obtain ⟨x43, h41, e42, hf⟩ := zbind2 hf
          refine zr_callV_r C0 cv_X1_203_X4 rfl (zcko e40) (m_X4_hasOutlet C0.2.2.2.2.2.2.1 e42) (by decide) (by decide) rfl rfl (Nat.le_of_ble_eq_true rfl) dX1_openOutlet_59 rfl ?_
          refine zr_if_eq C0 (tgt := 68) dX1_openOutlet_62 (by decide) (fun c44 => ?_) (fun c44 => ?_)
          · have hf := zif_t c44 hf
            refine zr_aload_n C0 dX1_openOutlet_68 rfl 2 rfl ?_
            obtain ⟨x45, e46, hf⟩ := zbind hf
            refine zr_get C0 fl_X1_39_X1 dX1_openOutlet_69 (zgR e46) ?_
            obtain ⟨x47, e48, hf⟩ := zbind hf
            refine zr_get C0 fl_X1_102_X4 dX1_openOutlet_72 (zgR e48) ?_
            obtain ⟨_, e49, hf⟩ := zbind hf
            obtain ⟨x52, h50, e51, hf⟩ := zbind2 hf
            refine zr_callF_r C0 cv_X1_78_J2 rfl (zcko e49) (m_J2_size C0.2.2.2.2.2.2.1 e51) (by decide) (by decide) rfl rfl (Nat.le_of_ble_eq_true rfl) dX1_openOutlet_75 rfl ?_
            refine zr_bipush C0 (v := 16) dX1_openOutlet_80 (by decide) ?_
            refine zr_icmp_ne C0 (tgt := 88) dX1_openOutlet_82 (by decide) (fun c53 => ?_) (fun c53 => ?_)
            · have hf := zif_f c53 hf
              refine zr_aload_n C0 dX1_openOutlet_88 rfl 2 rfl ?_
              obtain ⟨x54, e55, hf⟩ := zbind hf
              refine zr_get C0 fl_X1_39_X1 dX1_openOutlet_89 (zgR e55) ?_
              obtain ⟨x56, e57, hf⟩ := zbind hf
              refine zr_get C0 fl_X1_102_X4 dX1_openOutlet_92 (zgR e57) ?_
              obtain ⟨q58, h59, e60, hf⟩ := zbind2 hf
              refine zr_newc C0 (C := RX14) (T := TX14) (N := 3) rfl in_X14 tyX14_ok q1834 q1056 q170 nw_X14 dX1_openOutlet_95 e60 ?_
              refine zr_dup C0 dX1_openOutlet_98 rfl ?_
              refine zr_iload C0 dX1_openOutlet_99 0 rfl ?_
              refine zr_iload_n C0 dX1_openOutlet_101 rfl 3 rfl ?_
              obtain ⟨x63, h61, e62, hf⟩ := zbind2 hf
              refine zr_callI_r C0 cv_X1_225 (m_X14_init_2 C0.2.2.2.2.2.2.1 e62) (by decide) (by decide) rfl rfl (Nat.le_of_ble_eq_true rfl) dX1_openOutlet_102 rfl ?_
              obtain ⟨_, e64, hf⟩ := zbind hf
              obtain ⟨x67, h65, e66, hf⟩ := zbind2 hf
              refine zr_callF_r C0 cv_X1_228_J2 rfl (zcko e64) (m_J2_add C0.2.2.2.2.2.2.1 e66) (by decide) (by decide) rfl rfl (Nat.le_of_ble_eq_true rfl) dX1_openOutlet_105 rfl ?_
              refine zr_pop C0 dX1_openOutlet_110 rfl ?_
              refine zr_aload_n C0 dX1_openOutlet_111 rfl 2 rfl ?_
              obtain ⟨x68, e69, hf⟩ := zbind hf
              refine zr_get C0 fl_X1_39_X1 dX1_openOutlet_112 (zgR e69) ?_
              obtain ⟨x70, e71, hf⟩ := zbind hf
              refine zr_get C0 fl_X1_102_X4 dX1_openOutlet_115 (zgR e71) ?_
              obtain ⟨_, e72, hf⟩ := zbind hf
              obtain ⟨x75, h73, e74, hf⟩ := zbind2 hf
              refine zr_callF_r C0 cv_X1_78_J2 rfl (zcko e72) (m_J2_size C0.2.2.2.2.2.2.1 e74) (by decide) (by decide) rfl rfl (Nat.le_of_ble_eq_true rfl) dX1_openOutlet_118 rfl ?_
              refine zr_iconst C0 (v := 1) dX1_openOutlet_123 (by decide) ?_
              refine zr_isub C0 dX1_openOutlet_124 ?_
              refine zretW hf ?_
              exact zr_iret C0 (ty := .int) rfl rfl dX1_openOutlet_125 rfl
            · have hf := zif_t c53 hf
              refine zr_bipush C0 (v := -3) dX1_openOutlet_85 (by decide) ?_
              refine zretW hf ?_
              exact zr_iret C0 (ty := .int) rfl rfl dX1_openOutlet_87 rfl
          · have hf := zif_f c44 hf
            refine zr_sub [] rfl ?_
            exact w_X1_openOutlet_b65 C0 hno hf
    · have hf := zinr hf
      refine zretW hf ?_
      exact zr_callS_t C0 cv_X1_168 (m_X1_requireArguments C0.2.2.2.2.2.2.1 e17) (by decide) (by decide) rfl rfl (Nat.le_of_ble_eq_true rfl) dX1_openOutlet_18 (zr_out C0 hno rfl)
  · have hf := zinr hf
    refine zretW hf ?_
    exact zr_callV_t C0 cv_X1_134_X1 rfl (zcko e1) (m_X1_franchisee C0.2.2.2.2.2.2.1 e3) (by decide) (by decide) rfl rfl (Nat.le_of_ble_eq_true rfl) dX1_openOutlet_2 (zr_out C0 hno rfl)
def f_X1_openOutlet (E : zE) (p0 : Nat) (p1 : Int32) (p2 : Int32) (p3 : Int32) (h : zH) : Option ((Int32 ⊕ (Nat × Nat)) × zH) := f_X1_openOutlet_b0 E p0 p1 p2 p3 h
theorem m_X1_openOutlet {l : Launch} (hst : l.stackTraces = false) {D : zD} {B0 : Nat} {E : zE} {p0 : Nat} {p1 : Int32} {p2 : Int32} {p3 : Int32} {h h' : zH} {r : (Int32 ⊕ (Nat × Nat))} (hf : f_X1_openOutlet E p0 p1 p2 p3 h = some (r, h')) : zMet l yX1_openOutlet (ws_ yX1_openOutlet cX1_openOutlet 6 (Option.some Jvm.ClassFile.FieldType.int)) 11 212 D B0 E [.ref p0, .int p1, .int p2, .int p3] h (zoT zoI r) h' := by
  unfold f_X1_openOutlet at hf
  refine zMet_of hst (by decide +kernel) rfl rfl (Nat.le_of_ble_eq_true rfl) (fun p e R s m below meth c C0 hno => ?_)
  show zW _ _ _ _ _ _ _ _ _ _ _ _ _ _ _ _ [(0, .ref p0), (1, .int p1), (2, .int p2), (3, .int p3)] []
  exact w_X1_openOutlet_b0 C0 hno hf
def f_X4_nearest_b73 (E : zE) (k7 : Nat → Int32 → Int32 → Int32 → Int32 → zH → Option (Int32 × zH)) (p0 : Nat) (p1 : Int32) (p2 : Int32) (p3 : Int32) (p4 : Int32) (h : zH) : Option (Int32 × zH) :=
  k7 p0 p1 p2 p3 (p4 + 1) h
theorem w_X4_nearest_b73 (C0 : zCx p l e R s m args below meth c D B0 6 "FranchiseLedger$Books" cX4_nearest E 4 124 (Option.some Jvm.ClassFile.FieldType.int) "nearest") {r : Int32} {h' : zH} {k7 : Nat → Int32 → Int32 → Int32 → Int32 → zH → Option (Int32 × zH)} (hk7 : ∀ (p0 : Nat) (p1 : Int32) (p2 : Int32) (p3 : Int32) (p4 : Int32) (h : zH), k7 p0 p1 p2 p3 p4 h = some (r, h') → zW p l e R s m args below meth c D B0 6 (zEnd D B0 R below args s (zoI r) h') h 7 [(0, .ref p0), (1, .int p1), (2, .int p2), (3, .int p3), (4, .int p4)] []) {p0 : Nat} {p1 : Int32} {p2 : Int32} {p3 : Int32} {p4 : Int32} {h : zH} (hf : f_X4_nearest_b73 E k7 p0 p1 p2 p3 p4 h = some (r, h')) : zW p l e R s m args below meth c D B0 6 (zEnd D B0 R below args s (zoI r) h') h 73 [(0, .ref p0), (1, .int p1), (2, .int p2), (3, .int p3), (4, .int p4)] [] := by
  unfold f_X4_nearest_b73 at hf
  refine zr_iinc (lv' := [(4, .int (p4 + 1)), (0, .ref p0), (1, .int p1), (2, .int p2), (3, .int p3)]) C0 dX4_nearest_73 4 rfl rfl (by decide) (by first | rfl | simp [zst1, zst2, zcat_rf]) ?_
  refine zr_goto C0 (tgt := 7) dX4_nearest_76 (by decide) ?_
  refine zr_sub [1, 2, 3, 4, 0] rfl ?_
  exact hk7 _ _ _ _ _ _ hf
def f_X4_nearest_b59 (E : zE) (k7 : Nat → Int32 → Int32 → Int32 → Int32 → zH → Option (Int32 × zH)) (p0 : Nat) (p1 : Int32) (p2 : Int32) (p3 : Int32) (p4 : Int32) (p5 : Nat) (h : zH) : Option (Int32 × zH) :=
  (gI h p5 13 0).bind fun x1 =>
  bnd2 (f_X1_distance_2 E x1 p1 h) fun x5 h3 =>
  bnd2 (f_J12_min E p3 x5 h3) fun x8 h6 =>
  f_X4_nearest_b73 E k7 p0 p1 p2 x8 p4 h6
theorem w_X4_nearest_b59 (C0 : zCx p l e R s m args below meth c D B0 6 "FranchiseLedger$Books" cX4_nearest E 4 124 (Option.some Jvm.ClassFile.FieldType.int) "nearest") {r : Int32} {h' : zH} {k7 : Nat → Int32 → Int32 → Int32 → Int32 → zH → Option (Int32 × zH)} (hk7 : ∀ (p0 : Nat) (p1 : Int32) (p2 : Int32) (p3 : Int32) (p4 : Int32) (h : zH), k7 p0 p1 p2 p3 p4 h = some (r, h') → zW p l e R s m args below meth c D B0 6 (zEnd D B0 R below args s (zoI r) h') h 7 [(0, .ref p0), (1, .int p1), (2, .int p2), (3, .int p3), (4, .int p4)] []) {p0 : Nat} {p1 : Int32} {p2 : Int32} {p3 : Int32} {p4 : Int32} {p5 : Nat} {h : zH} (hf : f_X4_nearest_b59 E k7 p0 p1 p2 p3 p4 p5 h = some (r, h')) : zW p l e R s m args below meth c D B0 6 (zEnd D B0 R below args s (zoI r) h') h 59 [(0, .ref p0), (1, .int p1), (2, .int p2), (3, .int p3), (4, .int p4), (5, .ref p5)] [] := by
  unfold f_X4_nearest_b59 at hf
  refine zr_iload_n C0 dX4_nearest_59 rfl 3 rfl ?_
  refine zr_aload C0 dX4_nearest_60 5 rfl ?_
  obtain ⟨x1, e2, hf⟩ := zbind hf
  refine zr_get C0 fl_X4_72_X14 dX4_nearest_62 (zgI e2) ?_
  refine zr_iload_n C0 dX4_nearest_65 rfl 1 rfl ?_
  obtain ⟨x5, h3, e4, hf⟩ := zbind2 hf
  refine zr_callSN_r C0 cv_X4_212 (m_X1_distance_2 C0.2.2.2.2.2.2.1 e4) (by decide) (by decide) rfl rfl (Nat.le_of_ble_eq_true rfl) dX4_nearest_66 rfl ?_
  obtain ⟨x8, h6, e7, hf⟩ := zbind2 hf
  refine zr_callS_r C0 cv_X4_216 (m_J12_min C0.2.2.2.2.2.2.1 e7) (by decide) (by decide) rfl rfl (Nat.le_of_ble_eq_true rfl) dX4_nearest_69 rfl ?_
  refine zr_istore_n (i := 3) (lv' := [(3, .int x8), (0, .ref p0), (1, .int p1), (2, .int p2), (4, .int p4), (5, .ref p5)]) C0 dX4_nearest_72 rfl (by decide) (by first | rfl | simp [zst1, zst2, zcat_rf]) ?_
  refine zr_sub [1, 2, 3, 0, 4] rfl ?_
  exact w_X4_nearest_b73 C0 hk7 hf
def f_X4_nearest_l7 (E : zE) : Nat → Nat → Int32 → Int32 → Int32 → Int32 → zH → Option (Int32 × zH)
  | 0, _, _, _, _, _, _ => none
  | n + 1, p0, p1, p2, p3, p4, h =>
    (gR h p0 4 1).bind fun x1 =>
    (cko h x1 15).bind fun _ =>
    bnd2 (f_J2_size E x1 h) fun x6 h4 =>
    if x6 ≤ p4 then (
      some (p3, h4)
    ) else (
      (gR h4 p0 4 1).bind fun x8 =>
      (cko h4 x8 15).bind fun _ =>
      bnd2 (f_J2_get E x8 p4 h4) fun x13 h11 =>
      (cko h11 x13 13).bind fun _ =>
      (cko h11 x13 13).bind fun _ =>
      bnd2 (f_X14_isOpen E x13 h11) fun x18 h16 =>
      if x18 = 0 then (
        f_X4_nearest_b73 E (f_X4_nearest_l7 E n) p0 p1 p2 p3 p4 h16
      ) else (
        if p2 = (-1 : Int32) then (
          f_X4_nearest_b59 E (f_X4_nearest_l7 E n) p0 p1 p2 p3 p4 x13 h16
        ) else (
          (gI h16 x13 13 1).bind fun x21 =>
          if x21 = p2 then (
            f_X4_nearest_b59 E (f_X4_nearest_l7 E n) p0 p1 p2 p3 p4 x13 h16
          ) else (
            f_X4_nearest_b73 E (f_X4_nearest_l7 E n) p0 p1 p2 p3 p4 h16
          )
        )
      )
    )
theorem w_X4_nearest_l7 (C0 : zCx p l e R s m args below meth c D B0 6 "FranchiseLedger$Books" cX4_nearest E 4 124 (Option.some Jvm.ClassFile.FieldType.int) "nearest") {r : Int32} {h' : zH} : ∀ (n : Nat) (p0 : Nat) (p1 : Int32) (p2 : Int32) (p3 : Int32) (p4 : Int32) (h : zH), f_X4_nearest_l7 E n p0 p1 p2 p3 p4 h = some (r, h') → zW p l e R s m args below meth c D B0 6 (zEnd D B0 R below args s (zoI r) h') h 7 [(0, .ref p0), (1, .int p1), (2, .int p2), (3, .int p3), (4, .int p4)] [] := by
  intro n
  induction n with
  | zero =>
    intro p0 p1 p2 p3 p4 h hf
    unfold f_X4_nearest_l7 at hf
    cases hf
  | succ n ih =>
    intro p0 p1 p2 p3 p4 h hf
    unfold f_X4_nearest_l7 at hf
    refine zr_iload C0 dX4_nearest_7 4 rfl ?_
    refine zr_aload_n C0 dX4_nearest_9 rfl 0 rfl ?_
    obtain ⟨x1, e2, hf⟩ := zbind hf
    refine zr_get C0 fl_X4_24_X4 dX4_nearest_10 (zgR e2) ?_
    obtain ⟨_, e3, hf⟩ := zbind hf
    obtain ⟨x6, h4, e5, hf⟩ := zbind2 hf
    refine zr_callF_r C0 cv_X4_46_J2 rfl (zcko e3) (m_J2_size C0.2.2.2.2.2.2.1 e5) (by decide) (by decide) rfl rfl (Nat.le_of_ble_eq_true rfl) dX4_nearest_13 rfl ?_
    refine zr_icmp_ge C0 (tgt := 79) dX4_nearest_18 (by decide) (fun c7 => ?_) (fun c7 => ?_)
    · have hf := zif_t c7 hf
      refine zr_iload_n C0 dX4_nearest_79 rfl 3 rfl ?_
      refine zretW hf ?_
      exact zr_iret C0 (ty := .int) rfl rfl dX4_nearest_80 rfl
    · have hf := zif_f c7 hf
      refine zr_aload_n C0 dX4_nearest_21 rfl 0 rfl ?_
      obtain ⟨x8, e9, hf⟩ := zbind hf
      refine zr_get C0 fl_X4_24_X4 dX4_nearest_22 (zgR e9) ?_
      refine zr_iload C0 dX4_nearest_25 4 rfl ?_
      obtain ⟨_, e10, hf⟩ := zbind hf
      obtain ⟨x13, h11, e12, hf⟩ := zbind2 hf
      refine zr_callF_r C0 cv_X4_52_J2 rfl (zcko e10) (m_J2_get C0.2.2.2.2.2.2.1 e12) (by decide) (by decide) rfl rfl (Nat.le_of_ble_eq_true rfl) dX4_nearest_27 rfl ?_
      obtain ⟨_, e14, hf⟩ := zbind hf
      refine zr_castS C0 (ci := 13) rfl (zcko e14) q1055 dX4_nearest_32 ?_
      refine zr_astore (i := 5) (lv' := [(5, .ref x13), (0, .ref p0), (1, .int p1), (2, .int p2), (3, .int p3), (4, .int p4)]) C0 dX4_nearest_35 (by decide) (by first | rfl | simp [zst1, zst2, zcat_rf]) ?_
      refine zr_aload C0 dX4_nearest_37 0 rfl ?_
      obtain ⟨_, e15, hf⟩ := zbind hf
      obtain ⟨x18, h16, e17, hf⟩ := zbind2 hf
      refine zr_callV_r C0 cv_X4_209_X14 rfl (zcko e15) (m_X14_isOpen C0.2.2.2.2.2.2.1 e17) (by decide) (by decide) rfl rfl (Nat.le_of_ble_eq_true rfl) dX4_nearest_39 rfl ?_
      refine zr_if_eq C0 (tgt := 73) dX4_nearest_42 (by decide) (fun c19 => ?_) (fun c19 => ?_)
      · have hf := zif_t c19 hf
        refine zr_sub [1, 2, 3, 4, 5] rfl ?_
        exact w_X4_nearest_b73 C0 ih hf
      · have hf := zif_f c19 hf
        refine zr_iload_n C0 dX4_nearest_45 rfl 3 rfl ?_
        refine zr_iconst C0 (v := -1) dX4_nearest_46 (by decide) ?_
        refine zr_icmp_eq C0 (tgt := 59) dX4_nearest_47 (by decide) (fun c20 => ?_) (fun c20 => ?_)
        · have hf := zif_t c20 hf
          refine zr_sub [1, 2, 3, 4, 5, 0] rfl ?_
          exact w_X4_nearest_b59 C0 ih hf
        · have hf := zif_f c20 hf
          refine zr_aload C0 dX4_nearest_50 0 rfl ?_
          obtain ⟨x21, e22, hf⟩ := zbind hf
          refine zr_get C0 fl_X4_75_X14 dX4_nearest_52 (zgI e22) ?_
          refine zr_iload_n C0 dX4_nearest_55 rfl 3 rfl ?_
          refine zr_icmp_ne C0 (tgt := 73) dX4_nearest_56 (by decide) (fun c23 => ?_) (fun c23 => ?_)
          · have hf := zif_f c23 hf
            refine zr_sub [1, 2, 3, 4, 5] rfl ?_
            exact w_X4_nearest_b73 C0 ih hf
          · have hf := zif_t c23 hf
            refine zr_sub [1, 2, 3, 4, 5, 0] rfl ?_
            exact w_X4_nearest_b59 C0 ih hf
def f_X4_nearest_b0 (E : zE) (p0 : Nat) (p1 : Int32) (p2 : Int32) (h : zH) : Option (Int32 × zH) :=
  f_X4_nearest_l7 E E.1 p0 p1 p2 (1000 : Int32) (0 : Int32) h
theorem w_X4_nearest_b0 (C0 : zCx p l e R s m args below meth c D B0 6 "FranchiseLedger$Books" cX4_nearest E 4 124 (Option.some Jvm.ClassFile.FieldType.int) "nearest") {r : Int32} {h' : zH} {p0 : Nat} {p1 : Int32} {p2 : Int32} {h : zH} (hf : f_X4_nearest_b0 E p0 p1 p2 h = some (r, h')) : zW p l e R s m args below meth c D B0 6 (zEnd D B0 R below args s (zoI r) h') h 0 [(0, .ref p0), (1, .int p1), (2, .int p2)] [] := by
  unfold f_X4_nearest_b0 at hf
  refine zr_sipush C0 (v := 1000) dX4_nearest_0 (by decide) ?_
  refine zr_istore_n (i := 3) (lv' := [(3, .int (1000 : Int32)), (0, .ref p0), (1, .int p1), (2, .int p2)]) C0 dX4_nearest_3 rfl (by decide) (by first | rfl | simp [zst1, zst2, zcat_rf]) ?_
  refine zr_iconst C0 (v := 0) dX4_nearest_4 (by decide) ?_
  refine zr_istore (i := 4) (lv' := [(4, .int (0 : Int32)), (3, .int (1000 : Int32)), (0, .ref p0), (1, .int p1), (2, .int p2)]) C0 dX4_nearest_5 (by decide) (by first | rfl | simp [zst1, zst2, zcat_rf]) ?_
  refine zr_sub [2, 3, 4, 1, 0] rfl ?_
  exact w_X4_nearest_l7 C0 _ _ _ _ _ _ _ hf
def f_X4_nearest (E : zE) (p0 : Nat) (p1 : Int32) (p2 : Int32) (h : zH) : Option (Int32 × zH) := f_X4_nearest_b0 E p0 p1 p2 h
theorem m_X4_nearest {l : Launch} (hst : l.stackTraces = false) {D : zD} {B0 : Nat} {E : zE} {p0 : Nat} {p1 : Int32} {p2 : Int32} {h h' : zH} {r : Int32} (hf : f_X4_nearest E p0 p1 p2 h = some (r, h')) : zMet l yX4_nearest (ws_ yX4_nearest cX4_nearest 6 (Option.some Jvm.ClassFile.FieldType.int)) 4 124 D B0 E [.ref p0, .int p1, .int p2] h (zoI r) h' := by
  unfold f_X4_nearest at hf
  refine zMet_of hst (by decide +kernel) rfl rfl (Nat.le_of_ble_eq_true rfl) (fun p e R s m below meth c C0 hno => ?_)
  show zW _ _ _ _ _ _ _ _ _ _ _ _ _ _ _ _ [(0, .ref p0), (1, .int p1), (2, .int p2)] []
  exact w_X4_nearest_b0 C0 hf
def f_X1_bestSite_b112 (E : zE) (s0 : Int32) (h : zH) : Option ((Int32 ⊕ (Nat × Nat)) × zH) :=
  some (.inl s0, h)
theorem w_X1_bestSite_b112 (C0 : zCx p l e R s m args below meth c D B0 6 "FranchiseLedger" cX1_bestSite E 10 154 (Option.some Jvm.ClassFile.FieldType.int) "bestSite") (hno : ∀ x ∈ c.exceptionTable.toList, False) {r : (Int32 ⊕ (Nat × Nat))} {h' : zH} {s0 : Int32} {h : zH} (hf : f_X1_bestSite_b112 E s0 h = some (r, h')) : zW p l e R s m args below meth c D B0 6 (zEnd D B0 R below args s (zoT zoI r) h') h 112 [] [.int s0] := by
  unfold f_X1_bestSite_b112 at hf
  refine zretW hf ?_
  exact zr_iret C0 (ty := .int) rfl rfl dX1_bestSite_112 rfl
def f_X1_bestSite_b93 (E : zE) (k21 : Nat → Int32 → Int32 → Int32 → Int32 → zH → Option ((Int32 ⊕ (Nat × Nat)) × zH)) (p0 : Nat) (p1 : Int32) (p2 : Int32) (p3 : Int32) (p4 : Int32) (h : zH) : Option ((Int32 ⊕ (Nat × Nat)) × zH) :=
  k21 p0 p1 p2 p3 (p4 + 1) h
theorem w_X1_bestSite_b93 (C0 : zCx p l e R s m args below meth c D B0 6 "FranchiseLedger" cX1_bestSite E 10 154 (Option.some Jvm.ClassFile.FieldType.int) "bestSite") (hno : ∀ x ∈ c.exceptionTable.toList, False) {r : (Int32 ⊕ (Nat × Nat))} {h' : zH} {k21 : Nat → Int32 → Int32 → Int32 → Int32 → zH → Option ((Int32 ⊕ (Nat × Nat)) × zH)} (hk21 : ∀ (p0 : Nat) (p1 : Int32) (p2 : Int32) (p3 : Int32) (p4 : Int32) (h : zH), k21 p0 p1 p2 p3 p4 h = some (r, h') → zW p l e R s m args below meth c D B0 6 (zEnd D B0 R below args s (zoT zoI r) h') h 21 [(0, .ref p0), (1, .int p1), (2, .int p2), (3, .int p3), (4, .int p4)] []) {p0 : Nat} {p1 : Int32} {p2 : Int32} {p3 : Int32} {p4 : Int32} {h : zH} (hf : f_X1_bestSite_b93 E k21 p0 p1 p2 p3 p4 h = some (r, h')) : zW p l e R s m args below meth c D B0 6 (zEnd D B0 R below args s (zoT zoI r) h') h 93 [(0, .ref p0), (1, .int p1), (2, .int p2), (3, .int p3), (4, .int p4)] [] := by
  unfold f_X1_bestSite_b93 at hf
  refine zr_iinc (lv' := [(4, .int (p4 + 1)), (0, .ref p0), (1, .int p1), (2, .int p2), (3, .int p3)]) C0 dX1_bestSite_93 4 rfl rfl (by decide) (by first | rfl | simp [zst1, zst2, zcat_rf]) ?_
  refine zr_goto C0 (tgt := 21) dX1_bestSite_96 (by decide) ?_
  refine zr_sub [1, 2, 3, 4, 0] rfl ?_
  exact hk21 _ _ _ _ _ _ hf
def f_X1_bestSite_b87 (E : zE) (k21 : Nat → Int32 → Int32 → Int32 → Int32 → zH → Option ((Int32 ⊕ (Nat × Nat)) × zH)) (p0 : Nat) (p1 : Int32) (p4 : Int32) (p5 : Int32) (h : zH) : Option ((Int32 ⊕ (Nat × Nat)) × zH) :=
  f_X1_bestSite_b93 E k21 p0 p1 p4 p5 p4 h
theorem w_X1_bestSite_b87 (C0 : zCx p l e R s m args below meth c D B0 6 "FranchiseLedger" cX1_bestSite E 10 154 (Option.some Jvm.ClassFile.FieldType.int) "bestSite") (hno : ∀ x ∈ c.exceptionTable.toList, False) {r : (Int32 ⊕ (Nat × Nat))} {h' : zH} {k21 : Nat → Int32 → Int32 → Int32 → Int32 → zH → Option ((Int32 ⊕ (Nat × Nat)) × zH)} (hk21 : ∀ (p0 : Nat) (p1 : Int32) (p2 : Int32) (p3 : Int32) (p4 : Int32) (h : zH), k21 p0 p1 p2 p3 p4 h = some (r, h') → zW p l e R s m args below meth c D B0 6 (zEnd D B0 R below args s (zoT zoI r) h') h 21 [(0, .ref p0), (1, .int p1), (2, .int p2), (3, .int p3), (4, .int p4)] []) {p0 : Nat} {p1 : Int32} {p4 : Int32} {p5 : Int32} {h : zH} (hf : f_X1_bestSite_b87 E k21 p0 p1 p4 p5 h = some (r, h')) : zW p l e R s m args below meth c D B0 6 (zEnd D B0 R below args s (zoT zoI r) h') h 87 [(0, .ref p0), (1, .int p1), (4, .int p4), (5, .int p5)] [] := by
  unfold f_X1_bestSite_b87 at hf
  refine zr_iload C0 dX1_bestSite_87 2 rfl ?_
  refine zr_istore_n (i := 2) (lv' := [(2, .int p4), (0, .ref p0), (1, .int p1), (4, .int p4), (5, .int p5)]) C0 dX1_bestSite_89 rfl (by decide) (by first | rfl | simp [zst1, zst2, zcat_rf]) ?_
  refine zr_iload C0 dX1_bestSite_90 4 rfl ?_
  refine zr_istore_n (i := 3) (lv' := [(3, .int p5), (2, .int p4), (0, .ref p0), (1, .int p1), (4, .int p4), (5, .int p5)]) C0 dX1_bestSite_92 rfl (by decide) (by first | rfl | simp [zst1, zst2, zcat_rf]) ?_
  refine zr_sub [2, 3, 1, 0, 4] rfl ?_
  exact w_X1_bestSite_b93 C0 hno hk21 hf
def f_X1_bestSite_l21 (E : zE) : Nat → Nat → Int32 → Int32 → Int32 → Int32 → zH → Option ((Int32 ⊕ (Nat × Nat)) × zH)
  | 0, _, _, _, _, _, _ => none
  | n + 1, p0, p1, p2, p3, p4, h =>
    if (900 : Int32) ≤ p4 then (
      if p2 = (-1 : Int32) then (
        f_X1_bestSite_b112 E (-1 : Int32) h
      ) else (
        bnd2 (f_X1_told E p2 h) fun x5 h3 =>
        f_X1_bestSite_b112 E x5 h3
      )
    ) else (
      (gR h p0 0 1).bind fun x6 =>
      (gR h x6 4 2).bind fun x8 =>
      (gR h x8 5 0).bind fun x10 =>
      (dI h x10 2 p4).bind fun x12 =>
      if x12 = p1 then (
        (gR h p0 0 1).bind fun x15 =>
        (cko h x15 4).bind fun _ =>
        bnd2 (f_X4_hasOutlet E x15 p4 h) fun x20 h18 =>
        if x20 = 0 then (
          (gR h18 p0 0 1).bind fun x22 =>
          (cko h18 x22 4).bind fun _ =>
          bnd2 (f_X4_nearest E x22 p4 (-1 : Int32) h18) fun x27 h25 =>
          if p2 = (-1 : Int32) then (
            f_X1_bestSite_b87 E (f_X1_bestSite_l21 E n) p0 p1 p4 x27 h25
          ) else (
            if p3 < x27 then (
              f_X1_bestSite_b87 E (f_X1_bestSite_l21 E n) p0 p1 p4 x27 h25
            ) else (
              f_X1_bestSite_b93 E (f_X1_bestSite_l21 E n) p0 p1 p2 p3 p4 h25
            )
          )
        ) else (
          f_X1_bestSite_b93 E (f_X1_bestSite_l21 E n) p0 p1 p2 p3 p4 h18
        )
      ) else (
        f_X1_bestSite_b93 E (f_X1_bestSite_l21 E n) p0 p1 p2 p3 p4 h
      )
    )
theorem w_X1_bestSite_l21 (C0 : zCx p l e R s m args below meth c D B0 6 "FranchiseLedger" cX1_bestSite E 10 154 (Option.some Jvm.ClassFile.FieldType.int) "bestSite") (hno : ∀ x ∈ c.exceptionTable.toList, False) {r : (Int32 ⊕ (Nat × Nat))} {h' : zH} : ∀ (n : Nat) (p0 : Nat) (p1 : Int32) (p2 : Int32) (p3 : Int32) (p4 : Int32) (h : zH), f_X1_bestSite_l21 E n p0 p1 p2 p3 p4 h = some (r, h') → zW p l e R s m args below meth c D B0 6 (zEnd D B0 R below args s (zoT zoI r) h') h 21 [(0, .ref p0), (1, .int p1), (2, .int p2), (3, .int p3), (4, .int p4)] [] := by
  intro n
  induction n with
  | zero =>
    intro p0 p1 p2 p3 p4 h hf
    unfold f_X1_bestSite_l21 at hf
    cases hf
  | succ n ih =>
    intro p0 p1 p2 p3 p4 h hf
    unfold f_X1_bestSite_l21 at hf
    refine zr_iload C0 dX1_bestSite_21 4 rfl ?_
    refine zr_sipush C0 (v := 900) dX1_bestSite_23 (by decide) ?_
    refine zr_icmp_ge C0 (tgt := 99) dX1_bestSite_26 (by decide) (fun c1 => ?_) (fun c1 => ?_)
    · have hf := zif_t c1 hf
      refine zr_iload_n C0 dX1_bestSite_99 rfl 2 rfl ?_
      refine zr_iconst C0 (v := -1) dX1_bestSite_100 (by decide) ?_
      refine zr_icmp_ne C0 (tgt := 108) dX1_bestSite_101 (by decide) (fun c2 => ?_) (fun c2 => ?_)
      · have hf := zif_f c2 hf
        refine zr_iload_n C0 dX1_bestSite_108 rfl 2 rfl ?_
        obtain ⟨x5, h3, e4, hf⟩ := zbind2 hf
        refine zr_callS_r C0 cv_X1_131 (m_X1_told C0.2.2.2.2.2.2.1 e4) (by decide) (by decide) rfl rfl (Nat.le_of_ble_eq_true rfl) dX1_bestSite_109 rfl ?_
        refine zr_sub [] rfl ?_
        exact w_X1_bestSite_b112 C0 hno hf
      · have hf := zif_t c2 hf
        refine zr_iconst C0 (v := -1) dX1_bestSite_104 (by decide) ?_
        refine zr_goto C0 (tgt := 112) dX1_bestSite_105 (by decide) ?_
        refine zr_sub [] rfl ?_
        exact w_X1_bestSite_b112 C0 hno hf
    · have hf := zif_f c1 hf
      refine zr_aload_n C0 dX1_bestSite_29 rfl 0 rfl ?_
      obtain ⟨x6, e7, hf⟩ := zbind hf
      refine zr_get C0 fl_X1_39_X1 dX1_bestSite_30 (zgR e7) ?_
      obtain ⟨x8, e9, hf⟩ := zbind hf
      refine zr_get C0 fl_X1_171_X4 dX1_bestSite_33 (zgR e9) ?_
      obtain ⟨x10, e11, hf⟩ := zbind hf
      refine zr_get C0 fl_X1_175_X5 dX1_bestSite_36 (zgR e11) ?_
      refine zr_iload C0 dX1_bestSite_39 4 rfl ?_
      obtain ⟨x12, e13, hf⟩ := zbind hf
      refine zr_bald C0 dX1_bestSite_41 e13 ?_
      refine zr_iload_n C0 dX1_bestSite_42 rfl 1 rfl ?_
      refine zr_icmp_ne C0 (tgt := 93) dX1_bestSite_43 (by decide) (fun c14 => ?_) (fun c14 => ?_)
      · have hf := zif_f c14 hf
        exact w_X1_bestSite_b93 C0 hno ih hf
      · have hf := zif_t c14 hf
        refine zr_aload_n C0 dX1_bestSite_46 rfl 0 rfl ?_
        obtain ⟨x15, e16, hf⟩ := zbind hf
        refine zr_get C0 fl_X1_39_X1 dX1_bestSite_47 (zgR e16) ?_
        refine zr_iload C0 dX1_bestSite_50 4 rfl ?_
        obtain ⟨_, e17, hf⟩ := zbind hf
        obtain ⟨x20, h18, e19, hf⟩ := zbind2 hf
        refine zr_callV_r C0 cv_X1_203_X4 rfl (zcko e17) (m_X4_hasOutlet C0.2.2.2.2.2.2.1 e19) (by decide) (by decide) rfl rfl (Nat.le_of_ble_eq_true rfl) dX1_bestSite_52 rfl ?_
        refine zr_if_eq C0 (tgt := 61) dX1_bestSite_55 (by decide) (fun c21 => ?_) (fun c21 => ?_)
        · have hf := zif_t c21 hf
          refine zr_aload_n C0 dX1_bestSite_61 rfl 0 rfl ?_
          obtain ⟨x22, e23, hf⟩ := zbind hf
          refine zr_get C0 fl_X1_39_X1 dX1_bestSite_62 (zgR e23) ?_
          refine zr_iload C0 dX1_bestSite_65 4 rfl ?_
          refine zr_iconst C0 (v := -1) dX1_bestSite_67 (by decide) ?_
          obtain ⟨_, e24, hf⟩ := zbind hf
          obtain ⟨x27, h25, e26, hf⟩ := zbind2 hf
          refine zr_callV_r C0 cv_X1_232_X4 rfl (zcko e24) (m_X4_nearest C0.2.2.2.2.2.2.1 e26) (by decide) (by decide) rfl rfl (Nat.le_of_ble_eq_true rfl) dX1_bestSite_68 rfl ?_
          refine zr_istore (i := 5) (lv' := [(5, .int x27), (0, .ref p0), (1, .int p1), (2, .int p2), (3, .int p3), (4, .int p4)]) C0 dX1_bestSite_71 (by decide) (by first | rfl | simp [zst1, zst2, zcat_rf]) ?_
          refine zr_iload_n C0 dX1_bestSite_73 rfl 3 rfl ?_
          refine zr_iconst C0 (v := -1) dX1_bestSite_74 (by decide) ?_
          refine zr_icmp_eq C0 (tgt := 87) dX1_bestSite_75 (by decide) (fun c28 => ?_) (fun c28 => ?_)
          · have hf := zif_t c28 hf
            refine zr_sub [1, 2, 5, 0] rfl ?_
            exact w_X1_bestSite_b87 C0 hno ih hf
          · have hf := zif_f c28 hf
            refine zr_iload C0 dX1_bestSite_78 0 rfl ?_
            refine zr_iload_n C0 dX1_bestSite_80 rfl 4 rfl ?_
            refine zr_icmp_gt C0 (tgt := 87) dX1_bestSite_81 (by decide) (fun c29 => ?_) (fun c29 => ?_)
            · have hf := zif_t c29 hf
              refine zr_sub [1, 2, 5, 0] rfl ?_
              exact w_X1_bestSite_b87 C0 hno ih hf
            · have hf := zif_f c29 hf
              refine zr_goto C0 (tgt := 93) dX1_bestSite_84 (by decide) ?_
              refine zr_sub [1, 2, 3, 4, 5] rfl ?_
              exact w_X1_bestSite_b93 C0 hno ih hf
        · have hf := zif_f c21 hf
          refine zr_goto C0 (tgt := 93) dX1_bestSite_58 (by decide) ?_
          exact w_X1_bestSite_b93 C0 hno ih hf
def f_X1_bestSite_b0 (E : zE) (p0 : Nat) (p1 : Int32) (h : zH) : Option ((Int32 ⊕ (Nat × Nat)) × zH) :=
  bnd2 (nA h 3 (1 : Int32) (.inl fun _ => 0)) fun q1 h2 =>
  (cko h2 p0 0).bind fun _ =>
  bnd2 (f_X1_isFranchisee E p0 p1 h2) fun x7 h5 =>
  (zgd .boolean x7).bind fun _ =>
  (sI h5 q1 3 (0 : Int32) x7).bind fun h9 =>
  bnd2 (f_X1_requireIndex E q1 h9) fun x13 h11 =>
  Sum.elim (fun x14 => (
    f_X1_bestSite_l21 E E.1 p0 p1 (-1 : Int32) (0 : Int32) (0 : Int32) h11
  )) (fun q15 => (
    some (.inr q15, h11)
  )) x13
theorem w_X1_bestSite_b0 (C0 : zCx p l e R s m args below meth c D B0 6 "FranchiseLedger" cX1_bestSite E 10 154 (Option.some Jvm.ClassFile.FieldType.int) "bestSite") (hno : ∀ x ∈ c.exceptionTable.toList, False) {r : (Int32 ⊕ (Nat × Nat))} {h' : zH} {p0 : Nat} {p1 : Int32} {h : zH} (hf : f_X1_bestSite_b0 E p0 p1 h = some (r, h')) : zW p l e R s m args below meth c D B0 6 (zEnd D B0 R below args s (zoT zoI r) h') h 0 [(0, .ref p0), (1, .int p1)] [] := by
  unfold f_X1_bestSite_b0 at hf
  refine zr_iconst C0 (v := 1) dX1_bestSite_0 (by decide) ?_
  obtain ⟨q1, h2, e3, hf⟩ := zbind2 hf
  refine zr_newa C0 (atype := .boolean) (t := 3) q627 rfl (by decide) (fun _ => rfl) dX1_bestSite_1 e3 ?_
  refine zr_dup C0 dX1_bestSite_3 rfl ?_
  refine zr_iconst C0 (v := 0) dX1_bestSite_4 (by decide) ?_
  refine zr_aload_n C0 dX1_bestSite_5 rfl 0 rfl ?_
  refine zr_iload_n C0 dX1_bestSite_6 rfl 1 rfl ?_
  obtain ⟨_, e4, hf⟩ := zbind hf
  obtain ⟨x7, h5, e6, hf⟩ := zbind2 hf
  refine zr_callV_r C0 cv_X1_88_X1 rfl (zcko e4) (m_X1_isFranchisee C0.2.2.2.2.2.2.1 e6) (by decide) (by decide) rfl rfl (Nat.le_of_ble_eq_true rfl) dX1_bestSite_7 rfl ?_
  obtain ⟨_, e8, hf⟩ := zbind hf
  obtain ⟨h9, e10, hf⟩ := zbind hf
  refine zr_zast C0 dX1_bestSite_10 (zgd_b e8) e10 ?_
  obtain ⟨x13, h11, e12, hf⟩ := zbind2 hf
  rcases x13 with x14 | q15
  · have hf := zinl hf
    refine zr_callS_r C0 cv_X1_92 (m_X1_requireIndex C0.2.2.2.2.2.2.1 e12) (by decide) (by decide) rfl rfl (Nat.le_of_ble_eq_true rfl) dX1_bestSite_11 rfl ?_
    refine zr_iconst C0 (v := -1) dX1_bestSite_14 (by decide) ?_
    refine zr_istore_n (i := 2) (lv' := [(2, .int (-1 : Int32)), (0, .ref p0), (1, .int p1)]) C0 dX1_bestSite_15 rfl (by decide) (by first | rfl | simp [zst1, zst2, zcat_rf]) ?_
    refine zr_iconst C0 (v := 0) dX1_bestSite_16 (by decide) ?_
    refine zr_istore_n (i := 3) (lv' := [(3, .int (0 : Int32)), (2, .int (-1 : Int32)), (0, .ref p0), (1, .int p1)]) C0 dX1_bestSite_17 rfl (by decide) (by first | rfl | simp [zst1, zst2, zcat_rf]) ?_
    refine zr_iconst C0 (v := 0) dX1_bestSite_18 (by decide) ?_
    refine zr_istore (i := 4) (lv' := [(4, .int (0 : Int32)), (3, .int (0 : Int32)), (2, .int (-1 : Int32)), (0, .ref p0), (1, .int p1)]) C0 dX1_bestSite_19 (by decide) (by first | rfl | simp [zst1, zst2, zcat_rf]) ?_
    refine zr_sub [3, 4, 2, 1, 0] rfl ?_
    exact w_X1_bestSite_l21 C0 hno _ _ _ _ _ _ _ hf
  · have hf := zinr hf
    refine zretW hf ?_
    exact zr_callS_t C0 cv_X1_92 (m_X1_requireIndex C0.2.2.2.2.2.2.1 e12) (by decide) (by decide) rfl rfl (Nat.le_of_ble_eq_true rfl) dX1_bestSite_11 (zr_out C0 hno rfl)
def f_X1_bestSite (E : zE) (p0 : Nat) (p1 : Int32) (h : zH) : Option ((Int32 ⊕ (Nat × Nat)) × zH) := f_X1_bestSite_b0 E p0 p1 h
theorem m_X1_bestSite {l : Launch} (hst : l.stackTraces = false) {D : zD} {B0 : Nat} {E : zE} {p0 : Nat} {p1 : Int32} {h h' : zH} {r : (Int32 ⊕ (Nat × Nat))} (hf : f_X1_bestSite E p0 p1 h = some (r, h')) : zMet l yX1_bestSite (ws_ yX1_bestSite cX1_bestSite 6 (Option.some Jvm.ClassFile.FieldType.int)) 10 154 D B0 E [.ref p0, .int p1] h (zoT zoI r) h' := by
  unfold f_X1_bestSite at hf
  refine zMet_of hst (by decide +kernel) rfl rfl (Nat.le_of_ble_eq_true rfl) (fun p e R s m below meth c C0 hno => ?_)
  show zW _ _ _ _ _ _ _ _ _ _ _ _ _ _ _ _ [(0, .ref p0), (1, .int p1)] []
  exact w_X1_bestSite_b0 C0 hno hf
end
