/-! walks by program: by the generator -/
set_option maxRecDepth 100000
section
variable {p : Program} {l : Launch} {e : Env} {R : Room} {s : State} {m : MethodId} {args : Array Value} {below : List Frame} {meth : Method} {c : Code} {D : zD} {B0 : Nat} {E : zE}

def f_X7_init_b0 (E : zE) (p0 : Nat) (p1 : Nat) (h : zH) : Option (Unit × zH) :=
  (pF h p0 6 8 (.ref p1)).bind fun h1 =>
  bnd2 (nO h1 2 10 [.null, .null, .null, .null, .null, .long 0, .long 0, .int 0, .int 0, .int 0]) fun q3 h4 =>
  bnd2 (f_X2_init E q3 h4) fun x8 h6 =>
  (pF h6 p0 6 1 (.ref q3)).bind fun h9 =>
  bnd2 (nO h9 4 7 [.null, .null, .null, .null, .null, .int 0, .null]) fun q11 h12 =>
  (gR h12 p0 6 8).bind fun x14 =>
  bnd2 (f_X4_init E q11 x14 h12) fun x18 h16 =>
  (pF h16 p0 6 2 (.ref q11)).bind fun h19 =>
  (pF h19 p0 6 7 (.ref (E.2.1 7))).bind fun h21 =>
  (gI h21 p1 0 7).bind fun x23 =>
  (pF h21 p0 6 0 (.int x23)).bind fun h25 =>
  (pF h25 p1 0 7 (.int (0 : Int32))).bind fun h27 =>
  (pF h27 p1 0 8 (.int (0 : Int32))).bind fun h29 =>
  (pF h29 p1 0 9 (.int (-1 : Int32))).bind fun h31 =>
  (cko h31 p0 6).bind fun _ =>
  bnd2 (f_X7_scan E p0 h31) fun x36 h34 =>
  some ((), h34)
theorem w_X7_init_b0 (C0 : zCx p l e R s m args below meth c D B0 2 "FranchiseLedger$Reader" cX7_init E 11 284 (Option.none : Option Jvm.ClassFile.FieldType) "<init>") {r : Unit} {h' : zH} {p0 : Nat} {p1 : Nat} {h : zH} (hf : f_X7_init_b0 E p0 p1 h = some (r, h')) : zW p l e R s m args below meth c D B0 2 (zEnd D B0 R below args s (zoV r) h') h 0 [(0, .ref p0), (1, .ref p1)] [] := by
  unfold f_X7_init_b0 at hf
  refine zr_aload_n C0 dX7_init_0 rfl 0 rfl ?_
  refine zr_aload_n C0 dX7_init_1 rfl 1 rfl ?_
  obtain ⟨h1, e2, hf⟩ := zbind hf
  refine zr_put C0 pl_X7_3_X7 dX7_init_2 (fun _ => rfl) rfl rfl e2 ?_
  refine zr_aload_n C0 dX7_init_5 rfl 0 rfl ?_
  refine zr_objInit C0 q1336 q182 q183 dX7_init_6 (by decide) (by show _ ≤ _; exact Nat.le_of_ble_eq_true rfl) ?_
  refine zr_aload_n C0 dX7_init_9 rfl 0 rfl ?_
  obtain ⟨q3, h4, e5, hf⟩ := zbind2 hf
  refine zr_newc C0 (C := RX2) (T := TX2) (N := 10) rfl in_X2 tyX2_ok q1337 q185 q130 nw_X2 dX7_init_10 e5 ?_
  refine zr_dup C0 dX7_init_13 rfl ?_
  obtain ⟨x8, h6, e7, hf⟩ := zbind2 hf
  refine zr_callIN_r C0 cv_X7_17 (m_X2_init C0.2.2.2.2.2.2.1 e7) (by decide) (by decide) rfl rfl (Nat.le_of_ble_eq_true rfl) dX7_init_14 rfl ?_
  obtain ⟨h9, e10, hf⟩ := zbind hf
  refine zr_put C0 pl_X7_18_X7 dX7_init_17 (fun _ => rfl) rfl rfl e10 ?_
  refine zr_aload_n C0 dX7_init_20 rfl 0 rfl ?_
  obtain ⟨q11, h12, e13, hf⟩ := zbind2 hf
  refine zr_newc C0 (C := RX4) (T := TX4) (N := 7) rfl in_X4 tyX4_ok q1339 q600 q152 nw_X4 dX7_init_21 e13 ?_
  refine zr_dup C0 dX7_init_24 rfl ?_
  refine zr_aload_n C0 dX7_init_25 rfl 0 rfl ?_
  obtain ⟨x14, e15, hf⟩ := zbind hf
  refine zr_get C0 fl_X7_3_X7 dX7_init_26 (zgR e15) ?_
  obtain ⟨x18, h16, e17, hf⟩ := zbind2 hf
  refine zr_callIN_r C0 cv_X7_24 (m_X4_init C0.2.2.2.2.2.2.1 e17) (by decide) (by decide) rfl rfl (Nat.le_of_ble_eq_true rfl) dX7_init_29 rfl ?_
  obtain ⟨h19, e20, hf⟩ := zbind hf
  refine zr_put C0 pl_X7_27_X7 dX7_init_32 (fun _ => rfl) rfl rfl e20 ?_
  refine zr_aload_n C0 dX7_init_35 rfl 0 rfl ?_
  refine zr_ldcS C0 (i := 7) rfl dX7_init_36 ?_
  obtain ⟨h21, e22, hf⟩ := zbind hf
  refine zr_put C0 pl_X7_33_X7 dX7_init_38 (fun h => by cases h) rfl rfl e22 ?_
  refine zr_aload_n C0 dX7_init_41 rfl 0 rfl ?_
  refine zr_aload_n C0 dX7_init_42 rfl 1 rfl ?_
  obtain ⟨x23, e24, hf⟩ := zbind hf
  refine zr_get C0 fl_X7_37_X1 dX7_init_43 (zgI e24) ?_
  obtain ⟨h25, e26, hf⟩ := zbind hf
  refine zr_put C0 pl_X7_41_X7 dX7_init_46 (fun _ => rfl) rfl rfl e26 ?_
  refine zr_aload_n C0 dX7_init_49 rfl 1 rfl ?_
  refine zr_iconst C0 (v := 0) dX7_init_50 (by decide) ?_
  obtain ⟨h27, e28, hf⟩ := zbind hf
  refine zr_put C0 pl_X7_37_X1 dX7_init_51 (fun h => by cases h) rfl rfl e28 ?_
  refine zr_aload_n C0 dX7_init_54 rfl 1 rfl ?_
  refine zr_iconst C0 (v := 0) dX7_init_55 (by decide) ?_
  obtain ⟨h29, e30, hf⟩ := zbind hf
  refine zr_put C0 pl_X7_44_X1 dX7_init_56 (fun h => by cases h) rfl rfl e30 ?_
  refine zr_aload_n C0 dX7_init_59 rfl 1 rfl ?_
  refine zr_iconst C0 (v := -1) dX7_init_60 (by decide) ?_
  obtain ⟨h31, e32, hf⟩ := zbind hf
  refine zr_put C0 pl_X7_47_X1 dX7_init_61 (fun h => by cases h) rfl rfl e32 ?_
  refine zr_aload_n C0 dX7_init_64 rfl 0 rfl ?_
  obtain ⟨_, e33, hf⟩ := zbind hf
  obtain ⟨x36, h34, e35, hf⟩ := zbind2 hf
  refine zr_callV_r C0 cv_X7_50_X7 rfl (zcko e33) (m_X7_scan C0.2.2.2.2.2.2.1 e35) (by decide) (by decide) rfl rfl (Nat.le_of_ble_eq_true rfl) dX7_init_65 rfl ?_
  refine zretW hf ?_
  exact zr_vret C0 rfl dX7_init_68 rfl
def f_X7_init (E : zE) (p0 : Nat) (p1 : Nat) (h : zH) : Option (Unit × zH) := f_X7_init_b0 E p0 p1 h
theorem m_X7_init {l : Launch} (hst : l.stackTraces = false) {D : zD} {B0 : Nat} {E : zE} {p0 : Nat} {p1 : Nat} {h h' : zH} {r : Unit} (hf : f_X7_init E p0 p1 h = some (r, h')) : zMet l yX7_init (ws_ yX7_init cX7_init 2 (Option.none : Option Jvm.ClassFile.FieldType)) 11 284 D B0 E [.ref p0, .ref p1] h (zoV r) h' := by
  unfold f_X7_init at hf
  refine zMet_of hst (by decide +kernel) rfl rfl (Nat.le_of_ble_eq_true rfl) (fun p e R s m below meth c C0 hno => ?_)
  show zW _ _ _ _ _ _ _ _ _ _ _ _ _ _ _ _ [(0, .ref p0), (1, .ref p1)] []
  exact w_X7_init_b0 C0 hf
def f_J3_init_3_X8_b60 (E : zE) (h : zH) : Option (Unit × zH) :=
  some ((), h)
theorem w_J3_init_3_X8_b60 (C0 : zCx p l e R s m args below meth c D B0 5 "java/lang/Throwable" cJ3_init_3 E 1 60 (Option.none : Option Jvm.ClassFile.FieldType) "<init>") {r : Unit} {h' : zH} {h : zH} (hf : f_J3_init_3_X8_b60 E  h = some (r, h')) : zW p l e R s m args below meth c D B0 5 (zEnd D B0 R below args s (zoV r) h') h 60 [] [] := by
  unfold f_J3_init_3_X8_b60 at hf
  refine zretW hf ?_
  exact zr_vret C0 rfl dJ3_init_3_60 rfl
def f_J3_init_3_X8_b41 (E : zE) (p0 : Nat) (p1 : Option Nat) (p2 : Option Nat) (p3 : Int32) (h : zH) : Option (Unit × zH) :=
  (pF h p0 7 3 (va_rf p1)).bind fun h1 =>
  (pF h1 p0 7 0 (va_rf p2)).bind fun h3 =>
  if p3 = 0 then (
    (pF h3 p0 7 2 (.null)).bind fun h6 =>
    f_J3_init_3_X8_b60 E  h6
  ) else (
    f_J3_init_3_X8_b60 E  h3
  )
theorem w_J3_init_3_X8_b41 (C0 : zCx p l e R s m args below meth c D B0 5 "java/lang/Throwable" cJ3_init_3 E 1 60 (Option.none : Option Jvm.ClassFile.FieldType) "<init>") {r : Unit} {h' : zH} {p0 : Nat} {p1 : Option Nat} {p2 : Option Nat} {p3 : Int32} {h : zH} (hf : f_J3_init_3_X8_b41 E p0 p1 p2 p3 h = some (r, h')) : zW p l e R s m args below meth c D B0 5 (zEnd D B0 R below args s (zoV r) h') h 41 [(0, .ref p0), (1, va_rf p1), (2, va_rf p2), (3, .int p3)] [] := by
  unfold f_J3_init_3_X8_b41 at hf
  refine zr_aload_n C0 dJ3_init_3_41 rfl 0 rfl ?_
  refine zr_aload_nQ C0 dJ3_init_3_42 rfl 1 rfl ?_
  obtain ⟨h1, e2, hf⟩ := zbind hf
  refine zr_put C0 pl_J3_31_X8 dJ3_init_3_43 (fun h => by cases h) (znar_rf p1) (zfit_rf _ p1) e2 ?_
  refine zr_aload_n C0 dJ3_init_3_46 rfl 0 rfl ?_
  refine zr_aload_nQ C0 dJ3_init_3_47 rfl 2 rfl ?_
  obtain ⟨h3, e4, hf⟩ := zbind hf
  refine zr_put C0 pl_J3_7_X8 dJ3_init_3_48 (fun h => by cases h) (znar_rf p2) (zfit_rf _ p2) e4 ?_
  refine zr_iload_n C0 dJ3_init_3_51 rfl 3 rfl ?_
  refine zr_if_ne C0 (tgt := 60) dJ3_init_3_52 (by decide) (fun c5 => ?_) (fun c5 => ?_)
  · have hf := zif_f c5 hf
    refine zr_sub [] rfl ?_
    exact w_J3_init_3_X8_b60 C0 hf
  · have hf := zif_t c5 hf
    refine zr_aload_n C0 dJ3_init_3_55 rfl 0 rfl ?_
    refine zr_null C0 dJ3_init_3_56 ?_
    obtain ⟨h6, e7, hf⟩ := zbind hf
    refine zr_put C0 pl_J3_24_X8 dJ3_init_3_57 (fun h => by cases h) rfl rfl e7 ?_
    refine zr_sub [] rfl ?_
    exact w_J3_init_3_X8_b60 C0 hf
def f_J3_init_3_X8_b0 (E : zE) (p0 : Nat) (p1 : Option Nat) (p2 : Option Nat) (p3 : Int32) (p4 : Int32) (h : zH) : Option (Unit × zH) :=
  (pF h p0 7 0 (.ref p0)).bind fun h1 =>
  (pF h1 p0 7 1 (va_rf (E.2.2 0))).bind fun h3 =>
  (pF h3 p0 7 2 (va_rf (E.2.2 1))).bind fun h5 =>
  if p4 = 0 then (
    (pF h5 p0 7 1 (.null)).bind fun h8 =>
    f_J3_init_3_X8_b41 E p0 p1 p2 p3 h8
  ) else (
    none
  )
theorem w_J3_init_3_X8_b0 (C0 : zCx p l e R s m args below meth c D B0 5 "java/lang/Throwable" cJ3_init_3 E 1 60 (Option.none : Option Jvm.ClassFile.FieldType) "<init>") {r : Unit} {h' : zH} {p0 : Nat} {p1 : Option Nat} {p2 : Option Nat} {p3 : Int32} {p4 : Int32} {h : zH} (hf : f_J3_init_3_X8_b0 E p0 p1 p2 p3 p4 h = some (r, h')) : zW p l e R s m args below meth c D B0 5 (zEnd D B0 R below args s (zoV r) h') h 0 [(0, .ref p0), (1, va_rf p1), (2, va_rf p2), (3, .int p3), (4, .int p4)] [] := by
  unfold f_J3_init_3_X8_b0 at hf
  refine zr_aload_n C0 dJ3_init_3_0 rfl 0 rfl ?_
  refine zr_objInit C0 q231 q182 q183 dJ3_init_3_1 (by decide) (by show _ ≤ _; exact Nat.le_of_ble_eq_true rfl) ?_
  refine zr_aload_n C0 dJ3_init_3_4 rfl 0 rfl ?_
  refine zr_aload_n C0 dJ3_init_3_5 rfl 0 rfl ?_
  obtain ⟨h1, e2, hf⟩ := zbind hf
  refine zr_put C0 pl_J3_7_X8 dJ3_init_3_6 (fun h => by cases h) rfl rfl e2 ?_
  refine zr_aload_n C0 dJ3_init_3_9 rfl 0 rfl ?_
  refine zr_gets C0 C0.2.2.2.2.2.2.2.2.2.1.2.2.2.2.2.2.1.2 q232 dJ3_init_3_10 ?_
  obtain ⟨h3, e4, hf⟩ := zbind hf
  refine zr_put C0 pl_J3_17_X8 dJ3_init_3_13 (fun h => by cases h) (znar_rfA (E.2.2 0)) (zfit_rfA _ (E.2.2 0)) e4 ?_
  refine zr_aload_n C0 dJ3_init_3_16 rfl 0 rfl ?_
  refine zr_gets C0 C0.2.2.2.2.2.2.2.2.2.1.2.2.2.2.2.2.2.1.2 q234 dJ3_init_3_17 ?_
  obtain ⟨h5, e6, hf⟩ := zbind hf
  refine zr_put C0 pl_J3_24_X8 dJ3_init_3_20 (fun h => by cases h) (znar_rf (E.2.2 1)) (zfit_rf _ (E.2.2 1)) e6 ?_
  refine zr_iload C0 dJ3_init_3_23 4 rfl ?_
  refine zr_if_eq C0 (tgt := 36) dJ3_init_3_25 (by decide) (fun c7 => ?_) (fun c7 => ?_)
  · have hf := zif_t c7 hf
    refine zr_aload_n C0 dJ3_init_3_36 rfl 0 rfl ?_
    refine zr_null C0 dJ3_init_3_37 ?_
    obtain ⟨h8, e9, hf⟩ := zbind hf
    refine zr_put C0 pl_J3_17_X8 dJ3_init_3_38 (fun h => by cases h) rfl rfl e9 ?_
    refine zr_sub [0, 1, 2, 3] rfl ?_
    exact w_J3_init_3_X8_b41 C0 hf
  · have hf := zif_f c7 hf
    refine zr_aload_n C0 dJ3_init_3_28 rfl 0 rfl ?_
    cases hf
def f_J3_init_3_X8 (E : zE) (p0 : Nat) (p1 : Option Nat) (p2 : Option Nat) (p3 : Int32) (p4 : Int32) (h : zH) : Option (Unit × zH) := f_J3_init_3_X8_b0 E p0 p1 p2 p3 p4 h
theorem m_J3_init_3_X8 {l : Launch} (hst : l.stackTraces = false) {D : zD} {B0 : Nat} {E : zE} {p0 : Nat} {p1 : Option Nat} {p2 : Option Nat} {p3 : Int32} {p4 : Int32} {h h' : zH} {r : Unit} (hf : f_J3_init_3_X8 E p0 p1 p2 p3 p4 h = some (r, h')) : zMet l yJ3_init_3 (ws_ yJ3_init_3 cJ3_init_3 5 (Option.none : Option Jvm.ClassFile.FieldType)) 1 60 D B0 E [.ref p0, va_rf p1, va_rf p2, .int p3, .int p4] h (zoV r) h' := by
  unfold f_J3_init_3_X8 at hf
  refine zMet_of hst (by decide +kernel) rfl rfl (by cases p1 <;> cases p2 <;> exact Nat.le_of_ble_eq_true rfl) (fun p e R s m below meth c C0 hno => ?_)
  rw [show lv_args 0 [.ref p0, va_rf p1, va_rf p2, .int p3, .int p4] = [(0, .ref p0), (1, va_rf p1), (2, va_rf p2), (3, .int p3), (4, .int p4)] from (by cases p1 <;> cases p2 <;> rfl)]
  exact w_J3_init_3_X8_b0 C0 hf
def f_J4_init_2_X8_b0 (E : zE) (p0 : Nat) (p1 : Option Nat) (p2 : Option Nat) (p3 : Int32) (p4 : Int32) (h : zH) : Option (Unit × zH) :=
  bnd2 (f_J3_init_3_X8 E p0 p1 p2 p3 p4 h) fun x3 h1 =>
  some ((), h1)
theorem w_J4_init_2_X8_b0 (C0 : zCx p l e R s m args below meth c D B0 5 "java/lang/Exception" cJ4_init_2 E 2 84 (Option.none : Option Jvm.ClassFile.FieldType) "<init>") {r : Unit} {h' : zH} {p0 : Nat} {p1 : Option Nat} {p2 : Option Nat} {p3 : Int32} {p4 : Int32} {h : zH} (hf : f_J4_init_2_X8_b0 E p0 p1 p2 p3 p4 h = some (r, h')) : zW p l e R s m args below meth c D B0 5 (zEnd D B0 R below args s (zoV r) h') h 0 [(0, .ref p0), (1, va_rf p1), (2, va_rf p2), (3, .int p3), (4, .int p4)] [] := by
  unfold f_J4_init_2_X8_b0 at hf
  refine zr_aload_n C0 dJ4_init_2_0 rfl 0 rfl ?_
  refine zr_aload_nQ C0 dJ4_init_2_1 rfl 1 rfl ?_
  refine zr_aload_nQ C0 dJ4_init_2_2 rfl 2 rfl ?_
  refine zr_iload_n C0 dJ4_init_2_3 rfl 3 rfl ?_
  refine zr_iload C0 dJ4_init_2_4 4 rfl ?_
  obtain ⟨x3, h1, e2, hf⟩ := zbind2 hf
  refine zr_callI_r C0 cv_J4_16 (m_J3_init_3_X8 C0.2.2.2.2.2.2.1 e2) (by decide) (by decide) rfl rfl (Nat.le_of_ble_eq_true rfl) dJ4_init_2_6 rfl ?_
  refine zretW hf ?_
  exact zr_vret C0 rfl dJ4_init_2_9 rfl
def f_J4_init_2_X8 (E : zE) (p0 : Nat) (p1 : Option Nat) (p2 : Option Nat) (p3 : Int32) (p4 : Int32) (h : zH) : Option (Unit × zH) := f_J4_init_2_X8_b0 E p0 p1 p2 p3 p4 h
theorem m_J4_init_2_X8 {l : Launch} (hst : l.stackTraces = false) {D : zD} {B0 : Nat} {E : zE} {p0 : Nat} {p1 : Option Nat} {p2 : Option Nat} {p3 : Int32} {p4 : Int32} {h h' : zH} {r : Unit} (hf : f_J4_init_2_X8 E p0 p1 p2 p3 p4 h = some (r, h')) : zMet l yJ4_init_2 (ws_ yJ4_init_2 cJ4_init_2 5 (Option.none : Option Jvm.ClassFile.FieldType)) 2 84 D B0 E [.ref p0, va_rf p1, va_rf p2, .int p3, .int p4] h (zoV r) h' := by
  unfold f_J4_init_2_X8 at hf
  refine zMet_of hst (by decide +kernel) rfl rfl (by cases p1 <;> cases p2 <;> exact Nat.le_of_ble_eq_true rfl) (fun p e R s m below meth c C0 hno => ?_)
  rw [show lv_args 0 [.ref p0, va_rf p1, va_rf p2, .int p3, .int p4] = [(0, .ref p0), (1, va_rf p1), (2, va_rf p2), (3, .int p3), (4, .int p4)] from (by cases p1 <;> cases p2 <;> rfl)]
  exact w_J4_init_2_X8_b0 C0 hf
def f_X8_init_b0 (E : zE) (p0 : Nat) (p1 : Int32) (p2 : Int32) (h : zH) : Option (Unit × zH) :=
  bnd2 (f_J4_init_2_X8 E p0 none none (0 : Int32) (0 : Int32) h) fun x3 h1 =>
  (pF h1 p0 7 6 (.int p1)).bind fun h4 =>
  (pF h4 p0 7 7 (.int p2)).bind fun h6 =>
  some ((), h6)
theorem w_X8_init_b0 (C0 : zCx p l e R s m args below meth c D B0 3 "FranchiseLedger$TextError" cX8_init E 3 108 (Option.none : Option Jvm.ClassFile.FieldType) "<init>") {r : Unit} {h' : zH} {p0 : Nat} {p1 : Int32} {p2 : Int32} {h : zH} (hf : f_X8_init_b0 E p0 p1 p2 h = some (r, h')) : zW p l e R s m args below meth c D B0 3 (zEnd D B0 R below args s (zoV r) h') h 0 [(0, .ref p0), (1, .int p1), (2, .int p2)] [] := by
  unfold f_X8_init_b0 at hf
  refine zr_aload_n C0 dX8_init_0 rfl 0 rfl ?_
  refine zr_null C0 dX8_init_1 ?_
  refine zr_null C0 dX8_init_2 ?_
  refine zr_iconst C0 (v := 0) dX8_init_3 (by decide) ?_
  refine zr_iconst C0 (v := 0) dX8_init_4 (by decide) ?_
  obtain ⟨x3, h1, e2, hf⟩ := zbind2 hf
  refine zr_callI_r C0 cv_X8_1 (m_J4_init_2_X8 C0.2.2.2.2.2.2.1 e2) (by decide) (by decide) rfl rfl (Nat.le_of_ble_eq_true rfl) dX8_init_5 rfl ?_
  refine zr_aload_n C0 dX8_init_8 rfl 0 rfl ?_
  refine zr_iload_n C0 dX8_init_9 rfl 1 rfl ?_
  obtain ⟨h4, e5, hf⟩ := zbind hf
  refine zr_put C0 pl_X8_7_X8 dX8_init_10 (fun _ => rfl) rfl rfl e5 ?_
  refine zr_aload_n C0 dX8_init_13 rfl 0 rfl ?_
  refine zr_iload_n C0 dX8_init_14 rfl 2 rfl ?_
  obtain ⟨h6, e7, hf⟩ := zbind hf
  refine zr_put C0 pl_X8_13_X8 dX8_init_15 (fun _ => rfl) rfl rfl e7 ?_
  refine zretW hf ?_
  exact zr_vret C0 rfl dX8_init_18 rfl
def f_X8_init (E : zE) (p0 : Nat) (p1 : Int32) (p2 : Int32) (h : zH) : Option (Unit × zH) := f_X8_init_b0 E p0 p1 p2 h
theorem m_X8_init {l : Launch} (hst : l.stackTraces = false) {D : zD} {B0 : Nat} {E : zE} {p0 : Nat} {p1 : Int32} {p2 : Int32} {h h' : zH} {r : Unit} (hf : f_X8_init E p0 p1 p2 h = some (r, h')) : zMet l yX8_init (ws_ yX8_init cX8_init 3 (Option.none : Option Jvm.ClassFile.FieldType)) 3 108 D B0 E [.ref p0, .int p1, .int p2] h (zoV r) h' := by
  unfold f_X8_init at hf
  refine zMet_of hst (by decide +kernel) rfl rfl (Nat.le_of_ble_eq_true rfl) (fun p e R s m below meth c C0 hno => ?_)
  show zW _ _ _ _ _ _ _ _ _ _ _ _ _ _ _ _ [(0, .ref p0), (1, .int p1), (2, .int p2)] []
  exact w_X8_init_b0 C0 hf
def f_X7_require_b0 (E : zE) (p0 : Nat) (p1 : Int32) (p2 : Int32) (h : zH) : Option ((Unit ⊕ (Nat × Nat)) × zH) :=
  if p1 = 0 then (
    bnd2 (nO h 7 8 [.null, .null, .null, .null, .null, .int 0, .int 0, .int 0]) fun q2 h3 =>
    (gI h3 p0 6 4).bind fun x5 =>
    bnd2 (f_X8_init E q2 p2 x5 h3) fun x9 h7 =>
    (ckt h7 q2 7).bind fun _ =>
    some (.inr (7, q2), h7)
  ) else (
    some (.inl (), h)
  )
theorem w_X7_require_b0 (C0 : zCx p l e R s m args below meth c D B0 3 "FranchiseLedger$Reader" cX7_require E 9 130 (Option.none : Option Jvm.ClassFile.FieldType) "require") (hno : ∀ x ∈ c.exceptionTable.toList, False) {r : (Unit ⊕ (Nat × Nat))} {h' : zH} {p0 : Nat} {p1 : Int32} {p2 : Int32} {h : zH} (hf : f_X7_require_b0 E p0 p1 p2 h = some (r, h')) : zW p l e R s m args below meth c D B0 3 (zEnd D B0 R below args s (zoT zoV r) h') h 0 [(0, .ref p0), (1, .int p1), (2, .int p2)] [] := by
  unfold f_X7_require_b0 at hf
  refine zr_iload_n C0 dX7_require_0 rfl 1 rfl ?_
  refine zr_if_ne C0 (tgt := 17) dX7_require_1 (by decide) (fun c1 => ?_) (fun c1 => ?_)
  · have hf := zif_f c1 hf
    refine zretW hf ?_
    exact zr_vret C0 rfl dX7_require_17 rfl
  · have hf := zif_t c1 hf
    obtain ⟨q2, h3, e4, hf⟩ := zbind2 hf
    refine zr_newc C0 (C := RX8) (T := TX8) (N := 8) rfl in_X8 tyX8_ok q1417 q1418 q158 nw_X8 dX7_require_4 e4 ?_
    refine zr_dup C0 dX7_require_7 rfl ?_
    refine zr_iload_n C0 dX7_require_8 rfl 2 rfl ?_
    refine zr_aload_n C0 dX7_require_9 rfl 0 rfl ?_
    obtain ⟨x5, e6, hf⟩ := zbind hf
    refine zr_get C0 fl_X7_76_X7 dX7_require_10 (zgI e6) ?_
    obtain ⟨x9, h7, e8, hf⟩ := zbind2 hf
    refine zr_callI_r C0 cv_X7_113 (m_X8_init C0.2.2.2.2.2.2.1 e8) (by decide) (by decide) rfl rfl (Nat.le_of_ble_eq_true rfl) dX7_require_13 rfl ?_
    obtain ⟨_, e10, hf⟩ := zbind hf
    refine zretW hf ?_
    exact zr_athrow C0 dX7_require_16 (zckt e10) (zr_out C0 hno rfl)
def f_X7_require (E : zE) (p0 : Nat) (p1 : Int32) (p2 : Int32) (h : zH) : Option ((Unit ⊕ (Nat × Nat)) × zH) := f_X7_require_b0 E p0 p1 p2 h
theorem m_X7_require {l : Launch} (hst : l.stackTraces = false) {D : zD} {B0 : Nat} {E : zE} {p0 : Nat} {p1 : Int32} {p2 : Int32} {h h' : zH} {r : (Unit ⊕ (Nat × Nat))} (hf : f_X7_require E p0 p1 p2 h = some (r, h')) : zMet l yX7_require (ws_ yX7_require cX7_require 3 (Option.none : Option Jvm.ClassFile.FieldType)) 9 130 D B0 E [.ref p0, .int p1, .int p2] h (zoT zoV r) h' := by
  unfold f_X7_require at hf
  refine zMet_of hst (by decide +kernel) rfl rfl (Nat.le_of_ble_eq_true rfl) (fun p e R s m below meth c C0 hno => ?_)
  show zW _ _ _ _ _ _ _ _ _ _ _ _ _ _ _ _ [(0, .ref p0), (1, .int p1), (2, .int p2)] []
  exact w_X7_require_b0 C0 hno hf
def f_J9_isLatin1_b18 (E : zE) (s0 : Int32) (h : zH) : Option (Int32 × zH) :=
  (zgd .boolean s0).bind fun _ =>
  some (s0, h)
theorem w_J9_isLatin1_b18 (C0 : zCx p l e R s m args below meth c D B0 1 "java/lang/String" cJ9_isLatin1 E 1 60 (Option.some Jvm.ClassFile.FieldType.boolean) "isLatin1") {r : Int32} {h' : zH} {s0 : Int32} {h : zH} (hf : f_J9_isLatin1_b18 E s0 h = some (r, h')) : zW p l e R s m args below meth c D B0 1 (zEnd D B0 R below args s (zoI r) h') h 18 [] [.int s0] := by
  unfold f_J9_isLatin1_b18 at hf
  obtain ⟨_, e1, hf⟩ := zbind hf
  refine zretW hf ?_
  exact zr_iret C0 (ty := .boolean) rfl (zgd_n e1) dJ9_isLatin1_18 rfl
def f_J9_isLatin1_b17 (E : zE) (h : zH) : Option (Int32 × zH) :=
  f_J9_isLatin1_b18 E (0 : Int32) h
theorem w_J9_isLatin1_b17 (C0 : zCx p l e R s m args below meth c D B0 1 "java/lang/String" cJ9_isLatin1 E 1 60 (Option.some Jvm.ClassFile.FieldType.boolean) "isLatin1") {r : Int32} {h' : zH} {h : zH} (hf : f_J9_isLatin1_b17 E  h = some (r, h')) : zW p l e R s m args below meth c D B0 1 (zEnd D B0 R below args s (zoI r) h') h 17 [] [] := by
  unfold f_J9_isLatin1_b17 at hf
  refine zr_iconst C0 (v := 0) dJ9_isLatin1_17 (by decide) ?_
  exact w_J9_isLatin1_b18 C0 hf
def f_J9_isLatin1_b0 (E : zE) (p0 : Nat) (h : zH) : Option (Int32 × zH) :=
  if (1 : Int32) = 0 then (
    f_J9_isLatin1_b17 E  h
  ) else (
    (gI h p0 19 1).bind fun x2 =>
    if x2 = 0 then (
      f_J9_isLatin1_b18 E (1 : Int32) h
    ) else (
      f_J9_isLatin1_b17 E  h
    )
  )
theorem w_J9_isLatin1_b0 (C0 : zCx p l e R s m args below meth c D B0 1 "java/lang/String" cJ9_isLatin1 E 1 60 (Option.some Jvm.ClassFile.FieldType.boolean) "isLatin1") {r : Int32} {h' : zH} {p0 : Nat} {h : zH} (hf : f_J9_isLatin1_b0 E p0 h = some (r, h')) : zW p l e R s m args below meth c D B0 1 (zEnd D B0 R below args s (zoI r) h') h 0 [(0, .ref p0)] [] := by
  unfold f_J9_isLatin1_b0 at hf
  refine zr_gets C0 (C0.2.2.2.2.2.2.2.2.2.1.2.2.1 _ (List.mem_of_getElem? (i := 0) rfl)) q369 dJ9_isLatin1_0 ?_
  refine zr_if_eq C0 (tgt := 17) dJ9_isLatin1_3 (by decide) (fun c1 => ?_) (fun c1 => ?_)
  · have hf := zif_t c1 hf
    refine zr_sub [] rfl ?_
    exact w_J9_isLatin1_b17 C0 hf
  · have hf := zif_f c1 hf
    refine zr_aload_n C0 dJ9_isLatin1_6 rfl 0 rfl ?_
    obtain ⟨x2, e3, hf⟩ := zbind hf
    refine zr_get C0 fl_J9_15_J9 dJ9_isLatin1_7 (zgI e3) ?_
    refine zr_if_ne C0 (tgt := 17) dJ9_isLatin1_10 (by decide) (fun c4 => ?_) (fun c4 => ?_)
    · have hf := zif_f c4 hf
      refine zr_sub [] rfl ?_
      exact w_J9_isLatin1_b17 C0 hf
    · have hf := zif_t c4 hf
      refine zr_iconst C0 (v := 1) dJ9_isLatin1_13 (by decide) ?_
      refine zr_goto C0 (tgt := 18) dJ9_isLatin1_14 (by decide) ?_
      refine zr_sub [] rfl ?_
      exact w_J9_isLatin1_b18 C0 hf
def f_J9_isLatin1 (E : zE) (p0 : Nat) (h : zH) : Option (Int32 × zH) := f_J9_isLatin1_b0 E p0 h
theorem m_J9_isLatin1 {l : Launch} (hst : l.stackTraces = false) {D : zD} {B0 : Nat} {E : zE} {p0 : Nat} {h h' : zH} {r : Int32} (hf : f_J9_isLatin1 E p0 h = some (r, h')) : zMet l yJ9_isLatin1 (ws_ yJ9_isLatin1 cJ9_isLatin1 1 (Option.some Jvm.ClassFile.FieldType.boolean)) 1 60 D B0 E [.ref p0] h (zoI r) h' := by
  unfold f_J9_isLatin1 at hf
  refine zMet_of hst (by decide +kernel) rfl rfl (Nat.le_of_ble_eq_true rfl) (fun p e R s m below meth c C0 hno => ?_)
  show zW _ _ _ _ _ _ _ _ _ _ _ _ _ _ _ _ [(0, .ref p0)] []
  exact w_J9_isLatin1_b0 C0 hf
def f_J11_signedHashCode_l8 (E : zE) : Nat → Int32 → Nat → Int32 → Int32 → zH → Option (Int32 × zH)
  | 0, _, _, _, _, _ => none
  | n + 1, p0, p1, p4, p5, h =>
    if p4 ≤ p5 then (
      some (p0, h)
    ) else (
      (dI h p1 2 p5).bind fun x2 =>
      f_J11_signedHashCode_l8 E n (((31 : Int32) * p0) + (x2 &&& (255 : Int32))) p1 p4 (p5 + 1) h
    )
theorem w_J11_signedHashCode_l8 (C0 : zCx p l e R s m args below meth c D B0 6 "jdk/internal/util/ArraysSupport" cJ11_signedHashCode E 1 60 (Option.some Jvm.ClassFile.FieldType.int) "signedHashCode") {r : Int32} {h' : zH} : ∀ (n : Nat) (p0 : Int32) (p1 : Nat) (p4 : Int32) (p5 : Int32) (h : zH), f_J11_signedHashCode_l8 E n p0 p1 p4 p5 h = some (r, h') → zW p l e R s m args below meth c D B0 6 (zEnd D B0 R below args s (zoI r) h') h 8 [(0, .int p0), (1, .ref p1), (4, .int p4), (5, .int p5)] [] := by
  intro n
  induction n with
  | zero =>
    intro p0 p1 p4 p5 h hf
    unfold f_J11_signedHashCode_l8 at hf
    cases hf
  | succ n ih =>
    intro p0 p1 p4 p5 h hf
    unfold f_J11_signedHashCode_l8 at hf
    refine zr_iload C0 dJ11_signedHashCode_8 3 rfl ?_
    refine zr_iload C0 dJ11_signedHashCode_10 2 rfl ?_
    refine zr_icmp_ge C0 (tgt := 35) dJ11_signedHashCode_12 (by decide) (fun c1 => ?_) (fun c1 => ?_)
    · have hf := zif_t c1 hf
      refine zr_iload_n C0 dJ11_signedHashCode_35 rfl 0 rfl ?_
      refine zretW hf ?_
      exact zr_iret C0 (ty := .int) rfl rfl dJ11_signedHashCode_36 rfl
    · have hf := zif_f c1 hf
      refine zr_bipush C0 (v := 31) dJ11_signedHashCode_15 (by decide) ?_
      refine zr_iload_n C0 dJ11_signedHashCode_17 rfl 0 rfl ?_
      refine zr_imul C0 dJ11_signedHashCode_18 ?_
      refine zr_aload_n C0 dJ11_signedHashCode_19 rfl 1 rfl ?_
      refine zr_iload C0 dJ11_signedHashCode_20 3 rfl ?_
      obtain ⟨x2, e3, hf⟩ := zbind hf
      refine zr_bald C0 dJ11_signedHashCode_22 e3 ?_
      refine zr_sipush C0 (v := 255) dJ11_signedHashCode_23 (by decide) ?_
      refine zr_iand C0 dJ11_signedHashCode_26 ?_
      refine zr_iadd C0 dJ11_signedHashCode_27 ?_
      refine zr_istore_n (i := 0) (lv' := [(0, .int (((31 : Int32) * p0) + (x2 &&& (255 : Int32)))), (1, .ref p1), (4, .int p4), (5, .int p5)]) C0 dJ11_signedHashCode_28 rfl (by decide) (by first | rfl | simp [zst1, zst2, zcat_rf]) ?_
      refine zr_iinc (lv' := [(5, .int (p5 + 1)), (0, .int (((31 : Int32) * p0) + (x2 &&& (255 : Int32)))), (1, .ref p1), (4, .int p4)]) C0 dJ11_signedHashCode_29 3 rfl rfl (by decide) (by first | rfl | simp [zst1, zst2, zcat_rf]) ?_
      refine zr_goto C0 (tgt := 8) dJ11_signedHashCode_32 (by decide) ?_
      refine zr_sub [1, 2, 3, 0] rfl ?_
      exact ih _ _ _ _ _ hf
def f_J11_signedHashCode_b0 (E : zE) (p0 : Int32) (p1 : Nat) (p2 : Int32) (p3 : Int32) (h : zH) : Option (Int32 × zH) :=
  f_J11_signedHashCode_l8 E E.1 p0 p1 (p2 + p3) p2 h
theorem w_J11_signedHashCode_b0 (C0 : zCx p l e R s m args below meth c D B0 6 "jdk/internal/util/ArraysSupport" cJ11_signedHashCode E 1 60 (Option.some Jvm.ClassFile.FieldType.int) "signedHashCode") {r : Int32} {h' : zH} {p0 : Int32} {p1 : Nat} {p2 : Int32} {p3 : Int32} {h : zH} (hf : f_J11_signedHashCode_b0 E p0 p1 p2 p3 h = some (r, h')) : zW p l e R s m args below meth c D B0 6 (zEnd D B0 R below args s (zoI r) h') h 0 [(0, .int p0), (1, .ref p1), (2, .int p2), (3, .int p3)] [] := by
  unfold f_J11_signedHashCode_b0 at hf
  refine zr_iload_n C0 dJ11_signedHashCode_0 rfl 2 rfl ?_
  refine zr_iload_n C0 dJ11_signedHashCode_1 rfl 3 rfl ?_
  refine zr_iadd C0 dJ11_signedHashCode_2 ?_
  refine zr_istore (i := 4) (lv' := [(4, .int (p2 + p3)), (0, .int p0), (1, .ref p1), (2, .int p2), (3, .int p3)]) C0 dJ11_signedHashCode_3 (by decide) (by first | rfl | simp [zst1, zst2, zcat_rf]) ?_
  refine zr_iload_n C0 dJ11_signedHashCode_5 rfl 3 rfl ?_
  refine zr_istore (i := 5) (lv' := [(5, .int p2), (4, .int (p2 + p3)), (0, .int p0), (1, .ref p1), (2, .int p2), (3, .int p3)]) C0 dJ11_signedHashCode_6 (by decide) (by first | rfl | simp [zst1, zst2, zcat_rf]) ?_
  refine zr_sub [2, 3, 1, 0] rfl ?_
  exact w_J11_signedHashCode_l8 C0 _ _ _ _ _ _ hf
def f_J11_signedHashCode (E : zE) (p0 : Int32) (p1 : Nat) (p2 : Int32) (p3 : Int32) (h : zH) : Option (Int32 × zH) := f_J11_signedHashCode_b0 E p0 p1 p2 p3 h
theorem m_J11_signedHashCode {l : Launch} (hst : l.stackTraces = false) {D : zD} {B0 : Nat} {E : zE} {p0 : Int32} {p1 : Nat} {p2 : Int32} {p3 : Int32} {h h' : zH} {r : Int32} (hf : f_J11_signedHashCode E p0 p1 p2 p3 h = some (r, h')) : zMet l yJ11_signedHashCode (ws_ yJ11_signedHashCode cJ11_signedHashCode 6 (Option.some Jvm.ClassFile.FieldType.int)) 1 60 D B0 E [.int p0, .ref p1, .int p2, .int p3] h (zoI r) h' := by
  unfold f_J11_signedHashCode at hf
  refine zMet_of hst (by decide +kernel) rfl rfl (Nat.le_of_ble_eq_true rfl) (fun p e R s m below meth c C0 hno => ?_)
  show zW _ _ _ _ _ _ _ _ _ _ _ _ _ _ _ _ [(0, .int p0), (1, .ref p1), (2, .int p2), (3, .int p3)] []
  exact w_J11_signedHashCode_b0 C0 hf
def f_J11_hashCode_2_l8 (E : zE) : Nat → Int32 → Nat → Int32 → Int32 → zH → Option (Int32 × zH)
  | 0, _, _, _, _, _ => none
  | n + 1, p0, p1, p4, p5, h =>
    if p4 ≤ p5 then (
      some (p0, h)
    ) else (
      (dI h p1 2 p5).bind fun x2 =>
      f_J11_hashCode_2_l8 E n (((31 : Int32) * p0) + x2) p1 p4 (p5 + 1) h
    )
theorem w_J11_hashCode_2_l8 (C0 : zCx p l e R s m args below meth c D B0 6 "jdk/internal/util/ArraysSupport" cJ11_hashCode_2 E 1 60 (Option.some Jvm.ClassFile.FieldType.int) "hashCode") {r : Int32} {h' : zH} : ∀ (n : Nat) (p0 : Int32) (p1 : Nat) (p4 : Int32) (p5 : Int32) (h : zH), f_J11_hashCode_2_l8 E n p0 p1 p4 p5 h = some (r, h') → zW p l e R s m args below meth c D B0 6 (zEnd D B0 R below args s (zoI r) h') h 8 [(0, .int p0), (1, .ref p1), (4, .int p4), (5, .int p5)] [] := by
  intro n
  induction n with
  | zero =>
    intro p0 p1 p4 p5 h hf
    unfold f_J11_hashCode_2_l8 at hf
    cases hf
  | succ n ih =>
    intro p0 p1 p4 p5 h hf
    unfold f_J11_hashCode_2_l8 at hf
    refine zr_iload C0 dJ11_hashCode_2_8 3 rfl ?_
    refine zr_iload C0 dJ11_hashCode_2_10 2 rfl ?_
    refine zr_icmp_ge C0 (tgt := 31) dJ11_hashCode_2_12 (by decide) (fun c1 => ?_) (fun c1 => ?_)
    · have hf := zif_t c1 hf
      refine zr_iload_n C0 dJ11_hashCode_2_31 rfl 0 rfl ?_
      refine zretW hf ?_
      exact zr_iret C0 (ty := .int) rfl rfl dJ11_hashCode_2_32 rfl
    · have hf := zif_f c1 hf
      refine zr_bipush C0 (v := 31) dJ11_hashCode_2_15 (by decide) ?_
      refine zr_iload_n C0 dJ11_hashCode_2_17 rfl 0 rfl ?_
      refine zr_imul C0 dJ11_hashCode_2_18 ?_
      refine zr_aload_n C0 dJ11_hashCode_2_19 rfl 1 rfl ?_
      refine zr_iload C0 dJ11_hashCode_2_20 3 rfl ?_
      obtain ⟨x2, e3, hf⟩ := zbind hf
      refine zr_bald C0 dJ11_hashCode_2_22 e3 ?_
      refine zr_iadd C0 dJ11_hashCode_2_23 ?_
      refine zr_istore_n (i := 0) (lv' := [(0, .int (((31 : Int32) * p0) + x2)), (1, .ref p1), (4, .int p4), (5, .int p5)]) C0 dJ11_hashCode_2_24 rfl (by decide) (by first | rfl | simp [zst1, zst2, zcat_rf]) ?_
      refine zr_iinc (lv' := [(5, .int (p5 + 1)), (0, .int (((31 : Int32) * p0) + x2)), (1, .ref p1), (4, .int p4)]) C0 dJ11_hashCode_2_25 3 rfl rfl (by decide) (by first | rfl | simp [zst1, zst2, zcat_rf]) ?_
      refine zr_goto C0 (tgt := 8) dJ11_hashCode_2_28 (by decide) ?_
      refine zr_sub [1, 2, 3, 0] rfl ?_
      exact ih _ _ _ _ _ hf
def f_J11_hashCode_2_b0 (E : zE) (p0 : Int32) (p1 : Nat) (p2 : Int32) (p3 : Int32) (h : zH) : Option (Int32 × zH) :=
  f_J11_hashCode_2_l8 E E.1 p0 p1 (p2 + p3) p2 h
theorem w_J11_hashCode_2_b0 (C0 : zCx p l e R s m args below meth c D B0 6 "jdk/internal/util/ArraysSupport" cJ11_hashCode_2 E 1 60 (Option.some Jvm.ClassFile.FieldType.int) "hashCode") {r : Int32} {h' : zH} {p0 : Int32} {p1 : Nat} {p2 : Int32} {p3 : Int32} {h : zH} (hf : f_J11_hashCode_2_b0 E p0 p1 p2 p3 h = some (r, h')) : zW p l e R s m args below meth c D B0 6 (zEnd D B0 R below args s (zoI r) h') h 0 [(0, .int p0), (1, .ref p1), (2, .int p2), (3, .int p3)] [] := by
  unfold f_J11_hashCode_2_b0 at hf
  refine zr_iload_n C0 dJ11_hashCode_2_0 rfl 2 rfl ?_
  refine zr_iload_n C0 dJ11_hashCode_2_1 rfl 3 rfl ?_
  refine zr_iadd C0 dJ11_hashCode_2_2 ?_
  refine zr_istore (i := 4) (lv' := [(4, .int (p2 + p3)), (0, .int p0), (1, .ref p1), (2, .int p2), (3, .int p3)]) C0 dJ11_hashCode_2_3 (by decide) (by first | rfl | simp [zst1, zst2, zcat_rf]) ?_
  refine zr_iload_n C0 dJ11_hashCode_2_5 rfl 3 rfl ?_
  refine zr_istore (i := 5) (lv' := [(5, .int p2), (4, .int (p2 + p3)), (0, .int p0), (1, .ref p1), (2, .int p2), (3, .int p3)]) C0 dJ11_hashCode_2_6 (by decide) (by first | rfl | simp [zst1, zst2, zcat_rf]) ?_
  refine zr_sub [2, 3, 1, 0] rfl ?_
  exact w_J11_hashCode_2_l8 C0 _ _ _ _ _ _ hf
def f_J11_hashCode_2 (E : zE) (p0 : Int32) (p1 : Nat) (p2 : Int32) (p3 : Int32) (h : zH) : Option (Int32 × zH) := f_J11_hashCode_2_b0 E p0 p1 p2 p3 h
theorem m_J11_hashCode_2 {l : Launch} (hst : l.stackTraces = false) {D : zD} {B0 : Nat} {E : zE} {p0 : Int32} {p1 : Nat} {p2 : Int32} {p3 : Int32} {h h' : zH} {r : Int32} (hf : f_J11_hashCode_2 E p0 p1 p2 p3 h = some (r, h')) : zMet l yJ11_hashCode_2 (ws_ yJ11_hashCode_2 cJ11_hashCode_2 6 (Option.some Jvm.ClassFile.FieldType.int)) 1 60 D B0 E [.int p0, .ref p1, .int p2, .int p3] h (zoI r) h' := by
  unfold f_J11_hashCode_2 at hf
  refine zMet_of hst (by decide +kernel) rfl rfl (Nat.le_of_ble_eq_true rfl) (fun p e R s m below meth c C0 hno => ?_)
  show zW _ _ _ _ _ _ _ _ _ _ _ _ _ _ _ _ [(0, .int p0), (1, .ref p1), (2, .int p2), (3, .int p3)] []
  exact w_J11_hashCode_2_b0 C0 hf
def f_J11_vectorizedHashCode_A2_b129 (E : zE) (p4 : Int32) (h : zH) : Option (Int32 × zH) :=
  none
theorem w_J11_vectorizedHashCode_A2_b129 (C0 : zCx p l e R s m args below meth c D B0 5 "jdk/internal/util/ArraysSupport" cJ11_vectorizedHashCode E 2 85 (Option.some Jvm.ClassFile.FieldType.int) "vectorizedHashCode") {r : Int32} {h' : zH} {p4 : Int32} {h : zH} (hf : f_J11_vectorizedHashCode_A2_b129 E p4 h = some (r, h')) : zW p l e R s m args below meth c D B0 5 (zEnd D B0 R below args s (zoI r) h') h 129 [(4, .int p4)] [] := by
  unfold f_J11_vectorizedHashCode_A2_b129 at hf
  cases hf
def f_J11_vectorizedHashCode_A2_b157 (E : zE) (s0 : Int32) (h : zH) : Option (Int32 × zH) :=
  some (s0, h)
theorem w_J11_vectorizedHashCode_A2_b157 (C0 : zCx p l e R s m args below meth c D B0 5 "jdk/internal/util/ArraysSupport" cJ11_vectorizedHashCode E 2 85 (Option.some Jvm.ClassFile.FieldType.int) "vectorizedHashCode") {r : Int32} {h' : zH} {s0 : Int32} {h : zH} (hf : f_J11_vectorizedHashCode_A2_b157 E s0 h = some (r, h')) : zW p l e R s m args below meth c D B0 5 (zEnd D B0 R below args s (zoI r) h') h 157 [] [.int s0] := by
  unfold f_J11_vectorizedHashCode_A2_b157 at hf
  refine zretW hf ?_
  exact zr_iret C0 (ty := .int) rfl rfl dJ11_vectorizedHashCode_157 rfl
def f_J11_vectorizedHashCode_A2_b0 (E : zE) (p0 : Nat) (p1 : Int32) (p2 : Int32) (p3 : Int32) (p4 : Int32) (h : zH) : Option (Int32 × zH) :=
  if p4 = 4 then (
    (cka h p0 2).bind fun _ =>
    bnd2 (f_J11_signedHashCode E p3 p0 p1 p2 h) fun x5 h3 =>
    f_J11_vectorizedHashCode_A2_b157 E x5 h3
  ) else (
  if p4 = 5 then (
    none
  ) else (
  if p4 = 6 then (
    f_J11_vectorizedHashCode_A2_b129 E p4 h
  ) else (
  if p4 = 7 then (
    f_J11_vectorizedHashCode_A2_b129 E p4 h
  ) else (
  if p4 = 8 then (
    (cka h p0 2).bind fun _ =>
    bnd2 (f_J11_hashCode_2 E p3 p0 p1 p2 h) fun x13 h11 =>
    f_J11_vectorizedHashCode_A2_b157 E x13 h11
  ) else (
  if p4 = 9 then (
    none
  ) else (
  if p4 = 10 then (
    none
  ) else (
    f_J11_vectorizedHashCode_A2_b129 E p4 h
  )))))))
theorem w_J11_vectorizedHashCode_A2_b0 (C0 : zCx p l e R s m args below meth c D B0 5 "jdk/internal/util/ArraysSupport" cJ11_vectorizedHashCode E 2 85 (Option.some Jvm.ClassFile.FieldType.int) "vectorizedHashCode") {r : Int32} {h' : zH} {p0 : Nat} {p1 : Int32} {p2 : Int32} {p3 : Int32} {p4 : Int32} {h : zH} (hf : f_J11_vectorizedHashCode_A2_b0 E p0 p1 p2 p3 p4 h = some (r, h')) : zW p l e R s m args below meth c D B0 5 (zEnd D B0 R below args s (zoI r) h') h 0 [(0, .ref p0), (1, .int p1), (2, .int p2), (3, .int p3), (4, .int p4)] [] := by
  unfold f_J11_vectorizedHashCode_A2_b0 at hf
  refine zr_iload C0 dJ11_vectorizedHashCode_0 4 rfl ?_
  rcases Decidable.em (p4 = 4) with c1 | c1
  · have hf := zif_t c1 hf
    refine zr_tableIn C0 (v := 4) (tgt := 44) dJ11_vectorizedHashCode_2 c1 (by decide) (by decide) rfl (by decide) ?_
    refine zr_iload_n C0 dJ11_vectorizedHashCode_44 rfl 3 rfl ?_
    refine zr_aload_n C0 dJ11_vectorizedHashCode_45 rfl 0 rfl ?_
    obtain ⟨_, e2, hf⟩ := zbind hf
    refine zr_castA C0 (t := 2) (by decide) (zcka e2) rfl q1455 dJ11_vectorizedHashCode_46 ?_
    refine zr_iload_n C0 dJ11_vectorizedHashCode_49 rfl 1 rfl ?_
    refine zr_iload_n C0 dJ11_vectorizedHashCode_50 rfl 2 rfl ?_
    obtain ⟨x5, h3, e4, hf⟩ := zbind2 hf
    refine zr_callS_r C0 cv_J11_62 (m_J11_signedHashCode C0.2.2.2.2.2.2.1 e4) (by decide) (by decide) rfl rfl (Nat.le_of_ble_eq_true rfl) dJ11_vectorizedHashCode_51 rfl ?_
    refine zr_goto C0 (tgt := 157) dJ11_vectorizedHashCode_54 (by decide) ?_
    refine zr_sub [] rfl ?_
    exact w_J11_vectorizedHashCode_A2_b157 C0 hf
  have hf := zif_f c1 hf
  rcases Decidable.em (p4 = 5) with c6 | c6
  · have hf := zif_t c6 hf
    refine zr_tableIn C0 (v := 5) (tgt := 57) dJ11_vectorizedHashCode_2 c6 (by decide) (by decide) rfl (by decide) ?_
    refine zr_aload_n C0 dJ11_vectorizedHashCode_57 rfl 0 rfl ?_
    cases hf
  have hf := zif_f c6 hf
  rcases Decidable.em (p4 = 6) with c7 | c7
  · have hf := zif_t c7 hf
    refine zr_tableIn C0 (v := 6) (tgt := 129) dJ11_vectorizedHashCode_2 c7 (by decide) (by decide) rfl (by decide) ?_
    refine zr_sub [4] rfl ?_
    exact w_J11_vectorizedHashCode_A2_b129 C0 hf
  have hf := zif_f c7 hf
  rcases Decidable.em (p4 = 7) with c8 | c8
  · have hf := zif_t c8 hf
    refine zr_tableIn C0 (v := 7) (tgt := 129) dJ11_vectorizedHashCode_2 c8 (by decide) (by decide) rfl (by decide) ?_
    refine zr_sub [4] rfl ?_
    exact w_J11_vectorizedHashCode_A2_b129 C0 hf
  have hf := zif_f c8 hf
  rcases Decidable.em (p4 = 8) with c9 | c9
  · have hf := zif_t c9 hf
    refine zr_tableIn C0 (v := 8) (tgt := 90) dJ11_vectorizedHashCode_2 c9 (by decide) (by decide) rfl (by decide) ?_
    refine zr_iload_n C0 dJ11_vectorizedHashCode_90 rfl 3 rfl ?_
    refine zr_aload_n C0 dJ11_vectorizedHashCode_91 rfl 0 rfl ?_
    obtain ⟨_, e10, hf⟩ := zbind hf
    refine zr_castA C0 (t := 2) (by decide) (zcka e10) rfl q1455 dJ11_vectorizedHashCode_92 ?_
    refine zr_iload_n C0 dJ11_vectorizedHashCode_95 rfl 1 rfl ?_
    refine zr_iload_n C0 dJ11_vectorizedHashCode_96 rfl 2 rfl ?_
    obtain ⟨x13, h11, e12, hf⟩ := zbind2 hf
    refine zr_callS_r C0 cv_J11_75 (m_J11_hashCode_2 C0.2.2.2.2.2.2.1 e12) (by decide) (by decide) rfl rfl (Nat.le_of_ble_eq_true rfl) dJ11_vectorizedHashCode_97 rfl ?_
    refine zr_goto C0 (tgt := 157) dJ11_vectorizedHashCode_100 (by decide) ?_
    refine zr_sub [] rfl ?_
    exact w_J11_vectorizedHashCode_A2_b157 C0 hf
  have hf := zif_f c9 hf
  rcases Decidable.em (p4 = 9) with c14 | c14
  · have hf := zif_t c14 hf
    refine zr_tableIn C0 (v := 9) (tgt := 103) dJ11_vectorizedHashCode_2 c14 (by decide) (by decide) rfl (by decide) ?_
    refine zr_iload_n C0 dJ11_vectorizedHashCode_103 rfl 3 rfl ?_
    refine zr_aload_n C0 dJ11_vectorizedHashCode_104 rfl 0 rfl ?_
    cases hf
  have hf := zif_f c14 hf
  rcases Decidable.em (p4 = 10) with c15 | c15
  · have hf := zif_t c15 hf
    refine zr_tableIn C0 (v := 10) (tgt := 116) dJ11_vectorizedHashCode_2 c15 (by decide) (by decide) rfl (by decide) ?_
    refine zr_iload_n C0 dJ11_vectorizedHashCode_116 rfl 3 rfl ?_
    refine zr_aload_n C0 dJ11_vectorizedHashCode_117 rfl 0 rfl ?_
    cases hf
  have hf := zif_f c15 hf
  refine zr_tableOut C0 (tgt := 129) dJ11_vectorizedHashCode_2 ?_ (by decide) ?_
  · have n0 := lv_neT (a := 4) c1 rfl; have n1 := lv_neT (a := 5) c6 rfl; have n2 := lv_neT (a := 6) c7 rfl; have n3 := lv_neT (a := 7) c8 rfl; have n4 := lv_neT (a := 8) c9 rfl; have n5 := lv_neT (a := 9) c14 rfl; have n6 := lv_neT (a := 10) c15 rfl; omega
  refine zr_sub [4] rfl ?_
  exact w_J11_vectorizedHashCode_A2_b129 C0 hf
def f_J11_vectorizedHashCode_A2 (E : zE) (p0 : Nat) (p1 : Int32) (p2 : Int32) (p3 : Int32) (p4 : Int32) (h : zH) : Option (Int32 × zH) := f_J11_vectorizedHashCode_A2_b0 E p0 p1 p2 p3 p4 h
theorem m_J11_vectorizedHashCode_A2 {l : Launch} (hst : l.stackTraces = false) {D : zD} {B0 : Nat} {E : zE} {p0 : Nat} {p1 : Int32} {p2 : Int32} {p3 : Int32} {p4 : Int32} {h h' : zH} {r : Int32} (hf : f_J11_vectorizedHashCode_A2 E p0 p1 p2 p3 p4 h = some (r, h')) : zMet l yJ11_vectorizedHashCode (ws_ yJ11_vectorizedHashCode cJ11_vectorizedHashCode 5 (Option.some Jvm.ClassFile.FieldType.int)) 2 85 D B0 E [.ref p0, .int p1, .int p2, .int p3, .int p4] h (zoI r) h' := by
  unfold f_J11_vectorizedHashCode_A2 at hf
  refine zMet_of hst (by decide +kernel) rfl rfl (Nat.le_of_ble_eq_true rfl) (fun p e R s m below meth c C0 hno => ?_)
  show zW _ _ _ _ _ _ _ _ _ _ _ _ _ _ _ _ [(0, .ref p0), (1, .int p1), (2, .int p2), (3, .int p3), (4, .int p4)] []
  exact w_J11_vectorizedHashCode_A2_b0 C0 hf
def f_J10_hashCode_b51 (E : zE) (s0 : Int32) (h : zH) : Option (Int32 × zH) :=
  some (s0, h)
theorem w_J10_hashCode_b51 (C0 : zCx p l e R s m args below meth c D B0 1 "java/lang/StringUTF16" cJ10_hashCode E 3 109 (Option.some Jvm.ClassFile.FieldType.int) "hashCode") {r : Int32} {h' : zH} {s0 : Int32} {h : zH} (hf : f_J10_hashCode_b51 E s0 h = some (r, h')) : zW p l e R s m args below meth c D B0 1 (zEnd D B0 R below args s (zoI r) h') h 51 [] [.int s0] := by
  unfold f_J10_hashCode_b51 at hf
  refine zretW hf ?_
  exact zr_iret C0 (ty := .int) rfl rfl dJ10_hashCode_51 rfl
def f_J10_hashCode_b0 (E : zE) (p0 : Nat) (h : zH) : Option (Int32 × zH) :=
  (lenA h p0).bind fun x1 =>
  if x1 = 0 then (
    f_J10_hashCode_b51 E (0 : Int32) h
  ) else (
  if x1 = 2 then (
    bnd2 (f_J10_getChar E p0 (0 : Int32) h) fun x7 h5 =>
    f_J10_hashCode_b51 E x7 h5
  ) else (
    (lenA h p0).bind fun x8 =>
    bnd2 (f_J11_vectorizedHashCode_A2 E p0 (0 : Int32) (x8 >>> ((1 : Int32) &&& 31)) (0 : Int32) (5 : Int32) h) fun x12 h10 =>
    f_J10_hashCode_b51 E x12 h10
  ))
theorem w_J10_hashCode_b0 (C0 : zCx p l e R s m args below meth c D B0 1 "java/lang/StringUTF16" cJ10_hashCode E 3 109 (Option.some Jvm.ClassFile.FieldType.int) "hashCode") {r : Int32} {h' : zH} {p0 : Nat} {h : zH} (hf : f_J10_hashCode_b0 E p0 h = some (r, h')) : zW p l e R s m args below meth c D B0 1 (zEnd D B0 R below args s (zoI r) h') h 0 [(0, .ref p0)] [] := by
  unfold f_J10_hashCode_b0 at hf
  refine zr_aload_n C0 dJ10_hashCode_0 rfl 0 rfl ?_
  obtain ⟨x1, e2, hf⟩ := zbind hf
  refine zr_alen C0 dJ10_hashCode_1 e2 ?_
  rcases Decidable.em (x1 = 0) with c3 | c3
  · have hf := zif_t c3 hf
    refine zr_lookup C0 (tgt := 28) (off := 26) dJ10_hashCode_2 (by decide) (by rw [c3]; decide) (by decide) ?_
    refine zr_iconst C0 (v := 0) dJ10_hashCode_28 (by decide) ?_
    refine zr_goto C0 (tgt := 51) dJ10_hashCode_29 (by decide) ?_
    refine zr_sub [] rfl ?_
    exact w_J10_hashCode_b51 C0 hf
  have hf := zif_f c3 hf
  rcases Decidable.em (x1 = 2) with c4 | c4
  · have hf := zif_t c4 hf
    refine zr_lookup C0 (tgt := 32) (off := 30) dJ10_hashCode_2 (by decide) (by rw [c4]; decide) (by decide) ?_
    refine zr_aload_n C0 dJ10_hashCode_32 rfl 0 rfl ?_
    refine zr_iconst C0 (v := 0) dJ10_hashCode_33 (by decide) ?_
    obtain ⟨x7, h5, e6, hf⟩ := zbind2 hf
    refine zr_callS_r C0 cv_J10_71 (m_J10_getChar C0.2.2.2.2.2.2.1 e6) (by decide) (by decide) rfl rfl (Nat.le_of_ble_eq_true rfl) dJ10_hashCode_34 rfl ?_
    refine zr_goto C0 (tgt := 51) dJ10_hashCode_37 (by decide) ?_
    refine zr_sub [] rfl ?_
    exact w_J10_hashCode_b51 C0 hf
  have hf := zif_f c4 hf
  refine zr_lookup C0 (tgt := 40) (off := 38) dJ10_hashCode_2 (by decide) (by show Op.lookupswitch.offset [(0, 26), (2, 30)] _ _ = _; rw [lv_osw c3 (by decide), lv_osw c4 (by decide)]; rfl) (by decide) ?_
  refine zr_aload_n C0 dJ10_hashCode_40 rfl 0 rfl ?_
  refine zr_iconst C0 (v := 0) dJ10_hashCode_41 (by decide) ?_
  refine zr_aload_n C0 dJ10_hashCode_42 rfl 0 rfl ?_
  obtain ⟨x8, e9, hf⟩ := zbind hf
  refine zr_alen C0 dJ10_hashCode_43 e9 ?_
  refine zr_iconst C0 (v := 1) dJ10_hashCode_44 (by decide) ?_
  refine zr_ishr C0 dJ10_hashCode_45 ?_
  refine zr_iconst C0 (v := 0) dJ10_hashCode_46 (by decide) ?_
  refine zr_iconst C0 (v := 5) dJ10_hashCode_47 (by decide) ?_
  obtain ⟨x12, h10, e11, hf⟩ := zbind2 hf
  refine zr_callS_r C0 cv_J10_220 (m_J11_vectorizedHashCode_A2 C0.2.2.2.2.2.2.1 e11) (by decide) (by decide) rfl rfl (Nat.le_of_ble_eq_true rfl) dJ10_hashCode_48 rfl ?_
  refine zr_sub [] rfl ?_
  exact w_J10_hashCode_b51 C0 hf
def f_J10_hashCode (E : zE) (p0 : Nat) (h : zH) : Option (Int32 × zH) := f_J10_hashCode_b0 E p0 h
theorem m_J10_hashCode {l : Launch} (hst : l.stackTraces = false) {D : zD} {B0 : Nat} {E : zE} {p0 : Nat} {h h' : zH} {r : Int32} (hf : f_J10_hashCode E p0 h = some (r, h')) : zMet l yJ10_hashCode (ws_ yJ10_hashCode cJ10_hashCode 1 (Option.some Jvm.ClassFile.FieldType.int)) 3 109 D B0 E [.ref p0] h (zoI r) h' := by
  unfold f_J10_hashCode at hf
  refine zMet_of hst (by decide +kernel) rfl rfl (Nat.le_of_ble_eq_true rfl) (fun p e R s m below meth c C0 hno => ?_)
  show zW _ _ _ _ _ _ _ _ _ _ _ _ _ _ _ _ [(0, .ref p0)] []
  exact w_J10_hashCode_b0 C0 hf
def f_J15_hashCode_b51 (E : zE) (s0 : Int32) (h : zH) : Option (Int32 × zH) :=
  some (s0, h)
theorem w_J15_hashCode_b51 (C0 : zCx p l e R s m args below meth c D B0 1 "java/lang/StringLatin1" cJ15_hashCode E 3 109 (Option.some Jvm.ClassFile.FieldType.int) "hashCode") {r : Int32} {h' : zH} {s0 : Int32} {h : zH} (hf : f_J15_hashCode_b51 E s0 h = some (r, h')) : zW p l e R s m args below meth c D B0 1 (zEnd D B0 R below args s (zoI r) h') h 51 [] [.int s0] := by
  unfold f_J15_hashCode_b51 at hf
  refine zretW hf ?_
  exact zr_iret C0 (ty := .int) rfl rfl dJ15_hashCode_51 rfl
def f_J15_hashCode_b0 (E : zE) (p0 : Nat) (h : zH) : Option (Int32 × zH) :=
  (lenA h p0).bind fun x1 =>
  if x1 = 0 then (
    f_J15_hashCode_b51 E (0 : Int32) h
  ) else (
  if x1 = 1 then (
    (dI h p0 2 (0 : Int32)).bind fun x5 =>
    f_J15_hashCode_b51 E (x5 &&& (255 : Int32)) h
  ) else (
    (lenA h p0).bind fun x7 =>
    bnd2 (f_J11_vectorizedHashCode_A2 E p0 (0 : Int32) x7 (0 : Int32) (4 : Int32) h) fun x11 h9 =>
    f_J15_hashCode_b51 E x11 h9
  ))
theorem w_J15_hashCode_b0 (C0 : zCx p l e R s m args below meth c D B0 1 "java/lang/StringLatin1" cJ15_hashCode E 3 109 (Option.some Jvm.ClassFile.FieldType.int) "hashCode") {r : Int32} {h' : zH} {p0 : Nat} {h : zH} (hf : f_J15_hashCode_b0 E p0 h = some (r, h')) : zW p l e R s m args below meth c D B0 1 (zEnd D B0 R below args s (zoI r) h') h 0 [(0, .ref p0)] [] := by
  unfold f_J15_hashCode_b0 at hf
  refine zr_aload_n C0 dJ15_hashCode_0 rfl 0 rfl ?_
  obtain ⟨x1, e2, hf⟩ := zbind hf
  refine zr_alen C0 dJ15_hashCode_1 e2 ?_
  rcases Decidable.em (x1 = 0) with c3 | c3
  · have hf := zif_t c3 hf
    refine zr_lookup C0 (tgt := 28) (off := 26) dJ15_hashCode_2 (by decide) (by rw [c3]; decide) (by decide) ?_
    refine zr_iconst C0 (v := 0) dJ15_hashCode_28 (by decide) ?_
    refine zr_goto C0 (tgt := 51) dJ15_hashCode_29 (by decide) ?_
    refine zr_sub [] rfl ?_
    exact w_J15_hashCode_b51 C0 hf
  have hf := zif_f c3 hf
  rcases Decidable.em (x1 = 1) with c4 | c4
  · have hf := zif_t c4 hf
    refine zr_lookup C0 (tgt := 32) (off := 30) dJ15_hashCode_2 (by decide) (by rw [c4]; decide) (by decide) ?_
    refine zr_aload_n C0 dJ15_hashCode_32 rfl 0 rfl ?_
    refine zr_iconst C0 (v := 0) dJ15_hashCode_33 (by decide) ?_
    obtain ⟨x5, e6, hf⟩ := zbind hf
    refine zr_bald C0 dJ15_hashCode_34 e6 ?_
    refine zr_sipush C0 (v := 255) dJ15_hashCode_35 (by decide) ?_
    refine zr_iand C0 dJ15_hashCode_38 ?_
    refine zr_goto C0 (tgt := 51) dJ15_hashCode_39 (by decide) ?_
    refine zr_sub [] rfl ?_
    exact w_J15_hashCode_b51 C0 hf
  have hf := zif_f c4 hf
  refine zr_lookup C0 (tgt := 42) (off := 40) dJ15_hashCode_2 (by decide) (by show Op.lookupswitch.offset [(0, 26), (1, 30)] _ _ = _; rw [lv_osw c3 (by decide), lv_osw c4 (by decide)]; rfl) (by decide) ?_
  refine zr_aload_n C0 dJ15_hashCode_42 rfl 0 rfl ?_
  refine zr_iconst C0 (v := 0) dJ15_hashCode_43 (by decide) ?_
  refine zr_aload_n C0 dJ15_hashCode_44 rfl 0 rfl ?_
  obtain ⟨x7, e8, hf⟩ := zbind hf
  refine zr_alen C0 dJ15_hashCode_45 e8 ?_
  refine zr_iconst C0 (v := 0) dJ15_hashCode_46 (by decide) ?_
  refine zr_iconst C0 (v := 4) dJ15_hashCode_47 (by decide) ?_
  obtain ⟨x11, h9, e10, hf⟩ := zbind2 hf
  refine zr_callS_r C0 cv_J15_84 (m_J11_vectorizedHashCode_A2 C0.2.2.2.2.2.2.1 e10) (by decide) (by decide) rfl rfl (Nat.le_of_ble_eq_true rfl) dJ15_hashCode_48 rfl ?_
  refine zr_sub [] rfl ?_
  exact w_J15_hashCode_b51 C0 hf
def f_J15_hashCode (E : zE) (p0 : Nat) (h : zH) : Option (Int32 × zH) := f_J15_hashCode_b0 E p0 h
theorem m_J15_hashCode {l : Launch} (hst : l.stackTraces = false) {D : zD} {B0 : Nat} {E : zE} {p0 : Nat} {h h' : zH} {r : Int32} (hf : f_J15_hashCode E p0 h = some (r, h')) : zMet l yJ15_hashCode (ws_ yJ15_hashCode cJ15_hashCode 1 (Option.some Jvm.ClassFile.FieldType.int)) 3 109 D B0 E [.ref p0] h (zoI r) h' := by
  unfold f_J15_hashCode at hf
  refine zMet_of hst (by decide +kernel) rfl rfl (Nat.le_of_ble_eq_true rfl) (fun p e R s m below meth c C0 hno => ?_)
  show zW _ _ _ _ _ _ _ _ _ _ _ _ _ _ _ _ [(0, .ref p0)] []
  exact w_J15_hashCode_b0 C0 hf
def f_J9_hashCode_b58 (E : zE) (p1 : Int32) (h : zH) : Option (Int32 × zH) :=
  some (p1, h)
theorem w_J9_hashCode_b58 (C0 : zCx p l e R s m args below meth c D B0 2 "java/lang/String" cJ9_hashCode E 4 129 (Option.some Jvm.ClassFile.FieldType.int) "hashCode") {r : Int32} {h' : zH} {p1 : Int32} {h : zH} (hf : f_J9_hashCode_b58 E p1 h = some (r, h')) : zW p l e R s m args below meth c D B0 2 (zEnd D B0 R below args s (zoI r) h') h 58 [(1, .int p1)] [] := by
  unfold f_J9_hashCode_b58 at hf
  refine zr_iload_n C0 dJ9_hashCode_58 rfl 0 rfl ?_
  refine zretW hf ?_
  exact zr_iret C0 (ty := .int) rfl rfl dJ9_hashCode_59 rfl
def f_J9_hashCode_b40 (E : zE) (p0 : Nat) (s0 : Int32) (h : zH) : Option (Int32 × zH) :=
  if s0 = 0 then (
    (pF h p0 19 3 (.int (1 : Int32))).bind fun h4 =>
    f_J9_hashCode_b58 E s0 h4
  ) else (
    (pF h p0 19 2 (.int s0)).bind fun h2 =>
    f_J9_hashCode_b58 E s0 h2
  )
theorem w_J9_hashCode_b40 (C0 : zCx p l e R s m args below meth c D B0 2 "java/lang/String" cJ9_hashCode E 4 129 (Option.some Jvm.ClassFile.FieldType.int) "hashCode") {r : Int32} {h' : zH} {p0 : Nat} {s0 : Int32} {h : zH} (hf : f_J9_hashCode_b40 E p0 s0 h = some (r, h')) : zW p l e R s m args below meth c D B0 2 (zEnd D B0 R below args s (zoI r) h') h 40 [(0, .ref p0)] [.int s0] := by
  unfold f_J9_hashCode_b40 at hf
  refine zr_istore_n (i := 1) (lv' := [(1, .int s0), (0, .ref p0)]) C0 dJ9_hashCode_40 rfl (by decide) (by first | rfl | simp [zst1, zst2, zcat_rf]) ?_
  refine zr_iload_n C0 dJ9_hashCode_41 rfl 0 rfl ?_
  refine zr_if_ne C0 (tgt := 53) dJ9_hashCode_42 (by decide) (fun c1 => ?_) (fun c1 => ?_)
  · have hf := zif_f c1 hf
    refine zr_aload_n C0 dJ9_hashCode_53 rfl 1 rfl ?_
    refine zr_iload_n C0 dJ9_hashCode_54 rfl 0 rfl ?_
    obtain ⟨h2, e3, hf⟩ := zbind hf
    refine zr_put C0 pl_J9_19_J9 dJ9_hashCode_55 (fun h => by cases h) rfl rfl e3 ?_
    refine zr_sub [0] rfl ?_
    exact w_J9_hashCode_b58 C0 hf
  · have hf := zif_t c1 hf
    refine zr_aload_n C0 dJ9_hashCode_45 rfl 1 rfl ?_
    refine zr_iconst C0 (v := 1) dJ9_hashCode_46 (by decide) ?_
    obtain ⟨h4, e5, hf⟩ := zbind hf
    refine zr_put C0 pl_J9_23_J9 dJ9_hashCode_47 (fun h => by cases h) (by decide) (by decide) e5 ?_
    refine zr_goto C0 (tgt := 58) dJ9_hashCode_50 (by decide) ?_
    refine zr_sub [0] rfl ?_
    exact w_J9_hashCode_b58 C0 hf
def f_J9_hashCode_b0 (E : zE) (p0 : Nat) (h : zH) : Option (Int32 × zH) :=
  (gI h p0 19 2).bind fun x1 =>
  if x1 = 0 then (
    (gI h p0 19 3).bind fun x4 =>
    if x4 = 0 then (
      (cko h p0 19).bind fun _ =>
      bnd2 (f_J9_isLatin1 E p0 h) fun x10 h8 =>
      if x10 = 0 then (
        (gR h8 p0 19 0).bind fun x12 =>
        bnd2 (f_J10_hashCode E x12 h8) fun x16 h14 =>
        f_J9_hashCode_b40 E p0 x16 h14
      ) else (
        (gR h8 p0 19 0).bind fun x17 =>
        bnd2 (f_J15_hashCode E x17 h8) fun x21 h19 =>
        f_J9_hashCode_b40 E p0 x21 h19
      )
    ) else (
      f_J9_hashCode_b58 E x1 h
    )
  ) else (
    f_J9_hashCode_b58 E x1 h
  )
theorem w_J9_hashCode_b0 (C0 : zCx p l e R s m args below meth c D B0 2 "java/lang/String" cJ9_hashCode E 4 129 (Option.some Jvm.ClassFile.FieldType.int) "hashCode") {r : Int32} {h' : zH} {p0 : Nat} {h : zH} (hf : f_J9_hashCode_b0 E p0 h = some (r, h')) : zW p l e R s m args below meth c D B0 2 (zEnd D B0 R below args s (zoI r) h') h 0 [(0, .ref p0)] [] := by
  unfold f_J9_hashCode_b0 at hf
  refine zr_aload_n C0 dJ9_hashCode_0 rfl 0 rfl ?_
  obtain ⟨x1, e2, hf⟩ := zbind hf
  refine zr_get C0 fl_J9_19_J9 dJ9_hashCode_1 (zgI e2) ?_
  refine zr_istore_n (i := 1) (lv' := [(1, .int x1), (0, .ref p0)]) C0 dJ9_hashCode_4 rfl (by decide) (by first | rfl | simp [zst1, zst2, zcat_rf]) ?_
  refine zr_iload_n C0 dJ9_hashCode_5 rfl 0 rfl ?_
  refine zr_if_ne C0 (tgt := 58) dJ9_hashCode_6 (by decide) (fun c3 => ?_) (fun c3 => ?_)
  · have hf := zif_f c3 hf
    refine zr_sub [0] rfl ?_
    exact w_J9_hashCode_b58 C0 hf
  · have hf := zif_t c3 hf
    refine zr_aload_n C0 dJ9_hashCode_9 rfl 1 rfl ?_
    obtain ⟨x4, e5, hf⟩ := zbind hf
    refine zr_get C0 fl_J9_23_J9 dJ9_hashCode_10 (zgI e5) ?_
    refine zr_if_ne C0 (tgt := 58) dJ9_hashCode_13 (by decide) (fun c6 => ?_) (fun c6 => ?_)
    · have hf := zif_f c6 hf
      refine zr_sub [0] rfl ?_
      exact w_J9_hashCode_b58 C0 hf
    · have hf := zif_t c6 hf
      refine zr_aload_n C0 dJ9_hashCode_16 rfl 1 rfl ?_
      obtain ⟨_, e7, hf⟩ := zbind hf
      obtain ⟨x10, h8, e9, hf⟩ := zbind2 hf
      refine zr_callV_r C0 cv_J9_492_J9 rfl (zcko e7) (m_J9_isLatin1 C0.2.2.2.2.2.2.1 e9) (by decide) (by decide) rfl rfl (Nat.le_of_ble_eq_true rfl) dJ9_hashCode_17 rfl ?_
      refine zr_if_eq C0 (tgt := 33) dJ9_hashCode_20 (by decide) (fun c11 => ?_) (fun c11 => ?_)
      · have hf := zif_t c11 hf
        refine zr_aload_n C0 dJ9_hashCode_33 rfl 1 rfl ?_
        obtain ⟨x12, e13, hf⟩ := zbind hf
        refine zr_get C0 fl_J9_9_J9 dJ9_hashCode_34 (zgR e13) ?_
        obtain ⟨x16, h14, e15, hf⟩ := zbind2 hf
        refine zr_callS_r C0 cv_J9_632 (m_J10_hashCode C0.2.2.2.2.2.2.1 e15) (by decide) (by decide) rfl rfl (Nat.le_of_ble_eq_true rfl) dJ9_hashCode_37 rfl ?_
        refine zr_sub [1] rfl ?_
        exact w_J9_hashCode_b40 C0 hf
      · have hf := zif_f c11 hf
        refine zr_aload_n C0 dJ9_hashCode_23 rfl 1 rfl ?_
        obtain ⟨x17, e18, hf⟩ := zbind hf
        refine zr_get C0 fl_J9_9_J9 dJ9_hashCode_24 (zgR e18) ?_
        obtain ⟨x21, h19, e20, hf⟩ := zbind2 hf
        refine zr_callS_r C0 cv_J9_628 (m_J15_hashCode C0.2.2.2.2.2.2.1 e20) (by decide) (by decide) rfl rfl (Nat.le_of_ble_eq_true rfl) dJ9_hashCode_27 rfl ?_
        refine zr_goto C0 (tgt := 40) dJ9_hashCode_30 (by decide) ?_
        refine zr_sub [1] rfl ?_
        exact w_J9_hashCode_b40 C0 hf
def f_J9_hashCode (E : zE) (p0 : Nat) (h : zH) : Option (Int32 × zH) := f_J9_hashCode_b0 E p0 h
theorem m_J9_hashCode {l : Launch} (hst : l.stackTraces = false) {D : zD} {B0 : Nat} {E : zE} {p0 : Nat} {h h' : zH} {r : Int32} (hf : f_J9_hashCode E p0 h = some (r, h')) : zMet l yJ9_hashCode (ws_ yJ9_hashCode cJ9_hashCode 2 (Option.some Jvm.ClassFile.FieldType.int)) 4 129 D B0 E [.ref p0] h (zoI r) h' := by
  unfold f_J9_hashCode at hf
  refine zMet_of hst (by decide +kernel) rfl rfl (Nat.le_of_ble_eq_true rfl) (fun p e R s m below meth c C0 hno => ?_)
  show zW _ _ _ _ _ _ _ _ _ _ _ _ _ _ _ _ [(0, .ref p0)] []
  exact w_J9_hashCode_b0 C0 hf
def f_J15_equals_l9 (E : zE) : Nat → Nat → Nat → Int32 → zH → Option (Int32 × zH)
  | 0, _, _, _, _ => none
  | n + 1, p0, p1, p2, h =>
    (lenA h p0).bind fun x1 =>
    if x1 ≤ p2 then (
      some ((1 : Int32), h)
    ) else (
      (dI h p0 2 p2).bind fun x4 =>
      (dI h p1 2 p2).bind fun x6 =>
      if x4 = x6 then (
        f_J15_equals_l9 E n p0 p1 (p2 + 1) h
      ) else (
        some ((0 : Int32), h)
      )
    )
theorem w_J15_equals_l9 (C0 : zCx p l e R s m args below meth c D B0 3 "java/lang/StringLatin1" cJ15_equals E 1 60 (Option.some Jvm.ClassFile.FieldType.boolean) "equals") {r : Int32} {h' : zH} : ∀ (n : Nat) (p0 : Nat) (p1 : Nat) (p2 : Int32) (h : zH), f_J15_equals_l9 E n p0 p1 p2 h = some (r, h') → zW p l e R s m args below meth c D B0 3 (zEnd D B0 R below args s (zoI r) h') h 9 [(0, .ref p0), (1, .ref p1), (2, .int p2)] [] := by
  intro n
  induction n with
  | zero =>
    intro p0 p1 p2 h hf
    unfold f_J15_equals_l9 at hf
    cases hf
  | succ n ih =>
    intro p0 p1 p2 h hf
    unfold f_J15_equals_l9 at hf
    refine zr_iload_n C0 dJ15_equals_9 rfl 2 rfl ?_
    refine zr_aload_n C0 dJ15_equals_10 rfl 0 rfl ?_
    obtain ⟨x1, e2, hf⟩ := zbind hf
    refine zr_alen C0 dJ15_equals_11 e2 ?_
    refine zr_icmp_ge C0 (tgt := 32) dJ15_equals_12 (by decide) (fun c3 => ?_) (fun c3 => ?_)
    · have hf := zif_t c3 hf
      refine zr_iconst C0 (v := 1) dJ15_equals_32 (by decide) ?_
      refine zretW hf ?_
      exact zr_iret C0 (ty := .boolean) rfl (by decide) dJ15_equals_33 rfl
    · have hf := zif_f c3 hf
      refine zr_aload_n C0 dJ15_equals_15 rfl 0 rfl ?_
      refine zr_iload_n C0 dJ15_equals_16 rfl 2 rfl ?_
      obtain ⟨x4, e5, hf⟩ := zbind hf
      refine zr_bald C0 dJ15_equals_17 e5 ?_
      refine zr_aload_n C0 dJ15_equals_18 rfl 1 rfl ?_
      refine zr_iload_n C0 dJ15_equals_19 rfl 2 rfl ?_
      obtain ⟨x6, e7, hf⟩ := zbind hf
      refine zr_bald C0 dJ15_equals_20 e7 ?_
      refine zr_icmp_eq C0 (tgt := 26) dJ15_equals_21 (by decide) (fun c8 => ?_) (fun c8 => ?_)
      · have hf := zif_t c8 hf
        refine zr_iinc (lv' := [(2, .int (p2 + 1)), (0, .ref p0), (1, .ref p1)]) C0 dJ15_equals_26 2 rfl rfl (by decide) (by first | rfl | simp [zst1, zst2, zcat_rf]) ?_
        refine zr_goto C0 (tgt := 9) dJ15_equals_29 (by decide) ?_
        refine zr_sub [1, 2, 0] rfl ?_
        exact ih _ _ _ _ hf
      · have hf := zif_f c8 hf
        refine zr_iconst C0 (v := 0) dJ15_equals_24 (by decide) ?_
        refine zretW hf ?_
        exact zr_iret C0 (ty := .boolean) rfl (by decide) dJ15_equals_25 rfl
def f_J15_equals_b0 (E : zE) (p0 : Nat) (p1 : Nat) (h : zH) : Option (Int32 × zH) :=
  (lenA h p0).bind fun x1 =>
  (lenA h p1).bind fun x3 =>
  if x1 = x3 then (
    f_J15_equals_l9 E E.1 p0 p1 (0 : Int32) h
  ) else (
    some ((0 : Int32), h)
  )
theorem w_J15_equals_b0 (C0 : zCx p l e R s m args below meth c D B0 3 "java/lang/StringLatin1" cJ15_equals E 1 60 (Option.some Jvm.ClassFile.FieldType.boolean) "equals") {r : Int32} {h' : zH} {p0 : Nat} {p1 : Nat} {h : zH} (hf : f_J15_equals_b0 E p0 p1 h = some (r, h')) : zW p l e R s m args below meth c D B0 3 (zEnd D B0 R below args s (zoI r) h') h 0 [(0, .ref p0), (1, .ref p1)] [] := by
  unfold f_J15_equals_b0 at hf
  refine zr_aload_n C0 dJ15_equals_0 rfl 0 rfl ?_
  obtain ⟨x1, e2, hf⟩ := zbind hf
  refine zr_alen C0 dJ15_equals_1 e2 ?_
  refine zr_aload_n C0 dJ15_equals_2 rfl 1 rfl ?_
  obtain ⟨x3, e4, hf⟩ := zbind hf
  refine zr_alen C0 dJ15_equals_3 e4 ?_
  refine zr_icmp_ne C0 (tgt := 34) dJ15_equals_4 (by decide) (fun c5 => ?_) (fun c5 => ?_)
  · have hf := zif_f c5 hf
    refine zr_iconst C0 (v := 0) dJ15_equals_34 (by decide) ?_
    refine zretW hf ?_
    exact zr_iret C0 (ty := .boolean) rfl (by decide) dJ15_equals_35 rfl
  · have hf := zif_t c5 hf
    refine zr_iconst C0 (v := 0) dJ15_equals_7 (by decide) ?_
    refine zr_istore_n (i := 2) (lv' := [(2, .int (0 : Int32)), (0, .ref p0), (1, .ref p1)]) C0 dJ15_equals_8 rfl (by decide) (by first | rfl | simp [zst1, zst2, zcat_rf]) ?_
    refine zr_sub [1, 2, 0] rfl ?_
    exact w_J15_equals_l9 C0 _ _ _ _ _ hf
def f_J15_equals (E : zE) (p0 : Nat) (p1 : Nat) (h : zH) : Option (Int32 × zH) := f_J15_equals_b0 E p0 p1 h
theorem m_J15_equals {l : Launch} (hst : l.stackTraces = false) {D : zD} {B0 : Nat} {E : zE} {p0 : Nat} {p1 : Nat} {h h' : zH} {r : Int32} (hf : f_J15_equals E p0 p1 h = some (r, h')) : zMet l yJ15_equals (ws_ yJ15_equals cJ15_equals 3 (Option.some Jvm.ClassFile.FieldType.boolean)) 1 60 D B0 E [.ref p0, .ref p1] h (zoI r) h' := by
  unfold f_J15_equals at hf
  refine zMet_of hst (by decide +kernel) rfl rfl (Nat.le_of_ble_eq_true rfl) (fun p e R s m below meth c C0 hno => ?_)
  show zW _ _ _ _ _ _ _ _ _ _ _ _ _ _ _ _ [(0, .ref p0), (1, .ref p1)] []
  exact w_J15_equals_b0 C0 hf
def f_J9_equals_J9_b55 (E : zE) (s0 : Int32) (h : zH) : Option (Int32 × zH) :=
  (zgd .boolean s0).bind fun _ =>
  some (s0, h)
theorem w_J9_equals_J9_b55 (C0 : zCx p l e R s m args below meth c D B0 3 "java/lang/String" cJ9_equals E 2 82 (Option.some Jvm.ClassFile.FieldType.boolean) "equals") {r : Int32} {h' : zH} {s0 : Int32} {h : zH} (hf : f_J9_equals_J9_b55 E s0 h = some (r, h')) : zW p l e R s m args below meth c D B0 3 (zEnd D B0 R below args s (zoI r) h') h 55 [] [.int s0] := by
  unfold f_J9_equals_J9_b55 at hf
  obtain ⟨_, e1, hf⟩ := zbind hf
  refine zretW hf ?_
  exact zr_iret C0 (ty := .boolean) rfl (zgd_n e1) dJ9_equals_55 rfl
def f_J9_equals_J9_b54 (E : zE) (h : zH) : Option (Int32 × zH) :=
  f_J9_equals_J9_b55 E (0 : Int32) h
theorem w_J9_equals_J9_b54 (C0 : zCx p l e R s m args below meth c D B0 3 "java/lang/String" cJ9_equals E 2 82 (Option.some Jvm.ClassFile.FieldType.boolean) "equals") {r : Int32} {h' : zH} {h : zH} (hf : f_J9_equals_J9_b54 E  h = some (r, h')) : zW p l e R s m args below meth c D B0 3 (zEnd D B0 R below args s (zoI r) h') h 54 [] [] := by
  unfold f_J9_equals_J9_b54 at hf
  refine zr_iconst C0 (v := 0) dJ9_equals_54 (by decide) ?_
  exact w_J9_equals_J9_b55 C0 hf
def f_J9_equals_J9_b36 (E : zE) (p0 : Nat) (p2 : Nat) (h : zH) : Option (Int32 × zH) :=
  (gR h p0 19 0).bind fun x1 =>
  (gR h p2 19 0).bind fun x3 =>
  bnd2 (f_J15_equals E x1 x3 h) fun x7 h5 =>
  if x7 = 0 then (
    f_J9_equals_J9_b54 E  h5
  ) else (
    f_J9_equals_J9_b55 E (1 : Int32) h5
  )
theorem w_J9_equals_J9_b36 (C0 : zCx p l e R s m args below meth c D B0 3 "java/lang/String" cJ9_equals E 2 82 (Option.some Jvm.ClassFile.FieldType.boolean) "equals") {r : Int32} {h' : zH} {p0 : Nat} {p2 : Nat} {h : zH} (hf : f_J9_equals_J9_b36 E p0 p2 h = some (r, h')) : zW p l e R s m args below meth c D B0 3 (zEnd D B0 R below args s (zoI r) h') h 36 [(0, .ref p0), (2, .ref p2)] [] := by
  unfold f_J9_equals_J9_b36 at hf
  refine zr_aload_n C0 dJ9_equals_36 rfl 0 rfl ?_
  obtain ⟨x1, e2, hf⟩ := zbind hf
  refine zr_get C0 fl_J9_9_J9 dJ9_equals_37 (zgR e2) ?_
  refine zr_aload_n C0 dJ9_equals_40 rfl 1 rfl ?_
  obtain ⟨x3, e4, hf⟩ := zbind hf
  refine zr_get C0 fl_J9_9_J9 dJ9_equals_41 (zgR e4) ?_
  obtain ⟨x7, h5, e6, hf⟩ := zbind2 hf
  refine zr_callS_r C0 cv_J9_541 (m_J15_equals C0.2.2.2.2.2.2.1 e6) (by decide) (by decide) rfl rfl (Nat.le_of_ble_eq_true rfl) dJ9_equals_44 rfl ?_
  refine zr_if_eq C0 (tgt := 54) dJ9_equals_47 (by decide) (fun c8 => ?_) (fun c8 => ?_)
  · have hf := zif_t c8 hf
    refine zr_sub [] rfl ?_
    exact w_J9_equals_J9_b54 C0 hf
  · have hf := zif_f c8 hf
    refine zr_iconst C0 (v := 1) dJ9_equals_50 (by decide) ?_
    refine zr_goto C0 (tgt := 55) dJ9_equals_51 (by decide) ?_
    refine zr_sub [] rfl ?_
    exact w_J9_equals_J9_b55 C0 hf
def f_J9_equals_J9_b0 (E : zE) (p0 : Nat) (p1 : Nat) (h : zH) : Option (Int32 × zH) :=
  if ((some p0) : Option Nat) = (some p1) then (
    some ((1 : Int32), h)
  ) else (
    (cko h p1 19).bind fun _ =>
    if (1 : Int32) = 0 then (
      f_J9_equals_J9_b54 E  h
    ) else (
      (cko h p1 19).bind fun _ =>
      if (1 : Int32) = 0 then (
        f_J9_equals_J9_b36 E p0 p1 h
      ) else (
        (gI h p0 19 1).bind fun x6 =>
        (gI h p1 19 1).bind fun x8 =>
        if x6 = x8 then (
          f_J9_equals_J9_b36 E p0 p1 h
        ) else (
          f_J9_equals_J9_b54 E  h
        )
      )
    )
  )
theorem w_J9_equals_J9_b0 (C0 : zCx p l e R s m args below meth c D B0 3 "java/lang/String" cJ9_equals E 2 82 (Option.some Jvm.ClassFile.FieldType.boolean) "equals") {r : Int32} {h' : zH} {p0 : Nat} {p1 : Nat} {h : zH} (hf : f_J9_equals_J9_b0 E p0 p1 h = some (r, h')) : zW p l e R s m args below meth c D B0 3 (zEnd D B0 R below args s (zoI r) h') h 0 [(0, .ref p0), (1, .ref p1)] [] := by
  unfold f_J9_equals_J9_b0 at hf
  refine zr_aload_n C0 dJ9_equals_0 rfl 0 rfl ?_
  refine zr_aload_n C0 dJ9_equals_1 rfl 1 rfl ?_
  refine zr_acmp_ne C0 (rx := (some p0)) (ry := (some p1)) (tgt := 7) dJ9_equals_2 (by decide) (fun c1 => ?_) (fun c1 => ?_)
  · have hf := zif_f c1 hf
    refine zr_aload_n C0 dJ9_equals_7 rfl 1 rfl ?_
    obtain ⟨_, e2, hf⟩ := zbind hf
    refine zr_instS C0 (ci := 19) rfl (zcko e2) q1270 dJ9_equals_8 ?_
    refine zr_if_eq C0 (tgt := 54) dJ9_equals_11 (by decide) (fun c3 => ?_) (fun c3 => ?_)
    · have hf := zif_t c3 hf
      refine zr_sub [] rfl ?_
      exact w_J9_equals_J9_b54 C0 hf
    · have hf := zif_f c3 hf
      refine zr_aload_n C0 dJ9_equals_14 rfl 1 rfl ?_
      obtain ⟨_, e4, hf⟩ := zbind hf
      refine zr_castS C0 (ci := 19) rfl (zcko e4) q1270 dJ9_equals_15 ?_
      refine zr_astore_n (i := 2) (lv' := [(2, .ref p1), (0, .ref p0), (1, .ref p1)]) C0 dJ9_equals_18 rfl (by decide) (by first | rfl | simp [zst1, zst2, zcat_rf]) ?_
      refine zr_gets C0 (C0.2.2.2.2.2.2.2.2.2.1.2.2.1 _ (List.mem_of_getElem? (i := 0) rfl)) q369 dJ9_equals_19 ?_
      refine zr_if_eq C0 (tgt := 36) dJ9_equals_22 (by decide) (fun c5 => ?_) (fun c5 => ?_)
      · have hf := zif_t c5 hf
        refine zr_sub [1, 0] rfl ?_
        exact w_J9_equals_J9_b36 C0 hf
      · have hf := zif_f c5 hf
        refine zr_aload_n C0 dJ9_equals_25 rfl 1 rfl ?_
        obtain ⟨x6, e7, hf⟩ := zbind hf
        refine zr_get C0 fl_J9_15_J9 dJ9_equals_26 (zgI e7) ?_
        refine zr_aload_n C0 dJ9_equals_29 rfl 0 rfl ?_
        obtain ⟨x8, e9, hf⟩ := zbind hf
        refine zr_get C0 fl_J9_15_J9 dJ9_equals_30 (zgI e9) ?_
        refine zr_icmp_ne C0 (tgt := 54) dJ9_equals_33 (by decide) (fun c10 => ?_) (fun c10 => ?_)
        · have hf := zif_f c10 hf
          refine zr_sub [] rfl ?_
          exact w_J9_equals_J9_b54 C0 hf
        · have hf := zif_t c10 hf
          refine zr_sub [1, 0] rfl ?_
          exact w_J9_equals_J9_b36 C0 hf
  · have hf := zif_t c1 hf
    refine zr_iconst C0 (v := 1) dJ9_equals_5 (by decide) ?_
    refine zretW hf ?_
    exact zr_iret C0 (ty := .boolean) rfl (by decide) dJ9_equals_6 rfl
def f_J9_equals_J9 (E : zE) (p0 : Nat) (p1 : Nat) (h : zH) : Option (Int32 × zH) := f_J9_equals_J9_b0 E p0 p1 h
theorem m_J9_equals_J9 {l : Launch} (hst : l.stackTraces = false) {D : zD} {B0 : Nat} {E : zE} {p0 : Nat} {p1 : Nat} {h h' : zH} {r : Int32} (hf : f_J9_equals_J9 E p0 p1 h = some (r, h')) : zMet l yJ9_equals (ws_ yJ9_equals cJ9_equals 3 (Option.some Jvm.ClassFile.FieldType.boolean)) 2 82 D B0 E [.ref p0, .ref p1] h (zoI r) h' := by
  unfold f_J9_equals_J9 at hf
  refine zMet_of hst (by decide +kernel) rfl rfl (Nat.le_of_ble_eq_true rfl) (fun p e R s m below meth c C0 hno => ?_)
  show zW _ _ _ _ _ _ _ _ _ _ _ _ _ _ _ _ [(0, .ref p0), (1, .ref p1)] []
  exact w_J9_equals_J9_b0 C0 hf
def f_X7_kindHere_b286 (E : zE) (s0 : Int32) (h : zH) : Option ((Int32 ⊕ (Nat × Nat)) × zH) :=
  some (.inl s0, h)
theorem w_X7_kindHere_b286 (C0 : zCx p l e R s m args below meth c D B0 3 "FranchiseLedger$Reader" cX7_kindHere E 10 152 (Option.some Jvm.ClassFile.FieldType.int) "kindHere") (hno : ∀ x ∈ c.exceptionTable.toList, False) {r : (Int32 ⊕ (Nat × Nat))} {h' : zH} {s0 : Int32} {h : zH} (hf : f_X7_kindHere_b286 E s0 h = some (r, h')) : zW p l e R s m args below meth c D B0 3 (zEnd D B0 R below args s (zoT zoI r) h') h 286 [] [.int s0] := by
  unfold f_X7_kindHere_b286 at hf
  refine zretW hf ?_
  exact zr_iret C0 (ty := .int) rfl rfl dX7_kindHere_286 rfl
def f_X7_kindHere_b199 (E : zE) (p0 : Nat) (p2 : Int32) (h : zH) : Option ((Int32 ⊕ (Nat × Nat)) × zH) :=
  if p2 = 0 then (
    f_X7_kindHere_b286 E (0 : Int32) h
  ) else (
  if p2 = 1 then (
    f_X7_kindHere_b286 E (1 : Int32) h
  ) else (
  if p2 = 2 then (
    f_X7_kindHere_b286 E (2 : Int32) h
  ) else (
  if p2 = 3 then (
    f_X7_kindHere_b286 E (3 : Int32) h
  ) else (
  if p2 = 4 then (
    f_X7_kindHere_b286 E (4 : Int32) h
  ) else (
  if p2 = 5 then (
    f_X7_kindHere_b286 E (5 : Int32) h
  ) else (
  if p2 = 6 then (
    f_X7_kindHere_b286 E (6 : Int32) h
  ) else (
    bnd2 (nO h 7 8 [.null, .null, .null, .null, .null, .int 0, .int 0, .int 0]) fun q8 h9 =>
    (gI h9 p0 6 4).bind fun x11 =>
    bnd2 (f_X8_init E q8 (1 : Int32) x11 h9) fun x15 h13 =>
    (ckt h13 q8 7).bind fun _ =>
    some (.inr (7, q8), h13)
  )))))))
theorem w_X7_kindHere_b199 (C0 : zCx p l e R s m args below meth c D B0 3 "FranchiseLedger$Reader" cX7_kindHere E 10 152 (Option.some Jvm.ClassFile.FieldType.int) "kindHere") (hno : ∀ x ∈ c.exceptionTable.toList, False) {r : (Int32 ⊕ (Nat × Nat))} {h' : zH} {p0 : Nat} {p2 : Int32} {h : zH} (hf : f_X7_kindHere_b199 E p0 p2 h = some (r, h')) : zW p l e R s m args below meth c D B0 3 (zEnd D B0 R below args s (zoT zoI r) h') h 199 [(0, .ref p0), (2, .int p2)] [] := by
  unfold f_X7_kindHere_b199 at hf
  refine zr_iload_n C0 dX7_kindHere_199 rfl 1 rfl ?_
  rcases Decidable.em (p2 = 0) with c1 | c1
  · have hf := zif_t c1 hf
    refine zr_tableIn C0 (v := 0) (tgt := 244) dX7_kindHere_200 c1 (by decide) (by decide) rfl (by decide) ?_
    refine zr_iconst C0 (v := 0) dX7_kindHere_244 (by decide) ?_
    refine zr_goto C0 (tgt := 286) dX7_kindHere_245 (by decide) ?_
    refine zr_sub [] rfl ?_
    exact w_X7_kindHere_b286 C0 hno hf
  have hf := zif_f c1 hf
  rcases Decidable.em (p2 = 1) with c2 | c2
  · have hf := zif_t c2 hf
    refine zr_tableIn C0 (v := 1) (tgt := 248) dX7_kindHere_200 c2 (by decide) (by decide) rfl (by decide) ?_
    refine zr_iconst C0 (v := 1) dX7_kindHere_248 (by decide) ?_
    refine zr_goto C0 (tgt := 286) dX7_kindHere_249 (by decide) ?_
    refine zr_sub [] rfl ?_
    exact w_X7_kindHere_b286 C0 hno hf
  have hf := zif_f c2 hf
  rcases Decidable.em (p2 = 2) with c3 | c3
  · have hf := zif_t c3 hf
    refine zr_tableIn C0 (v := 2) (tgt := 252) dX7_kindHere_200 c3 (by decide) (by decide) rfl (by decide) ?_
    refine zr_iconst C0 (v := 2) dX7_kindHere_252 (by decide) ?_
    refine zr_goto C0 (tgt := 286) dX7_kindHere_253 (by decide) ?_
    refine zr_sub [] rfl ?_
    exact w_X7_kindHere_b286 C0 hno hf
  have hf := zif_f c3 hf
  rcases Decidable.em (p2 = 3) with c4 | c4
  · have hf := zif_t c4 hf
    refine zr_tableIn C0 (v := 3) (tgt := 256) dX7_kindHere_200 c4 (by decide) (by decide) rfl (by decide) ?_
    refine zr_iconst C0 (v := 3) dX7_kindHere_256 (by decide) ?_
    refine zr_goto C0 (tgt := 286) dX7_kindHere_257 (by decide) ?_
    refine zr_sub [] rfl ?_
    exact w_X7_kindHere_b286 C0 hno hf
  have hf := zif_f c4 hf
  rcases Decidable.em (p2 = 4) with c5 | c5
  · have hf := zif_t c5 hf
    refine zr_tableIn C0 (v := 4) (tgt := 260) dX7_kindHere_200 c5 (by decide) (by decide) rfl (by decide) ?_
    refine zr_iconst C0 (v := 4) dX7_kindHere_260 (by decide) ?_
    refine zr_goto C0 (tgt := 286) dX7_kindHere_261 (by decide) ?_
    refine zr_sub [] rfl ?_
    exact w_X7_kindHere_b286 C0 hno hf
  have hf := zif_f c5 hf
  rcases Decidable.em (p2 = 5) with c6 | c6
  · have hf := zif_t c6 hf
    refine zr_tableIn C0 (v := 5) (tgt := 264) dX7_kindHere_200 c6 (by decide) (by decide) rfl (by decide) ?_
    refine zr_iconst C0 (v := 5) dX7_kindHere_264 (by decide) ?_
    refine zr_goto C0 (tgt := 286) dX7_kindHere_265 (by decide) ?_
    refine zr_sub [] rfl ?_
    exact w_X7_kindHere_b286 C0 hno hf
  have hf := zif_f c6 hf
  rcases Decidable.em (p2 = 6) with c7 | c7
  · have hf := zif_t c7 hf
    refine zr_tableIn C0 (v := 6) (tgt := 268) dX7_kindHere_200 c7 (by decide) (by decide) rfl (by decide) ?_
    refine zr_bipush C0 (v := 6) dX7_kindHere_268 (by decide) ?_
    refine zr_goto C0 (tgt := 286) dX7_kindHere_270 (by decide) ?_
    refine zr_sub [] rfl ?_
    exact w_X7_kindHere_b286 C0 hno hf
  have hf := zif_f c7 hf
  refine zr_tableOut C0 (tgt := 273) dX7_kindHere_200 ?_ (by decide) ?_
  · have n0 := lv_neT (a := 0) c1 rfl; have n1 := lv_neT (a := 1) c2 rfl; have n2 := lv_neT (a := 2) c3 rfl; have n3 := lv_neT (a := 3) c4 rfl; have n4 := lv_neT (a := 4) c5 rfl; have n5 := lv_neT (a := 5) c6 rfl; have n6 := lv_neT (a := 6) c7 rfl; omega
  obtain ⟨q8, h9, e10, hf⟩ := zbind2 hf
  refine zr_newc C0 (C := RX8) (T := TX8) (N := 8) rfl in_X8 tyX8_ok q1417 q1418 q158 nw_X8 dX7_kindHere_273 e10 ?_
  refine zr_dup C0 dX7_kindHere_276 rfl ?_
  refine zr_iconst C0 (v := 1) dX7_kindHere_277 (by decide) ?_
  refine zr_aload_n C0 dX7_kindHere_278 rfl 0 rfl ?_
  obtain ⟨x11, e12, hf⟩ := zbind hf
  refine zr_get C0 fl_X7_76_X7 dX7_kindHere_279 (zgI e12) ?_
  obtain ⟨x15, h13, e14, hf⟩ := zbind2 hf
  refine zr_callI_r C0 cv_X7_113 (m_X8_init C0.2.2.2.2.2.2.1 e14) (by decide) (by decide) rfl rfl (Nat.le_of_ble_eq_true rfl) dX7_kindHere_282 rfl ?_
  obtain ⟨_, e16, hf⟩ := zbind hf
  refine zretW hf ?_
  exact zr_athrow C0 dX7_kindHere_285 (zckt e16) (zr_out C0 hno rfl)
def f_X7_kindHere_b14 (E : zE) (p0 : Nat) (s0 : Nat) (s1 : Int32) (h : zH) : Option ((Int32 ⊕ (Nat × Nat)) × zH) :=
  (cko h s0 6).bind fun _ =>
  bnd2 (f_X7_require E s0 s1 (1 : Int32) h) fun x4 h2 =>
  Sum.elim (fun x5 => (
    (gR h2 p0 6 7).bind fun x7 =>
    (cko h2 x7 19).bind fun _ =>
    bnd2 (f_J9_hashCode E x7 h2) fun x12 h10 =>
    if x12 = -139919088 then (
      (cko h10 x7 19).bind fun _ =>
      bnd2 (f_J9_equals_J9 E x7 (E.2.1 12) h10) fun x17 h15 =>
      if x17 = 0 then (
        f_X7_kindHere_b199 E p0 (-1 : Int32) h15
      ) else (
        f_X7_kindHere_b199 E p0 (4 : Int32) h15
      )
    ) else (
    if x12 = 110760 then (
      (cko h10 x7 19).bind fun _ =>
      bnd2 (f_J9_equals_J9 E x7 (E.2.1 10) h10) fun x23 h21 =>
      if x23 = 0 then (
        f_X7_kindHere_b199 E p0 (-1 : Int32) h21
      ) else (
        f_X7_kindHere_b199 E p0 (2 : Int32) h21
      )
    ) else (
    if x12 = 3625706 then (
      (cko h10 x7 19).bind fun _ =>
      bnd2 (f_J9_equals_J9 E x7 (E.2.1 13) h10) fun x29 h27 =>
      if x29 = 0 then (
        f_X7_kindHere_b199 E p0 (-1 : Int32) h27
      ) else (
        f_X7_kindHere_b199 E p0 (5 : Int32) h27
      )
    ) else (
    if x12 = 94756344 then (
      (cko h10 x7 19).bind fun _ =>
      bnd2 (f_J9_equals_J9 E x7 (E.2.1 14) h10) fun x35 h33 =>
      if x35 = 0 then (
        f_X7_kindHere_b199 E p0 (-1 : Int32) h33
      ) else (
        f_X7_kindHere_b199 E p0 (6 : Int32) h33
      )
    ) else (
    if x12 = 98615580 then (
      (cko h10 x7 19).bind fun _ =>
      bnd2 (f_J9_equals_J9 E x7 (E.2.1 11) h10) fun x41 h39 =>
      if x41 = 0 then (
        f_X7_kindHere_b199 E p0 (-1 : Int32) h39
      ) else (
        f_X7_kindHere_b199 E p0 (3 : Int32) h39
      )
    ) else (
    if x12 = 109201676 then (
      (cko h10 x7 19).bind fun _ =>
      bnd2 (f_J9_equals_J9 E x7 (E.2.1 8) h10) fun x47 h45 =>
      if x47 = 0 then (
        f_X7_kindHere_b199 E p0 (-1 : Int32) h45
      ) else (
        f_X7_kindHere_b199 E p0 (0 : Int32) h45
      )
    ) else (
    if x12 = 1550584101 then (
      (cko h10 x7 19).bind fun _ =>
      bnd2 (f_J9_equals_J9 E x7 (E.2.1 9) h10) fun x53 h51 =>
      if x53 = 0 then (
        f_X7_kindHere_b199 E p0 (-1 : Int32) h51
      ) else (
        f_X7_kindHere_b199 E p0 (1 : Int32) h51
      )
    ) else (
      f_X7_kindHere_b199 E p0 (-1 : Int32) h10
    )))))))
  )) (fun q6 => (
    some (.inr q6, h2)
  )) x4
theorem w_X7_kindHere_b14 (C0 : zCx p l e R s m args below meth c D B0 3 "FranchiseLedger$Reader" cX7_kindHere E 10 152 (Option.some Jvm.ClassFile.FieldType.int) "kindHere") (hno : ∀ x ∈ c.exceptionTable.toList, False) {r : (Int32 ⊕ (Nat × Nat))} {h' : zH} {p0 : Nat} {s0 : Nat} {s1 : Int32} {h : zH} (hf : f_X7_kindHere_b14 E p0 s0 s1 h = some (r, h')) : zW p l e R s m args below meth c D B0 3 (zEnd D B0 R below args s (zoT zoI r) h') h 14 [(0, .ref p0)] [.int s1, .ref s0] := by
  unfold f_X7_kindHere_b14 at hf
  refine zr_iconst C0 (v := 1) dX7_kindHere_14 (by decide) ?_
  obtain ⟨_, e1, hf⟩ := zbind hf
  obtain ⟨x4, h2, e3, hf⟩ := zbind2 hf
  rcases x4 with x5 | q6
  · have hf := zinl hf
    refine zr_callV_r C0 cv_X7_116_X7 rfl (zcko e1) (m_X7_require C0.2.2.2.2.2.2.1 e3) (by decide) (by decide) rfl rfl (Nat.le_of_ble_eq_true rfl) dX7_kindHere_15 rfl ?_
    refine zr_aload_n C0 dX7_kindHere_18 rfl 0 rfl ?_
    obtain ⟨x7, e8, hf⟩ := zbind hf
    refine zr_get C0 fl_X7_33_X7 dX7_kindHere_19 (zgR e8) ?_
    refine zr_astore_n (i := 1) (lv' := [(1, .ref x7), (0, .ref p0)]) C0 dX7_kindHere_22 rfl (by decide) (by first | rfl | simp [zst1, zst2, zcat_rf]) ?_
    refine zr_iconst C0 (v := -1) dX7_kindHere_23 (by decide) ?_
    refine zr_istore_n (i := 2) (lv' := [(2, .int (-1 : Int32)), (1, .ref x7), (0, .ref p0)]) C0 dX7_kindHere_24 rfl (by decide) (by first | rfl | simp [zst1, zst2, zcat_rf]) ?_
    refine zr_aload_n C0 dX7_kindHere_25 rfl 1 rfl ?_
    obtain ⟨_, e9, hf⟩ := zbind hf
    obtain ⟨x12, h10, e11, hf⟩ := zbind2 hf
    refine zr_callV_r C0 cv_X7_124_J9 rfl (zcko e9) (m_J9_hashCode C0.2.2.2.2.2.2.1 e11) (by decide) (by decide) rfl rfl (Nat.le_of_ble_eq_true rfl) dX7_kindHere_26 rfl ?_
    rcases Decidable.em (x12 = -139919088) with c13 | c13
    · have hf := zif_t c13 hf
      refine zr_lookup C0 (tgt := 156) (off := 127) dX7_kindHere_29 (by decide) (by rw [c13]; decide) (by decide) ?_
      refine zr_aload_n C0 dX7_kindHere_156 rfl 1 rfl ?_
      refine zr_ldcwS C0 (i := 12) rfl dX7_kindHere_157 ?_
      obtain ⟨_, e14, hf⟩ := zbind hf
      obtain ⟨x17, h15, e16, hf⟩ := zbind2 hf
      refine zr_callV_r C0 cv_X7_131_J9 rfl (zcko e14) (m_J9_equals_J9 C0.2.2.2.2.2.2.1 e16) (by decide) (by decide) rfl rfl (Nat.le_of_ble_eq_true rfl) dX7_kindHere_160 rfl ?_
      refine zr_if_eq C0 (tgt := 199) dX7_kindHere_163 (by decide) (fun c18 => ?_) (fun c18 => ?_)
      · have hf := zif_t c18 hf
        refine zr_sub [2, 0] rfl ?_
        exact w_X7_kindHere_b199 C0 hno hf
      · have hf := zif_f c18 hf
        refine zr_iconst C0 (v := 4) dX7_kindHere_166 (by decide) ?_
        refine zr_istore_n (i := 2) (lv' := [(2, .int (4 : Int32)), (1, .ref x7), (0, .ref p0)]) C0 dX7_kindHere_167 rfl (by decide) (by first | rfl | simp [zst1, zst2, zcat_rf]) ?_
        refine zr_goto C0 (tgt := 199) dX7_kindHere_168 (by decide) ?_
        refine zr_sub [2, 0] rfl ?_
        exact w_X7_kindHere_b199 C0 hno hf
    have hf := zif_f c13 hf
    rcases Decidable.em (x12 = 110760) with c19 | c19
    · have hf := zif_t c19 hf
      refine zr_lookup C0 (tgt := 126) (off := 97) dX7_kindHere_29 (by decide) (by rw [c19]; decide) (by decide) ?_
      refine zr_aload_n C0 dX7_kindHere_126 rfl 1 rfl ?_
      refine zr_ldcwS C0 (i := 10) rfl dX7_kindHere_127 ?_
      obtain ⟨_, e20, hf⟩ := zbind hf
      obtain ⟨x23, h21, e22, hf⟩ := zbind2 hf
      refine zr_callV_r C0 cv_X7_131_J9 rfl (zcko e20) (m_J9_equals_J9 C0.2.2.2.2.2.2.1 e22) (by decide) (by decide) rfl rfl (Nat.le_of_ble_eq_true rfl) dX7_kindHere_130 rfl ?_
      refine zr_if_eq C0 (tgt := 199) dX7_kindHere_133 (by decide) (fun c24 => ?_) (fun c24 => ?_)
      · have hf := zif_t c24 hf
        refine zr_sub [2, 0] rfl ?_
        exact w_X7_kindHere_b199 C0 hno hf
      · have hf := zif_f c24 hf
        refine zr_iconst C0 (v := 2) dX7_kindHere_136 (by decide) ?_
        refine zr_istore_n (i := 2) (lv' := [(2, .int (2 : Int32)), (1, .ref x7), (0, .ref p0)]) C0 dX7_kindHere_137 rfl (by decide) (by first | rfl | simp [zst1, zst2, zcat_rf]) ?_
        refine zr_goto C0 (tgt := 199) dX7_kindHere_138 (by decide) ?_
        refine zr_sub [2, 0] rfl ?_
        exact w_X7_kindHere_b199 C0 hno hf
    have hf := zif_f c19 hf
    rcases Decidable.em (x12 = 3625706) with c25 | c25
    · have hf := zif_t c25 hf
      refine zr_lookup C0 (tgt := 171) (off := 142) dX7_kindHere_29 (by decide) (by rw [c25]; decide) (by decide) ?_
      refine zr_aload_n C0 dX7_kindHere_171 rfl 1 rfl ?_
      refine zr_ldcwS C0 (i := 13) rfl dX7_kindHere_172 ?_
      obtain ⟨_, e26, hf⟩ := zbind hf
      obtain ⟨x29, h27, e28, hf⟩ := zbind2 hf
      refine zr_callV_r C0 cv_X7_131_J9 rfl (zcko e26) (m_J9_equals_J9 C0.2.2.2.2.2.2.1 e28) (by decide) (by decide) rfl rfl (Nat.le_of_ble_eq_true rfl) dX7_kindHere_175 rfl ?_
      refine zr_if_eq C0 (tgt := 199) dX7_kindHere_178 (by decide) (fun c30 => ?_) (fun c30 => ?_)
      · have hf := zif_t c30 hf
        refine zr_sub [2, 0] rfl ?_
        exact w_X7_kindHere_b199 C0 hno hf
      · have hf := zif_f c30 hf
        refine zr_iconst C0 (v := 5) dX7_kindHere_181 (by decide) ?_
        refine zr_istore_n (i := 2) (lv' := [(2, .int (5 : Int32)), (1, .ref x7), (0, .ref p0)]) C0 dX7_kindHere_182 rfl (by decide) (by first | rfl | simp [zst1, zst2, zcat_rf]) ?_
        refine zr_goto C0 (tgt := 199) dX7_kindHere_183 (by decide) ?_
        refine zr_sub [2, 0] rfl ?_
        exact w_X7_kindHere_b199 C0 hno hf
    have hf := zif_f c25 hf
    rcases Decidable.em (x12 = 94756344) with c31 | c31
    · have hf := zif_t c31 hf
      refine zr_lookup C0 (tgt := 186) (off := 157) dX7_kindHere_29 (by decide) (by rw [c31]; decide) (by decide) ?_
      refine zr_aload_n C0 dX7_kindHere_186 rfl 1 rfl ?_
      refine zr_ldcwS C0 (i := 14) rfl dX7_kindHere_187 ?_
      obtain ⟨_, e32, hf⟩ := zbind hf
      obtain ⟨x35, h33, e34, hf⟩ := zbind2 hf
      refine zr_callV_r C0 cv_X7_131_J9 rfl (zcko e32) (m_J9_equals_J9 C0.2.2.2.2.2.2.1 e34) (by decide) (by decide) rfl rfl (Nat.le_of_ble_eq_true rfl) dX7_kindHere_190 rfl ?_
      refine zr_if_eq C0 (tgt := 199) dX7_kindHere_193 (by decide) (fun c36 => ?_) (fun c36 => ?_)
      · have hf := zif_t c36 hf
        refine zr_sub [2, 0] rfl ?_
        exact w_X7_kindHere_b199 C0 hno hf
      · have hf := zif_f c36 hf
        refine zr_bipush C0 (v := 6) dX7_kindHere_196 (by decide) ?_
        refine zr_istore_n (i := 2) (lv' := [(2, .int (6 : Int32)), (1, .ref x7), (0, .ref p0)]) C0 dX7_kindHere_198 rfl (by decide) (by first | rfl | simp [zst1, zst2, zcat_rf]) ?_
        refine zr_sub [2, 0] rfl ?_
        exact w_X7_kindHere_b199 C0 hno hf
    have hf := zif_f c31 hf
    rcases Decidable.em (x12 = 98615580) with c37 | c37
    · have hf := zif_t c37 hf
      refine zr_lookup C0 (tgt := 141) (off := 112) dX7_kindHere_29 (by decide) (by rw [c37]; decide) (by decide) ?_
      refine zr_aload_n C0 dX7_kindHere_141 rfl 1 rfl ?_
      refine zr_ldcwS C0 (i := 11) rfl dX7_kindHere_142 ?_
      obtain ⟨_, e38, hf⟩ := zbind hf
      obtain ⟨x41, h39, e40, hf⟩ := zbind2 hf
      refine zr_callV_r C0 cv_X7_131_J9 rfl (zcko e38) (m_J9_equals_J9 C0.2.2.2.2.2.2.1 e40) (by decide) (by decide) rfl rfl (Nat.le_of_ble_eq_true rfl) dX7_kindHere_145 rfl ?_
      refine zr_if_eq C0 (tgt := 199) dX7_kindHere_148 (by decide) (fun c42 => ?_) (fun c42 => ?_)
      · have hf := zif_t c42 hf
        refine zr_sub [2, 0] rfl ?_
        exact w_X7_kindHere_b199 C0 hno hf
      · have hf := zif_f c42 hf
        refine zr_iconst C0 (v := 3) dX7_kindHere_151 (by decide) ?_
        refine zr_istore_n (i := 2) (lv' := [(2, .int (3 : Int32)), (1, .ref x7), (0, .ref p0)]) C0 dX7_kindHere_152 rfl (by decide) (by first | rfl | simp [zst1, zst2, zcat_rf]) ?_
        refine zr_goto C0 (tgt := 199) dX7_kindHere_153 (by decide) ?_
        refine zr_sub [2, 0] rfl ?_
        exact w_X7_kindHere_b199 C0 hno hf
    have hf := zif_f c37 hf
    rcases Decidable.em (x12 = 109201676) with c43 | c43
    · have hf := zif_t c43 hf
      refine zr_lookup C0 (tgt := 96) (off := 67) dX7_kindHere_29 (by decide) (by rw [c43]; decide) (by decide) ?_
      refine zr_aload_n C0 dX7_kindHere_96 rfl 1 rfl ?_
      refine zr_ldcwS C0 (i := 8) rfl dX7_kindHere_97 ?_
      obtain ⟨_, e44, hf⟩ := zbind hf
      obtain ⟨x47, h45, e46, hf⟩ := zbind2 hf
      refine zr_callV_r C0 cv_X7_131_J9 rfl (zcko e44) (m_J9_equals_J9 C0.2.2.2.2.2.2.1 e46) (by decide) (by decide) rfl rfl (Nat.le_of_ble_eq_true rfl) dX7_kindHere_100 rfl ?_
      refine zr_if_eq C0 (tgt := 199) dX7_kindHere_103 (by decide) (fun c48 => ?_) (fun c48 => ?_)
      · have hf := zif_t c48 hf
        refine zr_sub [2, 0] rfl ?_
        exact w_X7_kindHere_b199 C0 hno hf
      · have hf := zif_f c48 hf
        refine zr_iconst C0 (v := 0) dX7_kindHere_106 (by decide) ?_
        refine zr_istore_n (i := 2) (lv' := [(2, .int (0 : Int32)), (1, .ref x7), (0, .ref p0)]) C0 dX7_kindHere_107 rfl (by decide) (by first | rfl | simp [zst1, zst2, zcat_rf]) ?_
        refine zr_goto C0 (tgt := 199) dX7_kindHere_108 (by decide) ?_
        refine zr_sub [2, 0] rfl ?_
        exact w_X7_kindHere_b199 C0 hno hf
    have hf := zif_f c43 hf
    rcases Decidable.em (x12 = 1550584101) with c49 | c49
    · have hf := zif_t c49 hf
      refine zr_lookup C0 (tgt := 111) (off := 82) dX7_kindHere_29 (by decide) (by rw [c49]; decide) (by decide) ?_
      refine zr_aload_n C0 dX7_kindHere_111 rfl 1 rfl ?_
      refine zr_ldcwS C0 (i := 9) rfl dX7_kindHere_112 ?_
      obtain ⟨_, e50, hf⟩ := zbind hf
      obtain ⟨x53, h51, e52, hf⟩ := zbind2 hf
      refine zr_callV_r C0 cv_X7_131_J9 rfl (zcko e50) (m_J9_equals_J9 C0.2.2.2.2.2.2.1 e52) (by decide) (by decide) rfl rfl (Nat.le_of_ble_eq_true rfl) dX7_kindHere_115 rfl ?_
      refine zr_if_eq C0 (tgt := 199) dX7_kindHere_118 (by decide) (fun c54 => ?_) (fun c54 => ?_)
      · have hf := zif_t c54 hf
        refine zr_sub [2, 0] rfl ?_
        exact w_X7_kindHere_b199 C0 hno hf
      · have hf := zif_f c54 hf
        refine zr_iconst C0 (v := 1) dX7_kindHere_121 (by decide) ?_
        refine zr_istore_n (i := 2) (lv' := [(2, .int (1 : Int32)), (1, .ref x7), (0, .ref p0)]) C0 dX7_kindHere_122 rfl (by decide) (by first | rfl | simp [zst1, zst2, zcat_rf]) ?_
        refine zr_goto C0 (tgt := 199) dX7_kindHere_123 (by decide) ?_
        refine zr_sub [2, 0] rfl ?_
        exact w_X7_kindHere_b199 C0 hno hf
    have hf := zif_f c49 hf
    refine zr_lookup C0 (tgt := 199) (off := 170) dX7_kindHere_29 (by decide) (by show Op.lookupswitch.offset [(-139919088, 127), (110760, 97), (3625706, 142), (94756344, 157), (98615580, 112), (109201676, 67), (1550584101, 82)] _ _ = _; rw [lv_osw c13 (by decide), lv_osw c19 (by decide), lv_osw c25 (by decide), lv_osw c31 (by decide), lv_osw c37 (by decide), lv_osw c43 (by decide), lv_osw c49 (by decide)]; rfl) (by decide) ?_
    refine zr_sub [2, 0] rfl ?_
    exact w_X7_kindHere_b199 C0 hno hf
  · have hf := zinr hf
    refine zretW hf ?_
    exact zr_callV_t C0 cv_X7_116_X7 rfl (zcko e1) (m_X7_require C0.2.2.2.2.2.2.1 e3) (by decide) (by decide) rfl rfl (Nat.le_of_ble_eq_true rfl) dX7_kindHere_15 (zr_out C0 hno rfl)
def f_X7_kindHere_b0 (E : zE) (p0 : Nat) (h : zH) : Option ((Int32 ⊕ (Nat × Nat)) × zH) :=
  (gI h p0 6 5).bind fun x1 =>
  if x1 = (1 : Int32) then (
    f_X7_kindHere_b14 E p0 p0 (1 : Int32) h
  ) else (
    f_X7_kindHere_b14 E p0 p0 (0 : Int32) h
  )
theorem w_X7_kindHere_b0 (C0 : zCx p l e R s m args below meth c D B0 3 "FranchiseLedger$Reader" cX7_kindHere E 10 152 (Option.some Jvm.ClassFile.FieldType.int) "kindHere") (hno : ∀ x ∈ c.exceptionTable.toList, False) {r : (Int32 ⊕ (Nat × Nat))} {h' : zH} {p0 : Nat} {h : zH} (hf : f_X7_kindHere_b0 E p0 h = some (r, h')) : zW p l e R s m args below meth c D B0 3 (zEnd D B0 R below args s (zoT zoI r) h') h 0 [(0, .ref p0)] [] := by
  unfold f_X7_kindHere_b0 at hf
  refine zr_aload_n C0 dX7_kindHere_0 rfl 0 rfl ?_
  refine zr_aload_n C0 dX7_kindHere_1 rfl 0 rfl ?_
  obtain ⟨x1, e2, hf⟩ := zbind hf
  refine zr_get C0 fl_X7_79_X7 dX7_kindHere_2 (zgI e2) ?_
  refine zr_iconst C0 (v := 1) dX7_kindHere_5 (by decide) ?_
  refine zr_icmp_ne C0 (tgt := 13) dX7_kindHere_6 (by decide) (fun c3 => ?_) (fun c3 => ?_)
  · have hf := zif_f c3 hf
    refine zr_iconst C0 (v := 0) dX7_kindHere_13 (by decide) ?_
    exact w_X7_kindHere_b14 C0 hno hf
  · have hf := zif_t c3 hf
    refine zr_iconst C0 (v := 1) dX7_kindHere_9 (by decide) ?_
    refine zr_goto C0 (tgt := 14) dX7_kindHere_10 (by decide) ?_
    exact w_X7_kindHere_b14 C0 hno hf
def f_X7_kindHere (E : zE) (p0 : Nat) (h : zH) : Option ((Int32 ⊕ (Nat × Nat)) × zH) := f_X7_kindHere_b0 E p0 h
theorem m_X7_kindHere {l : Launch} (hst : l.stackTraces = false) {D : zD} {B0 : Nat} {E : zE} {p0 : Nat} {h h' : zH} {r : (Int32 ⊕ (Nat × Nat))} (hf : f_X7_kindHere E p0 h = some (r, h')) : zMet l yX7_kindHere (ws_ yX7_kindHere cX7_kindHere 3 (Option.some Jvm.ClassFile.FieldType.int)) 10 152 D B0 E [.ref p0] h (zoT zoI r) h' := by
  unfold f_X7_kindHere at hf
  refine zMet_of hst (by decide +kernel) rfl rfl (Nat.le_of_ble_eq_true rfl) (fun p e R s m below meth c C0 hno => ?_)
  show zW _ _ _ _ _ _ _ _ _ _ _ _ _ _ _ _ [(0, .ref p0)] []
  exact w_X7_kindHere_b0 C0 hno hf
def f_X7_figure_b14 (E : zE) (p0 : Nat) (p1 : Int32) (p2 : Int32) (s0 : Nat) (s1 : Int32) (h : zH) : Option ((Int32 ⊕ (Nat × Nat)) × zH) :=
  (cko h s0 6).bind fun _ =>
  bnd2 (f_X7_require E s0 s1 (1 : Int32) h) fun x4 h2 =>
  Sum.elim (fun x5 => (
    (gI h2 p0 6 6).bind fun x7 =>
    bnd2 (f_X1_inRange E (x7.toInt64) (p1.toInt64) (p2.toInt64) h2) fun x11 h9 =>
    (cko h9 p0 6).bind fun _ =>
    bnd2 (f_X7_require E p0 x11 (2 : Int32) h9) fun x15 h13 =>
    Sum.elim (fun x16 => (
      (gI h13 p0 6 6).bind fun x18 =>
      some (.inl x18, h13)
    )) (fun q17 => (
      some (.inr q17, h13)
    )) x15
  )) (fun q6 => (
    some (.inr q6, h2)
  )) x4
theorem w_X7_figure_b14 (C0 : zCx p l e R s m args below meth c D B0 3 "FranchiseLedger$Reader" cX7_figure E 10 152 (Option.some Jvm.ClassFile.FieldType.int) "figure") (hno : ∀ x ∈ c.exceptionTable.toList, False) {r : (Int32 ⊕ (Nat × Nat))} {h' : zH} {p0 : Nat} {p1 : Int32} {p2 : Int32} {s0 : Nat} {s1 : Int32} {h : zH} (hf : f_X7_figure_b14 E p0 p1 p2 s0 s1 h = some (r, h')) : zW p l e R s m args below meth c D B0 3 (zEnd D B0 R below args s (zoT zoI r) h') h 14 [(0, .ref p0), (1, .int p1), (2, .int p2)] [.int s1, .ref s0] := by
  unfold f_X7_figure_b14 at hf
  refine zr_iconst C0 (v := 1) dX7_figure_14 (by decide) ?_
  obtain ⟨_, e1, hf⟩ := zbind hf
  obtain ⟨x4, h2, e3, hf⟩ := zbind2 hf
  rcases x4 with x5 | q6
  · have hf := zinl hf
    refine zr_callV_r C0 cv_X7_116_X7 rfl (zcko e1) (m_X7_require C0.2.2.2.2.2.2.1 e3) (by decide) (by decide) rfl rfl (Nat.le_of_ble_eq_true rfl) dX7_figure_15 rfl ?_
    refine zr_aload_n C0 dX7_figure_18 rfl 0 rfl ?_
    refine zr_aload_n C0 dX7_figure_19 rfl 0 rfl ?_
    obtain ⟨x7, e8, hf⟩ := zbind hf
    refine zr_get C0 fl_X7_108_X7 dX7_figure_20 (zgI e8) ?_
    refine zr_i2l C0 dX7_figure_23 ?_
    refine zr_iload_n C0 dX7_figure_24 rfl 1 rfl ?_
    refine zr_i2l C0 dX7_figure_25 ?_
    refine zr_iload_n C0 dX7_figure_26 rfl 2 rfl ?_
    refine zr_i2l C0 dX7_figure_27 ?_
    obtain ⟨x11, h9, e10, hf⟩ := zbind2 hf
    refine zr_callSN_r C0 cv_X7_68 (m_X1_inRange C0.2.2.2.2.2.2.1 e10) (by decide) (by decide) rfl rfl (Nat.le_of_ble_eq_true rfl) dX7_figure_28 rfl ?_
    refine zr_iconst C0 (v := 2) dX7_figure_31 (by decide) ?_
    obtain ⟨_, e12, hf⟩ := zbind hf
    obtain ⟨x15, h13, e14, hf⟩ := zbind2 hf
    rcases x15 with x16 | q17
    · have hf := zinl hf
      refine zr_callV_r C0 cv_X7_116_X7 rfl (zcko e12) (m_X7_require C0.2.2.2.2.2.2.1 e14) (by decide) (by decide) rfl rfl (Nat.le_of_ble_eq_true rfl) dX7_figure_32 rfl ?_
      refine zr_aload_n C0 dX7_figure_35 rfl 0 rfl ?_
      obtain ⟨x18, e19, hf⟩ := zbind hf
      refine zr_get C0 fl_X7_108_X7 dX7_figure_36 (zgI e19) ?_
      refine zretW hf ?_
      exact zr_iret C0 (ty := .int) rfl rfl dX7_figure_39 rfl
    · have hf := zinr hf
      refine zretW hf ?_
      exact zr_callV_t C0 cv_X7_116_X7 rfl (zcko e12) (m_X7_require C0.2.2.2.2.2.2.1 e14) (by decide) (by decide) rfl rfl (Nat.le_of_ble_eq_true rfl) dX7_figure_32 (zr_out C0 hno rfl)
  · have hf := zinr hf
    refine zretW hf ?_
    exact zr_callV_t C0 cv_X7_116_X7 rfl (zcko e1) (m_X7_require C0.2.2.2.2.2.2.1 e3) (by decide) (by decide) rfl rfl (Nat.le_of_ble_eq_true rfl) dX7_figure_15 (zr_out C0 hno rfl)
def f_X7_figure_b0 (E : zE) (p0 : Nat) (p1 : Int32) (p2 : Int32) (h : zH) : Option ((Int32 ⊕ (Nat × Nat)) × zH) :=
  (gI h p0 6 5).bind fun x1 =>
  if x1 = (2 : Int32) then (
    f_X7_figure_b14 E p0 p1 p2 p0 (1 : Int32) h
  ) else (
    f_X7_figure_b14 E p0 p1 p2 p0 (0 : Int32) h
  )
theorem w_X7_figure_b0 (C0 : zCx p l e R s m args below meth c D B0 3 "FranchiseLedger$Reader" cX7_figure E 10 152 (Option.some Jvm.ClassFile.FieldType.int) "figure") (hno : ∀ x ∈ c.exceptionTable.toList, False) {r : (Int32 ⊕ (Nat × Nat))} {h' : zH} {p0 : Nat} {p1 : Int32} {p2 : Int32} {h : zH} (hf : f_X7_figure_b0 E p0 p1 p2 h = some (r, h')) : zW p l e R s m args below meth c D B0 3 (zEnd D B0 R below args s (zoT zoI r) h') h 0 [(0, .ref p0), (1, .int p1), (2, .int p2)] [] := by
  unfold f_X7_figure_b0 at hf
  refine zr_aload_n C0 dX7_figure_0 rfl 0 rfl ?_
  refine zr_aload_n C0 dX7_figure_1 rfl 0 rfl ?_
  obtain ⟨x1, e2, hf⟩ := zbind hf
  refine zr_get C0 fl_X7_79_X7 dX7_figure_2 (zgI e2) ?_
  refine zr_iconst C0 (v := 2) dX7_figure_5 (by decide) ?_
  refine zr_icmp_ne C0 (tgt := 13) dX7_figure_6 (by decide) (fun c3 => ?_) (fun c3 => ?_)
  · have hf := zif_f c3 hf
    refine zr_iconst C0 (v := 0) dX7_figure_13 (by decide) ?_
    exact w_X7_figure_b14 C0 hno hf
  · have hf := zif_t c3 hf
    refine zr_iconst C0 (v := 1) dX7_figure_9 (by decide) ?_
    refine zr_goto C0 (tgt := 14) dX7_figure_10 (by decide) ?_
    exact w_X7_figure_b14 C0 hno hf
def f_X7_figure (E : zE) (p0 : Nat) (p1 : Int32) (p2 : Int32) (h : zH) : Option ((Int32 ⊕ (Nat × Nat)) × zH) := f_X7_figure_b0 E p0 p1 p2 h
theorem m_X7_figure {l : Launch} (hst : l.stackTraces = false) {D : zD} {B0 : Nat} {E : zE} {p0 : Nat} {p1 : Int32} {p2 : Int32} {h h' : zH} {r : (Int32 ⊕ (Nat × Nat))} (hf : f_X7_figure E p0 p1 p2 h = some (r, h')) : zMet l yX7_figure (ws_ yX7_figure cX7_figure 3 (Option.some Jvm.ClassFile.FieldType.int)) 10 152 D B0 E [.ref p0, .int p1, .int p2] h (zoT zoI r) h' := by
  unfold f_X7_figure at hf
  refine zMet_of hst (by decide +kernel) rfl rfl (Nat.le_of_ble_eq_true rfl) (fun p e R s m below meth c C0 hno => ?_)
  show zW _ _ _ _ _ _ _ _ _ _ _ _ _ _ _ _ [(0, .ref p0), (1, .int p1), (2, .int p2)] []
  exact w_X7_figure_b0 C0 hno hf
def f_X7_number_b0 (E : zE) (p0 : Nat) (p1 : Int32) (p2 : Int32) (h : zH) : Option ((Int32 ⊕ (Nat × Nat)) × zH) :=
  (cko h p0 6).bind fun _ =>
  bnd2 (f_X7_figure E p0 p1 p2 h) fun x4 h2 =>
  Sum.elim (fun x5 => (
    (cko h2 p0 6).bind fun _ =>
    bnd2 (f_X7_scan E p0 h2) fun x10 h8 =>
    some (.inl x5, h8)
  )) (fun q6 => (
    some (.inr q6, h2)
  )) x4
theorem w_X7_number_b0 (C0 : zCx p l e R s m args below meth c D B0 4 "FranchiseLedger$Reader" cX7_number E 11 284 (Option.some Jvm.ClassFile.FieldType.int) "number") (hno : ∀ x ∈ c.exceptionTable.toList, False) {r : (Int32 ⊕ (Nat × Nat))} {h' : zH} {p0 : Nat} {p1 : Int32} {p2 : Int32} {h : zH} (hf : f_X7_number_b0 E p0 p1 p2 h = some (r, h')) : zW p l e R s m args below meth c D B0 4 (zEnd D B0 R below args s (zoT zoI r) h') h 0 [(0, .ref p0), (1, .int p1), (2, .int p2)] [] := by
  unfold f_X7_number_b0 at hf
  refine zr_aload_n C0 dX7_number_0 rfl 0 rfl ?_
  refine zr_iload_n C0 dX7_number_1 rfl 1 rfl ?_
  refine zr_iload_n C0 dX7_number_2 rfl 2 rfl ?_
  obtain ⟨_, e1, hf⟩ := zbind hf
  obtain ⟨x4, h2, e3, hf⟩ := zbind2 hf
  rcases x4 with x5 | q6
  · have hf := zinl hf
    refine zr_callV_r C0 cv_X7_120_X7 rfl (zcko e1) (m_X7_figure C0.2.2.2.2.2.2.1 e3) (by decide) (by decide) rfl rfl (Nat.le_of_ble_eq_true rfl) dX7_number_3 rfl ?_
    refine zr_istore_n (i := 3) (lv' := [(3, .int x5), (0, .ref p0), (1, .int p1), (2, .int p2)]) C0 dX7_number_6 rfl (by decide) (by first | rfl | simp [zst1, zst2, zcat_rf]) ?_
    refine zr_aload_n C0 dX7_number_7 rfl 1 rfl ?_
    obtain ⟨_, e7, hf⟩ := zbind hf
    obtain ⟨x10, h8, e9, hf⟩ := zbind2 hf
    refine zr_callV_r C0 cv_X7_50_X7 rfl (zcko e7) (m_X7_scan C0.2.2.2.2.2.2.1 e9) (by decide) (by decide) rfl rfl (Nat.le_of_ble_eq_true rfl) dX7_number_8 rfl ?_
    refine zr_iload_n C0 dX7_number_11 rfl 0 rfl ?_
    refine zretW hf ?_
    exact zr_iret C0 (ty := .int) rfl rfl dX7_number_12 rfl
  · have hf := zinr hf
    refine zretW hf ?_
    exact zr_callV_t C0 cv_X7_120_X7 rfl (zcko e1) (m_X7_figure C0.2.2.2.2.2.2.1 e3) (by decide) (by decide) rfl rfl (Nat.le_of_ble_eq_true rfl) dX7_number_3 (zr_out C0 hno rfl)
def f_X7_number (E : zE) (p0 : Nat) (p1 : Int32) (p2 : Int32) (h : zH) : Option ((Int32 ⊕ (Nat × Nat)) × zH) := f_X7_number_b0 E p0 p1 p2 h
theorem m_X7_number {l : Launch} (hst : l.stackTraces = false) {D : zD} {B0 : Nat} {E : zE} {p0 : Nat} {p1 : Int32} {p2 : Int32} {h h' : zH} {r : (Int32 ⊕ (Nat × Nat))} (hf : f_X7_number E p0 p1 p2 h = some (r, h')) : zMet l yX7_number (ws_ yX7_number cX7_number 4 (Option.some Jvm.ClassFile.FieldType.int)) 11 284 D B0 E [.ref p0, .int p1, .int p2] h (zoT zoI r) h' := by
  unfold f_X7_number at hf
  refine zMet_of hst (by decide +kernel) rfl rfl (Nat.le_of_ble_eq_true rfl) (fun p e R s m below meth c C0 hno => ?_)
  show zW _ _ _ _ _ _ _ _ _ _ _ _ _ _ _ _ [(0, .ref p0), (1, .int p1), (2, .int p2)] []
  exact w_X7_number_b0 C0 hno hf
def f_X7_dollars_b0 (E : zE) (p0 : Nat) (p1 : Int32) (p2 : Int32) (h : zH) : Option ((Int64 ⊕ (Nat × Nat)) × zH) :=
  (cko h p0 6).bind fun _ =>
  bnd2 (f_X7_number E p0 p1 p2 h) fun x4 h2 =>
  Sum.elim (fun x5 => (
    some (.inl ((100 : Int64) * (x5.toInt64)), h2)
  )) (fun q6 => (
    some (.inr q6, h2)
  )) x4
theorem w_X7_dollars_b0 (C0 : zCx p l e R s m args below meth c D B0 3 "FranchiseLedger$Reader" cX7_dollars E 12 307 (Option.some Jvm.ClassFile.FieldType.long) "dollars") (hno : ∀ x ∈ c.exceptionTable.toList, False) {r : (Int64 ⊕ (Nat × Nat))} {h' : zH} {p0 : Nat} {p1 : Int32} {p2 : Int32} {h : zH} (hf : f_X7_dollars_b0 E p0 p1 p2 h = some (r, h')) : zW p l e R s m args below meth c D B0 3 (zEnd D B0 R below args s (zoT zoL r) h') h 0 [(0, .ref p0), (1, .int p1), (2, .int p2)] [] := by
  unfold f_X7_dollars_b0 at hf
  refine zr_ldc2 C0 (v := 100) q1535 dX7_dollars_0 ?_
  refine zr_aload_n C0 dX7_dollars_3 rfl 0 rfl ?_
  refine zr_iload_n C0 dX7_dollars_4 rfl 1 rfl ?_
  refine zr_iload_n C0 dX7_dollars_5 rfl 2 rfl ?_
  obtain ⟨_, e1, hf⟩ := zbind hf
  obtain ⟨x4, h2, e3, hf⟩ := zbind2 hf
  rcases x4 with x5 | q6
  · have hf := zinl hf
    refine zr_callV_r C0 cv_X7_164_X7 rfl (zcko e1) (m_X7_number C0.2.2.2.2.2.2.1 e3) (by decide) (by decide) rfl rfl (Nat.le_of_ble_eq_true rfl) dX7_dollars_6 rfl ?_
    refine zr_i2l C0 dX7_dollars_9 ?_
    refine zr_lmul C0 dX7_dollars_10 ?_
    refine zretW hf ?_
    exact zr_lret C0 rfl dX7_dollars_11 rfl
  · have hf := zinr hf
    refine zretW hf ?_
    exact zr_callV_t C0 cv_X7_164_X7 rfl (zcko e1) (m_X7_number C0.2.2.2.2.2.2.1 e3) (by decide) (by decide) rfl rfl (Nat.le_of_ble_eq_true rfl) dX7_dollars_6 (zr_out C0 hno rfl)
def f_X7_dollars (E : zE) (p0 : Nat) (p1 : Int32) (p2 : Int32) (h : zH) : Option ((Int64 ⊕ (Nat × Nat)) × zH) := f_X7_dollars_b0 E p0 p1 p2 h
theorem m_X7_dollars {l : Launch} (hst : l.stackTraces = false) {D : zD} {B0 : Nat} {E : zE} {p0 : Nat} {p1 : Int32} {p2 : Int32} {h h' : zH} {r : (Int64 ⊕ (Nat × Nat))} (hf : f_X7_dollars E p0 p1 p2 h = some (r, h')) : zMet l yX7_dollars (ws_ yX7_dollars cX7_dollars 3 (Option.some Jvm.ClassFile.FieldType.long)) 12 307 D B0 E [.ref p0, .int p1, .int p2] h (zoT zoL r) h' := by
  unfold f_X7_dollars at hf
  refine zMet_of hst (by decide +kernel) rfl rfl (Nat.le_of_ble_eq_true rfl) (fun p e R s m below meth c C0 hno => ?_)
  show zW _ _ _ _ _ _ _ _ _ _ _ _ _ _ _ _ [(0, .ref p0), (1, .int p1), (2, .int p2)] []
  exact w_X7_dollars_b0 C0 hno hf
def f_J17_init_X15_b0 (E : zE) (p0 : Nat) (h : zH) : Option (Unit × zH) :=
  some ((), h)
theorem w_J17_init_X15_b0 (C0 : zCx p l e R s m args below meth c D B0 1 "java/lang/Record" cJ17_init E 1 60 (Option.none : Option Jvm.ClassFile.FieldType) "<init>") {r : Unit} {h' : zH} {p0 : Nat} {h : zH} (hf : f_J17_init_X15_b0 E p0 h = some (r, h')) : zW p l e R s m args below meth c D B0 1 (zEnd D B0 R below args s (zoV r) h') h 0 [(0, .ref p0)] [] := by
  unfold f_J17_init_X15_b0 at hf
  refine zr_aload_n C0 dJ17_init_0 rfl 0 rfl ?_
  refine zr_objInit C0 q546 q182 q183 dJ17_init_1 (by decide) (by show _ ≤ _; exact Nat.le_of_ble_eq_true rfl) ?_
  refine zretW hf ?_
  exact zr_vret C0 rfl dJ17_init_4 rfl
def f_J17_init_X15 (E : zE) (p0 : Nat) (h : zH) : Option (Unit × zH) := f_J17_init_X15_b0 E p0 h
theorem m_J17_init_X15 {l : Launch} (hst : l.stackTraces = false) {D : zD} {B0 : Nat} {E : zE} {p0 : Nat} {h h' : zH} {r : Unit} (hf : f_J17_init_X15 E p0 h = some (r, h')) : zMet l yJ17_init (ws_ yJ17_init cJ17_init 1 (Option.none : Option Jvm.ClassFile.FieldType)) 1 60 D B0 E [.ref p0] h (zoV r) h' := by
  unfold f_J17_init_X15 at hf
  refine zMet_of hst (by decide +kernel) rfl rfl (Nat.le_of_ble_eq_true rfl) (fun p e R s m below meth c C0 hno => ?_)
  show zW _ _ _ _ _ _ _ _ _ _ _ _ _ _ _ _ [(0, .ref p0)] []
  exact w_J17_init_X15_b0 C0 hf
def f_X15_init_b0 (E : zE) (p0 : Nat) (p1 : Int32) (p2 : Int32) (p3 : Int32) (p4 : Int32) (p5 : Int64) (h : zH) : Option (Unit × zH) :=
  bnd2 (f_J17_init_X15 E p0 h) fun x3 h1 =>
  (pF h1 p0 14 0 (.int p1)).bind fun h4 =>
  (pF h4 p0 14 1 (.int p2)).bind fun h6 =>
  (pF h6 p0 14 2 (.int p3)).bind fun h8 =>
  (pF h8 p0 14 3 (.int p4)).bind fun h10 =>
  (pF h10 p0 14 4 (.long p5)).bind fun h12 =>
  some ((), h12)
theorem w_X15_init_b0 (C0 : zCx p l e R s m args below meth c D B0 7 "FranchiseLedger$Posting" cX15_init E 2 80 (Option.none : Option Jvm.ClassFile.FieldType) "<init>") {r : Unit} {h' : zH} {p0 : Nat} {p1 : Int32} {p2 : Int32} {p3 : Int32} {p4 : Int32} {p5 : Int64} {h : zH} (hf : f_X15_init_b0 E p0 p1 p2 p3 p4 p5 h = some (r, h')) : zW p l e R s m args below meth c D B0 7 (zEnd D B0 R below args s (zoV r) h') h 0 [(0, .ref p0), (1, .int p1), (2, .int p2), (3, .int p3), (4, .int p4), (5, .long p5)] [] := by
  unfold f_X15_init_b0 at hf
  refine zr_aload_n C0 dX15_init_0 rfl 0 rfl ?_
  obtain ⟨x3, h1, e2, hf⟩ := zbind2 hf
  refine zr_callI_r C0 cv_X15_1 (m_J17_init_X15 C0.2.2.2.2.2.2.1 e2) (by decide) (by decide) rfl rfl (Nat.le_of_ble_eq_true rfl) dX15_init_1 rfl ?_
  refine zr_aload_n C0 dX15_init_4 rfl 0 rfl ?_
  refine zr_iload_n C0 dX15_init_5 rfl 1 rfl ?_
  obtain ⟨h4, e5, hf⟩ := zbind hf
  refine zr_put C0 pl_X15_7_X15 dX15_init_6 (fun _ => rfl) rfl rfl e5 ?_
  refine zr_aload_n C0 dX15_init_9 rfl 0 rfl ?_
  refine zr_iload_n C0 dX15_init_10 rfl 2 rfl ?_
  obtain ⟨h6, e7, hf⟩ := zbind hf
  refine zr_put C0 pl_X15_13_X15 dX15_init_11 (fun _ => rfl) rfl rfl e7 ?_
  refine zr_aload_n C0 dX15_init_14 rfl 0 rfl ?_
  refine zr_iload_n C0 dX15_init_15 rfl 3 rfl ?_
  obtain ⟨h8, e9, hf⟩ := zbind hf
  refine zr_put C0 pl_X15_16_X15 dX15_init_16 (fun _ => rfl) rfl rfl e9 ?_
  refine zr_aload_n C0 dX15_init_19 rfl 0 rfl ?_
  refine zr_iload C0 dX15_init_20 4 rfl ?_
  obtain ⟨h10, e11, hf⟩ := zbind hf
  refine zr_put C0 pl_X15_19_X15 dX15_init_22 (fun _ => rfl) rfl rfl e11 ?_
  refine zr_aload_n C0 dX15_init_25 rfl 0 rfl ?_
  refine zr_lload C0 dX15_init_26 5 rfl ?_
  obtain ⟨h12, e13, hf⟩ := zbind hf
  refine zr_put C0 pl_X15_22_X15 dX15_init_28 (fun _ => rfl) rfl rfl e13 ?_
  refine zretW hf ?_
  exact zr_vret C0 rfl dX15_init_31 rfl
def f_X15_init (E : zE) (p0 : Nat) (p1 : Int32) (p2 : Int32) (p3 : Int32) (p4 : Int32) (p5 : Int64) (h : zH) : Option (Unit × zH) := f_X15_init_b0 E p0 p1 p2 p3 p4 p5 h
theorem m_X15_init {l : Launch} (hst : l.stackTraces = false) {D : zD} {B0 : Nat} {E : zE} {p0 : Nat} {p1 : Int32} {p2 : Int32} {p3 : Int32} {p4 : Int32} {p5 : Int64} {h h' : zH} {r : Unit} (hf : f_X15_init E p0 p1 p2 p3 p4 p5 h = some (r, h')) : zMet l yX15_init (ws_ yX15_init cX15_init 7 (Option.none : Option Jvm.ClassFile.FieldType)) 2 80 D B0 E [.ref p0, .int p1, .int p2, .int p3, .int p4, .long p5] h (zoV r) h' := by
  unfold f_X15_init at hf
  refine zMet_of hst (by decide +kernel) rfl rfl (Nat.le_of_ble_eq_true rfl) (fun p e R s m below meth c C0 hno => ?_)
  show zW _ _ _ _ _ _ _ _ _ _ _ _ _ _ _ _ [(0, .ref p0), (1, .int p1), (2, .int p2), (3, .int p3), (4, .int p4), (5, .long p5)] []
  exact w_X15_init_b0 C0 hf
def f_X7_sales_b0 (E : zE) (p0 : Nat) (h : zH) : Option ((Nat ⊕ (Nat × Nat)) × zH) :=
  (cko h p0 6).bind fun _ =>
  bnd2 (f_X7_number E p0 (0 : Int32) (15 : Int32) h) fun x4 h2 =>
  Sum.elim (fun x5 => (
    bnd2 (nO h2 14 5 [.int 0, .int 0, .int 0, .int 0, .long 0]) fun q7 h8 =>
    (cko h8 p0 6).bind fun _ =>
    bnd2 (f_X7_dollars E p0 (0 : Int32) (100000 : Int32) h8) fun x13 h11 =>
    Sum.elim (fun x14 => (
      bnd2 (f_X15_init E q7 (0 : Int32) x5 (-1 : Int32) (-1 : Int32) x14 h11) fun x18 h16 =>
      some (.inl q7, h16)
    )) (fun q15 => (
      some (.inr q15, h11)
    )) x13
  )) (fun q6 => (
    some (.inr q6, h2)
  )) x4
theorem w_X7_sales_b0 (C0 : zCx p l e R s m args below meth c D B0 2 "FranchiseLedger$Reader" cX7_sales E 13 329 (Option.some (Jvm.ClassFile.FieldType.object "FranchiseLedger$Posting")) "sales") (hno : ∀ x ∈ c.exceptionTable.toList, False) {r : (Nat ⊕ (Nat × Nat))} {h' : zH} {p0 : Nat} {h : zH} (hf : f_X7_sales_b0 E p0 h = some (r, h')) : zW p l e R s m args below meth c D B0 2 (zEnd D B0 R below args s (zoT zoR r) h') h 0 [(0, .ref p0)] [] := by
  unfold f_X7_sales_b0 at hf
  refine zr_aload_n C0 dX7_sales_0 rfl 0 rfl ?_
  refine zr_iconst C0 (v := 0) dX7_sales_1 (by decide) ?_
  refine zr_bipush C0 (v := 15) dX7_sales_2 (by decide) ?_
  obtain ⟨_, e1, hf⟩ := zbind hf
  obtain ⟨x4, h2, e3, hf⟩ := zbind2 hf
  rcases x4 with x5 | q6
  · have hf := zinl hf
    refine zr_callV_r C0 cv_X7_164_X7 rfl (zcko e1) (m_X7_number C0.2.2.2.2.2.2.1 e3) (by decide) (by decide) rfl rfl (Nat.le_of_ble_eq_true rfl) dX7_sales_4 rfl ?_
    refine zr_istore_n (i := 1) (lv' := [(1, .int x5), (0, .ref p0)]) C0 dX7_sales_7 rfl (by decide) (by first | rfl | simp [zst1, zst2, zcat_rf]) ?_
    obtain ⟨q7, h8, e9, hf⟩ := zbind2 hf
    refine zr_newc C0 (C := RX15) (T := TX15) (N := 5) rfl in_X15 tyX15_ok q1528 q1529 q171 nw_X15 dX7_sales_8 e9 ?_
    refine zr_dup C0 dX7_sales_11 rfl ?_
    refine zr_iconst C0 (v := 0) dX7_sales_12 (by decide) ?_
    refine zr_iload_n C0 dX7_sales_13 rfl 0 rfl ?_
    refine zr_iconst C0 (v := -1) dX7_sales_14 (by decide) ?_
    refine zr_iconst C0 (v := -1) dX7_sales_15 (by decide) ?_
    refine zr_aload_n C0 dX7_sales_16 rfl 1 rfl ?_
    refine zr_iconst C0 (v := 0) dX7_sales_17 (by decide) ?_
    refine zr_ldcw C0 (v := 100000) q1530 dX7_sales_18 ?_
    obtain ⟨_, e10, hf⟩ := zbind hf
    obtain ⟨x13, h11, e12, hf⟩ := zbind2 hf
    rcases x13 with x14 | q15
    · have hf := zinl hf
      refine zr_callV_r C0 cv_X7_281_X7 rfl (zcko e10) (m_X7_dollars C0.2.2.2.2.2.2.1 e12) (by decide) (by decide) rfl rfl (Nat.le_of_ble_eq_true rfl) dX7_sales_21 rfl ?_
      obtain ⟨x18, h16, e17, hf⟩ := zbind2 hf
      refine zr_callIN_r C0 cv_X7_285 (m_X15_init C0.2.2.2.2.2.2.1 e17) (by decide) (by decide) rfl rfl (Nat.le_of_ble_eq_true rfl) dX7_sales_24 rfl ?_
      refine zretW hf ?_
      exact zr_aret C0 rfl (Or.inl ⟨_, rfl⟩) dX7_sales_27 rfl
    · have hf := zinr hf
      refine zretW hf ?_
      exact zr_callV_t C0 cv_X7_281_X7 rfl (zcko e10) (m_X7_dollars C0.2.2.2.2.2.2.1 e12) (by decide) (by decide) rfl rfl (Nat.le_of_ble_eq_true rfl) dX7_sales_21 (zr_out C0 hno rfl)
  · have hf := zinr hf
    refine zretW hf ?_
    exact zr_callV_t C0 cv_X7_164_X7 rfl (zcko e1) (m_X7_number C0.2.2.2.2.2.2.1 e3) (by decide) (by decide) rfl rfl (Nat.le_of_ble_eq_true rfl) dX7_sales_4 (zr_out C0 hno rfl)
def f_X7_sales (E : zE) (p0 : Nat) (h : zH) : Option ((Nat ⊕ (Nat × Nat)) × zH) := f_X7_sales_b0 E p0 h
theorem m_X7_sales {l : Launch} (hst : l.stackTraces = false) {D : zD} {B0 : Nat} {E : zE} {p0 : Nat} {h h' : zH} {r : (Nat ⊕ (Nat × Nat))} (hf : f_X7_sales E p0 h = some (r, h')) : zMet l yX7_sales (ws_ yX7_sales cX7_sales 2 (Option.some (Jvm.ClassFile.FieldType.object "FranchiseLedger$Posting"))) 13 329 D B0 E [.ref p0] h (zoT zoR r) h' := by
  unfold f_X7_sales at hf
  refine zMet_of hst (by decide +kernel) rfl rfl (Nat.le_of_ble_eq_true rfl) (fun p e R s m below meth c C0 hno => ?_)
  show zW _ _ _ _ _ _ _ _ _ _ _ _ _ _ _ _ [(0, .ref p0)] []
  exact w_X7_sales_b0 C0 hno hf
def f_X7_delivery_b0 (E : zE) (p0 : Nat) (h : zH) : Option ((Nat ⊕ (Nat × Nat)) × zH) :=
  (cko h p0 6).bind fun _ =>
  bnd2 (f_X7_number E p0 (0 : Int32) (15 : Int32) h) fun x4 h2 =>
  Sum.elim (fun x5 => (
    (cko h2 p0 6).bind fun _ =>
    bnd2 (f_X7_number E p0 (0 : Int32) (29 : Int32) h2) fun x10 h8 =>
    Sum.elim (fun x11 => (
      (cko h8 p0 6).bind fun _ =>
      bnd2 (f_X7_number E p0 (0 : Int32) (29 : Int32) h8) fun x16 h14 =>
      Sum.elim (fun x17 => (
        bnd2 (nO h14 14 5 [.int 0, .int 0, .int 0, .int 0, .long 0]) fun q19 h20 =>
        (cko h20 p0 6).bind fun _ =>
        bnd2 (f_X7_dollars E p0 (1 : Int32) (100000 : Int32) h20) fun x25 h23 =>
        Sum.elim (fun x26 => (
          bnd2 (f_X15_init E q19 (1 : Int32) x5 x11 x17 x26 h23) fun x30 h28 =>
          some (.inl q19, h28)
        )) (fun q27 => (
          some (.inr q27, h23)
        )) x25
      )) (fun q18 => (
        some (.inr q18, h14)
      )) x16
    )) (fun q12 => (
      some (.inr q12, h8)
    )) x10
  )) (fun q6 => (
    some (.inr q6, h2)
  )) x4
theorem w_X7_delivery_b0 (C0 : zCx p l e R s m args below meth c D B0 4 "FranchiseLedger$Reader" cX7_delivery E 13 329 (Option.some (Jvm.ClassFile.FieldType.object "FranchiseLedger$Posting")) "delivery") (hno : ∀ x ∈ c.exceptionTable.toList, False) {r : (Nat ⊕ (Nat × Nat))} {h' : zH} {p0 : Nat} {h : zH} (hf : f_X7_delivery_b0 E p0 h = some (r, h')) : zW p l e R s m args below meth c D B0 4 (zEnd D B0 R below args s (zoT zoR r) h') h 0 [(0, .ref p0)] [] := by
  unfold f_X7_delivery_b0 at hf
  refine zr_aload_n C0 dX7_delivery_0 rfl 0 rfl ?_
  refine zr_iconst C0 (v := 0) dX7_delivery_1 (by decide) ?_
  refine zr_bipush C0 (v := 15) dX7_delivery_2 (by decide) ?_
  obtain ⟨_, e1, hf⟩ := zbind hf
  obtain ⟨x4, h2, e3, hf⟩ := zbind2 hf
  rcases x4 with x5 | q6
  · have hf := zinl hf
    refine zr_callV_r C0 cv_X7_164_X7 rfl (zcko e1) (m_X7_number C0.2.2.2.2.2.2.1 e3) (by decide) (by decide) rfl rfl (Nat.le_of_ble_eq_true rfl) dX7_delivery_4 rfl ?_
    refine zr_istore_n (i := 1) (lv' := [(1, .int x5), (0, .ref p0)]) C0 dX7_delivery_7 rfl (by decide) (by first | rfl | simp [zst1, zst2, zcat_rf]) ?_
    refine zr_aload_n C0 dX7_delivery_8 rfl 1 rfl ?_
    refine zr_iconst C0 (v := 0) dX7_delivery_9 (by decide) ?_
    refine zr_bipush C0 (v := 29) dX7_delivery_10 (by decide) ?_
    obtain ⟨_, e7, hf⟩ := zbind hf
    obtain ⟨x10, h8, e9, hf⟩ := zbind2 hf
    rcases x10 with x11 | q12
    · have hf := zinl hf
      refine zr_callV_r C0 cv_X7_164_X7 rfl (zcko e7) (m_X7_number C0.2.2.2.2.2.2.1 e9) (by decide) (by decide) rfl rfl (Nat.le_of_ble_eq_true rfl) dX7_delivery_12 rfl ?_
      refine zr_istore_n (i := 2) (lv' := [(2, .int x11), (1, .int x5), (0, .ref p0)]) C0 dX7_delivery_15 rfl (by decide) (by first | rfl | simp [zst1, zst2, zcat_rf]) ?_
      refine zr_aload_n C0 dX7_delivery_16 rfl 2 rfl ?_
      refine zr_iconst C0 (v := 0) dX7_delivery_17 (by decide) ?_
      refine zr_bipush C0 (v := 29) dX7_delivery_18 (by decide) ?_
      obtain ⟨_, e13, hf⟩ := zbind hf
      obtain ⟨x16, h14, e15, hf⟩ := zbind2 hf
      rcases x16 with x17 | q18
      · have hf := zinl hf
        refine zr_callV_r C0 cv_X7_164_X7 rfl (zcko e13) (m_X7_number C0.2.2.2.2.2.2.1 e15) (by decide) (by decide) rfl rfl (Nat.le_of_ble_eq_true rfl) dX7_delivery_20 rfl ?_
        refine zr_istore_n (i := 3) (lv' := [(3, .int x17), (2, .int x11), (1, .int x5), (0, .ref p0)]) C0 dX7_delivery_23 rfl (by decide) (by first | rfl | simp [zst1, zst2, zcat_rf]) ?_
        obtain ⟨q19, h20, e21, hf⟩ := zbind2 hf
        refine zr_newc C0 (C := RX15) (T := TX15) (N := 5) rfl in_X15 tyX15_ok q1528 q1529 q171 nw_X15 dX7_delivery_24 e21 ?_
        refine zr_dup C0 dX7_delivery_27 rfl ?_
        refine zr_iconst C0 (v := 1) dX7_delivery_28 (by decide) ?_
        refine zr_iload_n C0 dX7_delivery_29 rfl 2 rfl ?_
        refine zr_iload_n C0 dX7_delivery_30 rfl 1 rfl ?_
        refine zr_iload_n C0 dX7_delivery_31 rfl 0 rfl ?_
        refine zr_aload_n C0 dX7_delivery_32 rfl 3 rfl ?_
        refine zr_iconst C0 (v := 1) dX7_delivery_33 (by decide) ?_
        refine zr_ldcw C0 (v := 100000) q1530 dX7_delivery_34 ?_
        obtain ⟨_, e22, hf⟩ := zbind hf
        obtain ⟨x25, h23, e24, hf⟩ := zbind2 hf
        rcases x25 with x26 | q27
        · have hf := zinl hf
          refine zr_callV_r C0 cv_X7_281_X7 rfl (zcko e22) (m_X7_dollars C0.2.2.2.2.2.2.1 e24) (by decide) (by decide) rfl rfl (Nat.le_of_ble_eq_true rfl) dX7_delivery_37 rfl ?_
          obtain ⟨x30, h28, e29, hf⟩ := zbind2 hf
          refine zr_callIN_r C0 cv_X7_285 (m_X15_init C0.2.2.2.2.2.2.1 e29) (by decide) (by decide) rfl rfl (Nat.le_of_ble_eq_true rfl) dX7_delivery_40 rfl ?_
          refine zretW hf ?_
          exact zr_aret C0 rfl (Or.inl ⟨_, rfl⟩) dX7_delivery_43 rfl
        · have hf := zinr hf
          refine zretW hf ?_
          exact zr_callV_t C0 cv_X7_281_X7 rfl (zcko e22) (m_X7_dollars C0.2.2.2.2.2.2.1 e24) (by decide) (by decide) rfl rfl (Nat.le_of_ble_eq_true rfl) dX7_delivery_37 (zr_out C0 hno rfl)
      · have hf := zinr hf
        refine zretW hf ?_
        exact zr_callV_t C0 cv_X7_164_X7 rfl (zcko e13) (m_X7_number C0.2.2.2.2.2.2.1 e15) (by decide) (by decide) rfl rfl (Nat.le_of_ble_eq_true rfl) dX7_delivery_20 (zr_out C0 hno rfl)
    · have hf := zinr hf
      refine zretW hf ?_
      exact zr_callV_t C0 cv_X7_164_X7 rfl (zcko e7) (m_X7_number C0.2.2.2.2.2.2.1 e9) (by decide) (by decide) rfl rfl (Nat.le_of_ble_eq_true rfl) dX7_delivery_12 (zr_out C0 hno rfl)
  · have hf := zinr hf
    refine zretW hf ?_
    exact zr_callV_t C0 cv_X7_164_X7 rfl (zcko e1) (m_X7_number C0.2.2.2.2.2.2.1 e3) (by decide) (by decide) rfl rfl (Nat.le_of_ble_eq_true rfl) dX7_delivery_4 (zr_out C0 hno rfl)
def f_X7_delivery (E : zE) (p0 : Nat) (h : zH) : Option ((Nat ⊕ (Nat × Nat)) × zH) := f_X7_delivery_b0 E p0 h
theorem m_X7_delivery {l : Launch} (hst : l.stackTraces = false) {D : zD} {B0 : Nat} {E : zE} {p0 : Nat} {h h' : zH} {r : (Nat ⊕ (Nat × Nat))} (hf : f_X7_delivery E p0 h = some (r, h')) : zMet l yX7_delivery (ws_ yX7_delivery cX7_delivery 4 (Option.some (Jvm.ClassFile.FieldType.object "FranchiseLedger$Posting"))) 13 329 D B0 E [.ref p0] h (zoT zoR r) h' := by
  unfold f_X7_delivery at hf
  refine zMet_of hst (by decide +kernel) rfl rfl (Nat.le_of_ble_eq_true rfl) (fun p e R s m below meth c C0 hno => ?_)
  show zW _ _ _ _ _ _ _ _ _ _ _ _ _ _ _ _ [(0, .ref p0)] []
  exact w_X7_delivery_b0 C0 hno hf
def f_X7_isReserved_b301 (E : zE) (s0 : Int32) (h : zH) : Option (Int32 × zH) :=
  (zgd .boolean s0).bind fun _ =>
  some (s0, h)
theorem w_X7_isReserved_b301 (C0 : zCx p l e R s m args below meth c D B0 3 "FranchiseLedger$Reader" cX7_isReserved E 5 150 (Option.some Jvm.ClassFile.FieldType.boolean) "isReserved") {r : Int32} {h' : zH} {s0 : Int32} {h : zH} (hf : f_X7_isReserved_b301 E s0 h = some (r, h')) : zW p l e R s m args below meth c D B0 3 (zEnd D B0 R below args s (zoI r) h') h 301 [] [.int s0] := by
  unfold f_X7_isReserved_b301 at hf
  obtain ⟨_, e1, hf⟩ := zbind hf
  refine zretW hf ?_
  exact zr_iret C0 (ty := .boolean) rfl (zgd_n e1) dX7_isReserved_301 rfl
def f_X7_isReserved_b296 (E : zE) (h : zH) : Option (Int32 × zH) :=
  f_X7_isReserved_b301 E (1 : Int32) h
theorem w_X7_isReserved_b296 (C0 : zCx p l e R s m args below meth c D B0 3 "FranchiseLedger$Reader" cX7_isReserved E 5 150 (Option.some Jvm.ClassFile.FieldType.boolean) "isReserved") {r : Int32} {h' : zH} {h : zH} (hf : f_X7_isReserved_b296 E  h = some (r, h')) : zW p l e R s m args below meth c D B0 3 (zEnd D B0 R below args s (zoI r) h') h 296 [] [] := by
  unfold f_X7_isReserved_b296 at hf
  refine zr_iconst C0 (v := 1) dX7_isReserved_296 (by decide) ?_
  refine zr_goto C0 (tgt := 301) dX7_isReserved_297 (by decide) ?_
  exact w_X7_isReserved_b301 C0 hf
def f_X7_isReserved_b241 (E : zE) (p2 : Int32) (h : zH) : Option (Int32 × zH) :=
  if p2 = 0 then (
    f_X7_isReserved_b296 E  h
  ) else (
  if p2 = 1 then (
    f_X7_isReserved_b296 E  h
  ) else (
  if p2 = 2 then (
    f_X7_isReserved_b296 E  h
  ) else (
  if p2 = 3 then (
    f_X7_isReserved_b296 E  h
  ) else (
  if p2 = 4 then (
    f_X7_isReserved_b296 E  h
  ) else (
  if p2 = 5 then (
    f_X7_isReserved_b296 E  h
  ) else (
  if p2 = 6 then (
    f_X7_isReserved_b296 E  h
  ) else (
  if p2 = 7 then (
    f_X7_isReserved_b296 E  h
  ) else (
  if p2 = 8 then (
    f_X7_isReserved_b296 E  h
  ) else (
  if p2 = 9 then (
    f_X7_isReserved_b296 E  h
  ) else (
    f_X7_isReserved_b301 E (0 : Int32) h
  ))))))))))
theorem w_X7_isReserved_b241 (C0 : zCx p l e R s m args below meth c D B0 3 "FranchiseLedger$Reader" cX7_isReserved E 5 150 (Option.some Jvm.ClassFile.FieldType.boolean) "isReserved") {r : Int32} {h' : zH} {p2 : Int32} {h : zH} (hf : f_X7_isReserved_b241 E p2 h = some (r, h')) : zW p l e R s m args below meth c D B0 3 (zEnd D B0 R below args s (zoI r) h') h 241 [(2, .int p2)] [] := by
  unfold f_X7_isReserved_b241 at hf
  refine zr_iload_n C0 dX7_isReserved_241 rfl 0 rfl ?_
  rcases Decidable.em (p2 = 0) with c1 | c1
  · have hf := zif_t c1 hf
    refine zr_tableIn C0 (v := 0) (tgt := 296) dX7_isReserved_242 c1 (by decide) (by decide) rfl (by decide) ?_
    refine zr_sub [] rfl ?_
    exact w_X7_isReserved_b296 C0 hf
  have hf := zif_f c1 hf
  rcases Decidable.em (p2 = 1) with c2 | c2
  · have hf := zif_t c2 hf
    refine zr_tableIn C0 (v := 1) (tgt := 296) dX7_isReserved_242 c2 (by decide) (by decide) rfl (by decide) ?_
    refine zr_sub [] rfl ?_
    exact w_X7_isReserved_b296 C0 hf
  have hf := zif_f c2 hf
  rcases Decidable.em (p2 = 2) with c3 | c3
  · have hf := zif_t c3 hf
    refine zr_tableIn C0 (v := 2) (tgt := 296) dX7_isReserved_242 c3 (by decide) (by decide) rfl (by decide) ?_
    refine zr_sub [] rfl ?_
    exact w_X7_isReserved_b296 C0 hf
  have hf := zif_f c3 hf
  rcases Decidable.em (p2 = 3) with c4 | c4
  · have hf := zif_t c4 hf
    refine zr_tableIn C0 (v := 3) (tgt := 296) dX7_isReserved_242 c4 (by decide) (by decide) rfl (by decide) ?_
    refine zr_sub [] rfl ?_
    exact w_X7_isReserved_b296 C0 hf
  have hf := zif_f c4 hf
  rcases Decidable.em (p2 = 4) with c5 | c5
  · have hf := zif_t c5 hf
    refine zr_tableIn C0 (v := 4) (tgt := 296) dX7_isReserved_242 c5 (by decide) (by decide) rfl (by decide) ?_
    refine zr_sub [] rfl ?_
    exact w_X7_isReserved_b296 C0 hf
  have hf := zif_f c5 hf
  rcases Decidable.em (p2 = 5) with c6 | c6
  · have hf := zif_t c6 hf
    refine zr_tableIn C0 (v := 5) (tgt := 296) dX7_isReserved_242 c6 (by decide) (by decide) rfl (by decide) ?_
    refine zr_sub [] rfl ?_
    exact w_X7_isReserved_b296 C0 hf
  have hf := zif_f c6 hf
  rcases Decidable.em (p2 = 6) with c7 | c7
  · have hf := zif_t c7 hf
    refine zr_tableIn C0 (v := 6) (tgt := 296) dX7_isReserved_242 c7 (by decide) (by decide) rfl (by decide) ?_
    refine zr_sub [] rfl ?_
    exact w_X7_isReserved_b296 C0 hf
  have hf := zif_f c7 hf
  rcases Decidable.em (p2 = 7) with c8 | c8
  · have hf := zif_t c8 hf
    refine zr_tableIn C0 (v := 7) (tgt := 296) dX7_isReserved_242 c8 (by decide) (by decide) rfl (by decide) ?_
    refine zr_sub [] rfl ?_
    exact w_X7_isReserved_b296 C0 hf
  have hf := zif_f c8 hf
  rcases Decidable.em (p2 = 8) with c9 | c9
  · have hf := zif_t c9 hf
    refine zr_tableIn C0 (v := 8) (tgt := 296) dX7_isReserved_242 c9 (by decide) (by decide) rfl (by decide) ?_
    refine zr_sub [] rfl ?_
    exact w_X7_isReserved_b296 C0 hf
  have hf := zif_f c9 hf
  rcases Decidable.em (p2 = 9) with c10 | c10
  · have hf := zif_t c10 hf
    refine zr_tableIn C0 (v := 9) (tgt := 296) dX7_isReserved_242 c10 (by decide) (by decide) rfl (by decide) ?_
    refine zr_sub [] rfl ?_
    exact w_X7_isReserved_b296 C0 hf
  have hf := zif_f c10 hf
  refine zr_tableOut C0 (tgt := 300) dX7_isReserved_242 ?_ (by decide) ?_
  · have n0 := lv_neT (a := 0) c1 rfl; have n1 := lv_neT (a := 1) c2 rfl; have n2 := lv_neT (a := 2) c3 rfl; have n3 := lv_neT (a := 3) c4 rfl; have n4 := lv_neT (a := 4) c5 rfl; have n5 := lv_neT (a := 5) c6 rfl; have n6 := lv_neT (a := 6) c7 rfl; have n7 := lv_neT (a := 7) c8 rfl; have n8 := lv_neT (a := 8) c9 rfl; have n9 := lv_neT (a := 9) c10 rfl; omega
  refine zr_iconst C0 (v := 0) dX7_isReserved_300 (by decide) ?_
  refine zr_sub [] rfl ?_
  exact w_X7_isReserved_b301 C0 hf
def f_X7_isReserved_b0 (E : zE) (p0 : Nat) (h : zH) : Option (Int32 × zH) :=
  (gR h p0 6 7).bind fun x1 =>
  (cko h x1 19).bind fun _ =>
  bnd2 (f_J9_hashCode E x1 h) fun x6 h4 =>
  if x6 = -1352291591 then (
    (cko h4 x1 19).bind fun _ =>
    bnd2 (f_J9_equals_J9 E x1 (E.2.1 19) h4) fun x11 h9 =>
    if x11 = 0 then (
      f_X7_isReserved_b241 E (-1 : Int32) h9
    ) else (
      f_X7_isReserved_b241 E (4 : Int32) h9
    )
  ) else (
  if x6 = -1005516787 then (
    (cko h4 x1 19).bind fun _ =>
    bnd2 (f_J9_equals_J9 E x1 (E.2.1 18) h4) fun x17 h15 =>
    if x17 = 0 then (
      f_X7_isReserved_b241 E (-1 : Int32) h15
    ) else (
      f_X7_isReserved_b241 E (3 : Int32) h15
    )
  ) else (
  if x6 = 101254 then (
    (cko h4 x1 19).bind fun _ =>
    bnd2 (f_J9_equals_J9 E x1 (E.2.1 22) h4) fun x23 h21 =>
    if x23 = 0 then (
      f_X7_isReserved_b241 E (-1 : Int32) h21
    ) else (
      f_X7_isReserved_b241 E (7 : Int32) h21
    )
  ) else (
  if x6 = 3002509 then (
    (cko h4 x1 19).bind fun _ =>
    bnd2 (f_J9_equals_J9 E x1 (E.2.1 17) h4) fun x29 h27 =>
    if x29 = 0 then (
      f_X7_isReserved_b241 E (-1 : Int32) h27
    ) else (
      f_X7_isReserved_b241 E (2 : Int32) h27
    )
  ) else (
  if x6 = 3443497 then (
    (cko h4 x1 19).bind fun _ =>
    bnd2 (f_J9_equals_J9 E x1 (E.2.1 15) h4) fun x35 h33 =>
    if x35 = 0 then (
      f_X7_isReserved_b241 E (-1 : Int32) h33
    ) else (
      f_X7_isReserved_b241 E (0 : Int32) h33
    )
  ) else (
  if x6 = 92668751 then (
    (cko h4 x1 19).bind fun _ =>
    bnd2 (f_J9_equals_J9 E x1 (E.2.1 21) h4) fun x41 h39 =>
    if x41 = 0 then (
      f_X7_isReserved_b241 E (-1 : Int32) h39
    ) else (
      f_X7_isReserved_b241 E (6 : Int32) h39
    )
  ) else (
  if x6 = 95467907 then (
    (cko h4 x1 19).bind fun _ =>
    bnd2 (f_J9_equals_J9 E x1 (E.2.1 23) h4) fun x47 h45 =>
    if x47 = 0 then (
      f_X7_isReserved_b241 E (-1 : Int32) h45
    ) else (
      f_X7_isReserved_b241 E (8 : Int32) h45
    )
  ) else (
  if x6 = 113319054 then (
    (cko h4 x1 19).bind fun _ =>
    bnd2 (f_J9_equals_J9 E x1 (E.2.1 24) h4) fun x53 h51 =>
    if x53 = 0 then (
      f_X7_isReserved_b241 E (-1 : Int32) h51
    ) else (
      f_X7_isReserved_b241 E (9 : Int32) h51
    )
  ) else (
  if x6 = 567722088 then (
    (cko h4 x1 19).bind fun _ =>
    bnd2 (f_J9_equals_J9 E x1 (E.2.1 16) h4) fun x59 h57 =>
    if x59 = 0 then (
      f_X7_isReserved_b241 E (-1 : Int32) h57
    ) else (
      f_X7_isReserved_b241 E (1 : Int32) h57
    )
  ) else (
  if x6 = 570402602 then (
    (cko h4 x1 19).bind fun _ =>
    bnd2 (f_J9_equals_J9 E x1 (E.2.1 20) h4) fun x65 h63 =>
    if x65 = 0 then (
      f_X7_isReserved_b241 E (-1 : Int32) h63
    ) else (
      f_X7_isReserved_b241 E (5 : Int32) h63
    )
  ) else (
    f_X7_isReserved_b241 E (-1 : Int32) h4
  ))))))))))
theorem w_X7_isReserved_b0 (C0 : zCx p l e R s m args below meth c D B0 3 "FranchiseLedger$Reader" cX7_isReserved E 5 150 (Option.some Jvm.ClassFile.FieldType.boolean) "isReserved") {r : Int32} {h' : zH} {p0 : Nat} {h : zH} (hf : f_X7_isReserved_b0 E p0 h = some (r, h')) : zW p l e R s m args below meth c D B0 3 (zEnd D B0 R below args s (zoI r) h') h 0 [(0, .ref p0)] [] := by
  unfold f_X7_isReserved_b0 at hf
  refine zr_aload_n C0 dX7_isReserved_0 rfl 0 rfl ?_
  obtain ⟨x1, e2, hf⟩ := zbind hf
  refine zr_get C0 fl_X7_33_X7 dX7_isReserved_1 (zgR e2) ?_
  refine zr_astore_n (i := 1) (lv' := [(1, .ref x1), (0, .ref p0)]) C0 dX7_isReserved_4 rfl (by decide) (by first | rfl | simp [zst1, zst2, zcat_rf]) ?_
  refine zr_iconst C0 (v := -1) dX7_isReserved_5 (by decide) ?_
  refine zr_istore_n (i := 2) (lv' := [(2, .int (-1 : Int32)), (1, .ref x1), (0, .ref p0)]) C0 dX7_isReserved_6 rfl (by decide) (by first | rfl | simp [zst1, zst2, zcat_rf]) ?_
  refine zr_aload_n C0 dX7_isReserved_7 rfl 1 rfl ?_
  obtain ⟨_, e3, hf⟩ := zbind hf
  obtain ⟨x6, h4, e5, hf⟩ := zbind2 hf
  refine zr_callV_r C0 cv_X7_124_J9 rfl (zcko e3) (m_J9_hashCode C0.2.2.2.2.2.2.1 e5) (by decide) (by decide) rfl rfl (Nat.le_of_ble_eq_true rfl) dX7_isReserved_8 rfl ?_
  rcases Decidable.em (x6 = -1352291591) with c7 | c7
  · have hf := zif_t c7 hf
    refine zr_lookup C0 (tgt := 156) (off := 145) dX7_isReserved_11 (by decide) (by rw [c7]; decide) (by decide) ?_
    refine zr_aload_n C0 dX7_isReserved_156 rfl 1 rfl ?_
    refine zr_ldcS C0 (i := 19) rfl dX7_isReserved_157 ?_
    obtain ⟨_, e8, hf⟩ := zbind hf
    obtain ⟨x11, h9, e10, hf⟩ := zbind2 hf
    refine zr_callV_r C0 cv_X7_131_J9 rfl (zcko e8) (m_J9_equals_J9 C0.2.2.2.2.2.2.1 e10) (by decide) (by decide) rfl rfl (Nat.le_of_ble_eq_true rfl) dX7_isReserved_159 rfl ?_
    refine zr_if_eq C0 (tgt := 241) dX7_isReserved_162 (by decide) (fun c12 => ?_) (fun c12 => ?_)
    · have hf := zif_t c12 hf
      refine zr_sub [0] rfl ?_
      exact w_X7_isReserved_b241 C0 hf
    · have hf := zif_f c12 hf
      refine zr_iconst C0 (v := 4) dX7_isReserved_165 (by decide) ?_
      refine zr_istore_n (i := 2) (lv' := [(2, .int (4 : Int32)), (1, .ref x1), (0, .ref p0)]) C0 dX7_isReserved_166 rfl (by decide) (by first | rfl | simp [zst1, zst2, zcat_rf]) ?_
      refine zr_goto C0 (tgt := 241) dX7_isReserved_167 (by decide) ?_
      refine zr_sub [0] rfl ?_
      exact w_X7_isReserved_b241 C0 hf
  have hf := zif_f c7 hf
  rcases Decidable.em (x6 = -1005516787) with c13 | c13
  · have hf := zif_t c13 hf
    refine zr_lookup C0 (tgt := 142) (off := 131) dX7_isReserved_11 (by decide) (by rw [c13]; decide) (by decide) ?_
    refine zr_aload_n C0 dX7_isReserved_142 rfl 1 rfl ?_
    refine zr_ldcS C0 (i := 18) rfl dX7_isReserved_143 ?_
    obtain ⟨_, e14, hf⟩ := zbind hf
    obtain ⟨x17, h15, e16, hf⟩ := zbind2 hf
    refine zr_callV_r C0 cv_X7_131_J9 rfl (zcko e14) (m_J9_equals_J9 C0.2.2.2.2.2.2.1 e16) (by decide) (by decide) rfl rfl (Nat.le_of_ble_eq_true rfl) dX7_isReserved_145 rfl ?_
    refine zr_if_eq C0 (tgt := 241) dX7_isReserved_148 (by decide) (fun c18 => ?_) (fun c18 => ?_)
    · have hf := zif_t c18 hf
      refine zr_sub [0] rfl ?_
      exact w_X7_isReserved_b241 C0 hf
    · have hf := zif_f c18 hf
      refine zr_iconst C0 (v := 3) dX7_isReserved_151 (by decide) ?_
      refine zr_istore_n (i := 2) (lv' := [(2, .int (3 : Int32)), (1, .ref x1), (0, .ref p0)]) C0 dX7_isReserved_152 rfl (by decide) (by first | rfl | simp [zst1, zst2, zcat_rf]) ?_
      refine zr_goto C0 (tgt := 241) dX7_isReserved_153 (by decide) ?_
      refine zr_sub [0] rfl ?_
      exact w_X7_isReserved_b241 C0 hf
  have hf := zif_f c13 hf
  rcases Decidable.em (x6 = 101254) with c19 | c19
  · have hf := zif_t c19 hf
    refine zr_lookup C0 (tgt := 199) (off := 188) dX7_isReserved_11 (by decide) (by rw [c19]; decide) (by decide) ?_
    refine zr_aload_n C0 dX7_isReserved_199 rfl 1 rfl ?_
    refine zr_ldcS C0 (i := 22) rfl dX7_isReserved_200 ?_
    obtain ⟨_, e20, hf⟩ := zbind hf
    obtain ⟨x23, h21, e22, hf⟩ := zbind2 hf
    refine zr_callV_r C0 cv_X7_131_J9 rfl (zcko e20) (m_J9_equals_J9 C0.2.2.2.2.2.2.1 e22) (by decide) (by decide) rfl rfl (Nat.le_of_ble_eq_true rfl) dX7_isReserved_202 rfl ?_
    refine zr_if_eq C0 (tgt := 241) dX7_isReserved_205 (by decide) (fun c24 => ?_) (fun c24 => ?_)
    · have hf := zif_t c24 hf
      refine zr_sub [0] rfl ?_
      exact w_X7_isReserved_b241 C0 hf
    · have hf := zif_f c24 hf
      refine zr_bipush C0 (v := 7) dX7_isReserved_208 (by decide) ?_
      refine zr_istore_n (i := 2) (lv' := [(2, .int (7 : Int32)), (1, .ref x1), (0, .ref p0)]) C0 dX7_isReserved_210 rfl (by decide) (by first | rfl | simp [zst1, zst2, zcat_rf]) ?_
      refine zr_goto C0 (tgt := 241) dX7_isReserved_211 (by decide) ?_
      refine zr_sub [0] rfl ?_
      exact w_X7_isReserved_b241 C0 hf
  have hf := zif_f c19 hf
  rcases Decidable.em (x6 = 3002509) with c25 | c25
  · have hf := zif_t c25 hf
    refine zr_lookup C0 (tgt := 128) (off := 117) dX7_isReserved_11 (by decide) (by rw [c25]; decide) (by decide) ?_
    refine zr_aload_n C0 dX7_isReserved_128 rfl 1 rfl ?_
    refine zr_ldcS C0 (i := 17) rfl dX7_isReserved_129 ?_
    obtain ⟨_, e26, hf⟩ := zbind hf
    obtain ⟨x29, h27, e28, hf⟩ := zbind2 hf
    refine zr_callV_r C0 cv_X7_131_J9 rfl (zcko e26) (m_J9_equals_J9 C0.2.2.2.2.2.2.1 e28) (by decide) (by decide) rfl rfl (Nat.le_of_ble_eq_true rfl) dX7_isReserved_131 rfl ?_
    refine zr_if_eq C0 (tgt := 241) dX7_isReserved_134 (by decide) (fun c30 => ?_) (fun c30 => ?_)
    · have hf := zif_t c30 hf
      refine zr_sub [0] rfl ?_
      exact w_X7_isReserved_b241 C0 hf
    · have hf := zif_f c30 hf
      refine zr_iconst C0 (v := 2) dX7_isReserved_137 (by decide) ?_
      refine zr_istore_n (i := 2) (lv' := [(2, .int (2 : Int32)), (1, .ref x1), (0, .ref p0)]) C0 dX7_isReserved_138 rfl (by decide) (by first | rfl | simp [zst1, zst2, zcat_rf]) ?_
      refine zr_goto C0 (tgt := 241) dX7_isReserved_139 (by decide) ?_
      refine zr_sub [0] rfl ?_
      exact w_X7_isReserved_b241 C0 hf
  have hf := zif_f c25 hf
  rcases Decidable.em (x6 = 3443497) with c31 | c31
  · have hf := zif_t c31 hf
    refine zr_lookup C0 (tgt := 100) (off := 89) dX7_isReserved_11 (by decide) (by rw [c31]; decide) (by decide) ?_
    refine zr_aload_n C0 dX7_isReserved_100 rfl 1 rfl ?_
    refine zr_ldcS C0 (i := 15) rfl dX7_isReserved_101 ?_
    obtain ⟨_, e32, hf⟩ := zbind hf
    obtain ⟨x35, h33, e34, hf⟩ := zbind2 hf
    refine zr_callV_r C0 cv_X7_131_J9 rfl (zcko e32) (m_J9_equals_J9 C0.2.2.2.2.2.2.1 e34) (by decide) (by decide) rfl rfl (Nat.le_of_ble_eq_true rfl) dX7_isReserved_103 rfl ?_
    refine zr_if_eq C0 (tgt := 241) dX7_isReserved_106 (by decide) (fun c36 => ?_) (fun c36 => ?_)
    · have hf := zif_t c36 hf
      refine zr_sub [0] rfl ?_
      exact w_X7_isReserved_b241 C0 hf
    · have hf := zif_f c36 hf
      refine zr_iconst C0 (v := 0) dX7_isReserved_109 (by decide) ?_
      refine zr_istore_n (i := 2) (lv' := [(2, .int (0 : Int32)), (1, .ref x1), (0, .ref p0)]) C0 dX7_isReserved_110 rfl (by decide) (by first | rfl | simp [zst1, zst2, zcat_rf]) ?_
      refine zr_goto C0 (tgt := 241) dX7_isReserved_111 (by decide) ?_
      refine zr_sub [0] rfl ?_
      exact w_X7_isReserved_b241 C0 hf
  have hf := zif_f c31 hf
  rcases Decidable.em (x6 = 92668751) with c37 | c37
  · have hf := zif_t c37 hf
    refine zr_lookup C0 (tgt := 184) (off := 173) dX7_isReserved_11 (by decide) (by rw [c37]; decide) (by decide) ?_
    refine zr_aload_n C0 dX7_isReserved_184 rfl 1 rfl ?_
    refine zr_ldcS C0 (i := 21) rfl dX7_isReserved_185 ?_
    obtain ⟨_, e38, hf⟩ := zbind hf
    obtain ⟨x41, h39, e40, hf⟩ := zbind2 hf
    refine zr_callV_r C0 cv_X7_131_J9 rfl (zcko e38) (m_J9_equals_J9 C0.2.2.2.2.2.2.1 e40) (by decide) (by decide) rfl rfl (Nat.le_of_ble_eq_true rfl) dX7_isReserved_187 rfl ?_
    refine zr_if_eq C0 (tgt := 241) dX7_isReserved_190 (by decide) (fun c42 => ?_) (fun c42 => ?_)
    · have hf := zif_t c42 hf
      refine zr_sub [0] rfl ?_
      exact w_X7_isReserved_b241 C0 hf
    · have hf := zif_f c42 hf
      refine zr_bipush C0 (v := 6) dX7_isReserved_193 (by decide) ?_
      refine zr_istore_n (i := 2) (lv' := [(2, .int (6 : Int32)), (1, .ref x1), (0, .ref p0)]) C0 dX7_isReserved_195 rfl (by decide) (by first | rfl | simp [zst1, zst2, zcat_rf]) ?_
      refine zr_goto C0 (tgt := 241) dX7_isReserved_196 (by decide) ?_
      refine zr_sub [0] rfl ?_
      exact w_X7_isReserved_b241 C0 hf
  have hf := zif_f c37 hf
  rcases Decidable.em (x6 = 95467907) with c43 | c43
  · have hf := zif_t c43 hf
    refine zr_lookup C0 (tgt := 214) (off := 203) dX7_isReserved_11 (by decide) (by rw [c43]; decide) (by decide) ?_
    refine zr_aload_n C0 dX7_isReserved_214 rfl 1 rfl ?_
    refine zr_ldcS C0 (i := 23) rfl dX7_isReserved_215 ?_
    obtain ⟨_, e44, hf⟩ := zbind hf
    obtain ⟨x47, h45, e46, hf⟩ := zbind2 hf
    refine zr_callV_r C0 cv_X7_131_J9 rfl (zcko e44) (m_J9_equals_J9 C0.2.2.2.2.2.2.1 e46) (by decide) (by decide) rfl rfl (Nat.le_of_ble_eq_true rfl) dX7_isReserved_217 rfl ?_
    refine zr_if_eq C0 (tgt := 241) dX7_isReserved_220 (by decide) (fun c48 => ?_) (fun c48 => ?_)
    · have hf := zif_t c48 hf
      refine zr_sub [0] rfl ?_
      exact w_X7_isReserved_b241 C0 hf
    · have hf := zif_f c48 hf
      refine zr_bipush C0 (v := 8) dX7_isReserved_223 (by decide) ?_
      refine zr_istore_n (i := 2) (lv' := [(2, .int (8 : Int32)), (1, .ref x1), (0, .ref p0)]) C0 dX7_isReserved_225 rfl (by decide) (by first | rfl | simp [zst1, zst2, zcat_rf]) ?_
      refine zr_goto C0 (tgt := 241) dX7_isReserved_226 (by decide) ?_
      refine zr_sub [0] rfl ?_
      exact w_X7_isReserved_b241 C0 hf
  have hf := zif_f c43 hf
  rcases Decidable.em (x6 = 113319054) with c49 | c49
  · have hf := zif_t c49 hf
    refine zr_lookup C0 (tgt := 229) (off := 218) dX7_isReserved_11 (by decide) (by rw [c49]; decide) (by decide) ?_
    refine zr_aload_n C0 dX7_isReserved_229 rfl 1 rfl ?_
    refine zr_ldcS C0 (i := 24) rfl dX7_isReserved_230 ?_
    obtain ⟨_, e50, hf⟩ := zbind hf
    obtain ⟨x53, h51, e52, hf⟩ := zbind2 hf
    refine zr_callV_r C0 cv_X7_131_J9 rfl (zcko e50) (m_J9_equals_J9 C0.2.2.2.2.2.2.1 e52) (by decide) (by decide) rfl rfl (Nat.le_of_ble_eq_true rfl) dX7_isReserved_232 rfl ?_
    refine zr_if_eq C0 (tgt := 241) dX7_isReserved_235 (by decide) (fun c54 => ?_) (fun c54 => ?_)
    · have hf := zif_t c54 hf
      refine zr_sub [0] rfl ?_
      exact w_X7_isReserved_b241 C0 hf
    · have hf := zif_f c54 hf
      refine zr_bipush C0 (v := 9) dX7_isReserved_238 (by decide) ?_
      refine zr_istore_n (i := 2) (lv' := [(2, .int (9 : Int32)), (1, .ref x1), (0, .ref p0)]) C0 dX7_isReserved_240 rfl (by decide) (by first | rfl | simp [zst1, zst2, zcat_rf]) ?_
      refine zr_sub [0] rfl ?_
      exact w_X7_isReserved_b241 C0 hf
  have hf := zif_f c49 hf
  rcases Decidable.em (x6 = 567722088) with c55 | c55
  · have hf := zif_t c55 hf
    refine zr_lookup C0 (tgt := 114) (off := 103) dX7_isReserved_11 (by decide) (by rw [c55]; decide) (by decide) ?_
    refine zr_aload_n C0 dX7_isReserved_114 rfl 1 rfl ?_
    refine zr_ldcS C0 (i := 16) rfl dX7_isReserved_115 ?_
    obtain ⟨_, e56, hf⟩ := zbind hf
    obtain ⟨x59, h57, e58, hf⟩ := zbind2 hf
    refine zr_callV_r C0 cv_X7_131_J9 rfl (zcko e56) (m_J9_equals_J9 C0.2.2.2.2.2.2.1 e58) (by decide) (by decide) rfl rfl (Nat.le_of_ble_eq_true rfl) dX7_isReserved_117 rfl ?_
    refine zr_if_eq C0 (tgt := 241) dX7_isReserved_120 (by decide) (fun c60 => ?_) (fun c60 => ?_)
    · have hf := zif_t c60 hf
      refine zr_sub [0] rfl ?_
      exact w_X7_isReserved_b241 C0 hf
    · have hf := zif_f c60 hf
      refine zr_iconst C0 (v := 1) dX7_isReserved_123 (by decide) ?_
      refine zr_istore_n (i := 2) (lv' := [(2, .int (1 : Int32)), (1, .ref x1), (0, .ref p0)]) C0 dX7_isReserved_124 rfl (by decide) (by first | rfl | simp [zst1, zst2, zcat_rf]) ?_
      refine zr_goto C0 (tgt := 241) dX7_isReserved_125 (by decide) ?_
      refine zr_sub [0] rfl ?_
      exact w_X7_isReserved_b241 C0 hf
  have hf := zif_f c55 hf
  rcases Decidable.em (x6 = 570402602) with c61 | c61
  · have hf := zif_t c61 hf
    refine zr_lookup C0 (tgt := 170) (off := 159) dX7_isReserved_11 (by decide) (by rw [c61]; decide) (by decide) ?_
    refine zr_aload_n C0 dX7_isReserved_170 rfl 1 rfl ?_
    refine zr_ldcS C0 (i := 20) rfl dX7_isReserved_171 ?_
    obtain ⟨_, e62, hf⟩ := zbind hf
    obtain ⟨x65, h63, e64, hf⟩ := zbind2 hf
    refine zr_callV_r C0 cv_X7_131_J9 rfl (zcko e62) (m_J9_equals_J9 C0.2.2.2.2.2.2.1 e64) (by decide) (by decide) rfl rfl (Nat.le_of_ble_eq_true rfl) dX7_isReserved_173 rfl ?_
    refine zr_if_eq C0 (tgt := 241) dX7_isReserved_176 (by decide) (fun c66 => ?_) (fun c66 => ?_)
    · have hf := zif_t c66 hf
      refine zr_sub [0] rfl ?_
      exact w_X7_isReserved_b241 C0 hf
    · have hf := zif_f c66 hf
      refine zr_iconst C0 (v := 5) dX7_isReserved_179 (by decide) ?_
      refine zr_istore_n (i := 2) (lv' := [(2, .int (5 : Int32)), (1, .ref x1), (0, .ref p0)]) C0 dX7_isReserved_180 rfl (by decide) (by first | rfl | simp [zst1, zst2, zcat_rf]) ?_
      refine zr_goto C0 (tgt := 241) dX7_isReserved_181 (by decide) ?_
      refine zr_sub [0] rfl ?_
      exact w_X7_isReserved_b241 C0 hf
  have hf := zif_f c61 hf
  refine zr_lookup C0 (tgt := 241) (off := 230) dX7_isReserved_11 (by decide) (by show Op.lookupswitch.offset [(-1352291591, 145), (-1005516787, 131), (101254, 188), (3002509, 117), (3443497, 89), (92668751, 173), (95467907, 203), (113319054, 218), (567722088, 103), (570402602, 159)] _ _ = _; rw [lv_osw c7 (by decide), lv_osw c13 (by decide), lv_osw c19 (by decide), lv_osw c25 (by decide), lv_osw c31 (by decide), lv_osw c37 (by decide), lv_osw c43 (by decide), lv_osw c49 (by decide), lv_osw c55 (by decide), lv_osw c61 (by decide)]; rfl) (by decide) ?_
  refine zr_sub [0] rfl ?_
  exact w_X7_isReserved_b241 C0 hf
def f_X7_isReserved (E : zE) (p0 : Nat) (h : zH) : Option (Int32 × zH) := f_X7_isReserved_b0 E p0 h
theorem m_X7_isReserved {l : Launch} (hst : l.stackTraces = false) {D : zD} {B0 : Nat} {E : zE} {p0 : Nat} {h h' : zH} {r : Int32} (hf : f_X7_isReserved E p0 h = some (r, h')) : zMet l yX7_isReserved (ws_ yX7_isReserved cX7_isReserved 3 (Option.some Jvm.ClassFile.FieldType.boolean)) 5 150 D B0 E [.ref p0] h (zoI r) h' := by
  unfold f_X7_isReserved at hf
  refine zMet_of hst (by decide +kernel) rfl rfl (Nat.le_of_ble_eq_true rfl) (fun p e R s m below meth c C0 hno => ?_)
  show zW _ _ _ _ _ _ _ _ _ _ _ _ _ _ _ _ [(0, .ref p0)] []
  exact w_X7_isReserved_b0 C0 hf
def f_J9_contentEquals_J9_b0 (E : zE) (p0 : Nat) (p1 : Nat) (h : zH) : Option (Int32 × zH) :=
  (cko h p1 19).bind fun _ =>
  if (0 : Int32) = 0 then (
    (cko h p1 19).bind fun _ =>
    if (1 : Int32) = 0 then (
      none
    ) else (
      (cko h p0 19).bind fun _ =>
      bnd2 (f_J9_equals_J9 E p0 p1 h) fun x8 h6 =>
      (zgd .boolean x8).bind fun _ =>
      some (x8, h6)
    )
  ) else (
    (cko h p1 19).bind fun _ =>
    none
  )
theorem w_J9_contentEquals_J9_b0 (C0 : zCx p l e R s m args below meth c D B0 5 "java/lang/String" cJ9_contentEquals E 3 104 (Option.some Jvm.ClassFile.FieldType.boolean) "contentEquals") (ht : c.exceptionTable.toList = tableOf [((18 : Nat), (28 : Nat), (29 : Nat), (0 : Nat)), ((29 : Nat), (32 : Nat), (29 : Nat), (0 : Nat))]) {r : Int32} {h' : zH} {p0 : Nat} {p1 : Nat} {h : zH} (hf : f_J9_contentEquals_J9_b0 E p0 p1 h = some (r, h')) : zW p l e R s m args below meth c D B0 5 (zEnd D B0 R below args s (zoI r) h') h 0 [(0, .ref p0), (1, .ref p1)] [] := by
  unfold f_J9_contentEquals_J9_b0 at hf
  refine zr_aload_n C0 dJ9_contentEquals_0 rfl 1 rfl ?_
  obtain ⟨_, e1, hf⟩ := zbind hf
  refine zr_instN C0 (ci := 19) rfl (zcko e1) q1151 (by decide +kernel) dJ9_contentEquals_1 ?_
  refine zr_if_eq C0 (tgt := 43) dJ9_contentEquals_4 (by decide) (fun c2 => ?_) (fun c2 => ?_)
  · have hf := zif_t c2 hf
    refine zr_aload_n C0 dJ9_contentEquals_43 rfl 1 rfl ?_
    obtain ⟨_, e3, hf⟩ := zbind hf
    refine zr_instS C0 (ci := 19) rfl (zcko e3) q1270 dJ9_contentEquals_44 ?_
    refine zr_if_eq C0 (tgt := 56) dJ9_contentEquals_47 (by decide) (fun c4 => ?_) (fun c4 => ?_)
    · have hf := zif_t c4 hf
      refine zr_aload_n C0 dJ9_contentEquals_56 rfl 1 rfl ?_
      cases hf
    · have hf := zif_f c4 hf
      refine zr_aload_n C0 dJ9_contentEquals_50 rfl 0 rfl ?_
      refine zr_aload_n C0 dJ9_contentEquals_51 rfl 1 rfl ?_
      obtain ⟨_, e5, hf⟩ := zbind hf
      obtain ⟨x8, h6, e7, hf⟩ := zbind2 hf
      refine zr_callV_r C0 cv_J9_571_J9 rfl (zcko e5) (m_J9_equals_J9 C0.2.2.2.2.2.2.1 e7) (by decide) (by decide) rfl rfl (Nat.le_of_ble_eq_true rfl) dJ9_contentEquals_52 rfl ?_
      obtain ⟨_, e9, hf⟩ := zbind hf
      refine zretW hf ?_
      exact zr_iret C0 (ty := .boolean) rfl (zgd_n e9) dJ9_contentEquals_55 rfl
  · have hf := zif_f c2 hf
    refine zr_aload_n C0 dJ9_contentEquals_7 rfl 1 rfl ?_
    obtain ⟨_, e10, hf⟩ := zbind hf
    cases hf
def f_J9_contentEquals_J9 (E : zE) (p0 : Nat) (p1 : Nat) (h : zH) : Option (Int32 × zH) := f_J9_contentEquals_J9_b0 E p0 p1 h
theorem m_J9_contentEquals_J9 {l : Launch} (hst : l.stackTraces = false) {D : zD} {B0 : Nat} {E : zE} {p0 : Nat} {p1 : Nat} {h h' : zH} {r : Int32} (hf : f_J9_contentEquals_J9 E p0 p1 h = some (r, h')) : zMet l yJ9_contentEquals (wsW_ yJ9_contentEquals cJ9_contentEquals 5 (Option.some Jvm.ClassFile.FieldType.boolean) [((18 : Nat), (28 : Nat), (29 : Nat), (0 : Nat)), ((29 : Nat), (32 : Nat), (29 : Nat), (0 : Nat))]) 3 104 D B0 E [.ref p0, .ref p1] h (zoI r) h' := by
  unfold f_J9_contentEquals_J9 at hf
  refine zMet_ofH hst (by decide +kernel) rfl rfl (Nat.le_of_ble_eq_true rfl) (fun p e R s m below meth c C0 ht => ?_)
  show zW _ _ _ _ _ _ _ _ _ _ _ _ _ _ _ _ [(0, .ref p0), (1, .ref p1)] []
  exact w_J9_contentEquals_J9_b0 C0 ht hf
def f_X2_named_J9_l2 (E : zE) : Nat → Nat → Nat → Int32 → zH → Option (Int32 × zH)
  | 0, _, _, _, _ => none
  | n + 1, p0, p1, p2, h =>
    (gR h p0 2 1).bind fun x1 =>
    (cko h x1 15).bind fun _ =>
    bnd2 (f_J2_size E x1 h) fun x6 h4 =>
    if x6 ≤ p2 then (
      some ((-1 : Int32), h4)
    ) else (
      (gR h4 p0 2 1).bind fun x8 =>
      (cko h4 x8 15).bind fun _ =>
      bnd2 (f_J2_get E x8 p2 h4) fun x13 h11 =>
      (cko h11 x13 19).bind fun _ =>
      (cko h11 x13 19).bind fun _ =>
      bnd2 (f_J9_contentEquals_J9 E x13 p1 h11) fun x18 h16 =>
      if x18 = 0 then (
        f_X2_named_J9_l2 E n p0 p1 (p2 + 1) h16
      ) else (
        some (p2, h16)
      )
    )
theorem w_X2_named_J9_l2 (C0 : zCx p l e R s m args below meth c D B0 3 "FranchiseLedger$Rules" cX2_named E 4 128 (Option.some Jvm.ClassFile.FieldType.int) "named") {r : Int32} {h' : zH} : ∀ (n : Nat) (p0 : Nat) (p1 : Nat) (p2 : Int32) (h : zH), f_X2_named_J9_l2 E n p0 p1 p2 h = some (r, h') → zW p l e R s m args below meth c D B0 3 (zEnd D B0 R below args s (zoI r) h') h 2 [(0, .ref p0), (1, .ref p1), (2, .int p2)] [] := by
  intro n
  induction n with
  | zero =>
    intro p0 p1 p2 h hf
    unfold f_X2_named_J9_l2 at hf
    cases hf
  | succ n ih =>
    intro p0 p1 p2 h hf
    unfold f_X2_named_J9_l2 at hf
    refine zr_iload_n C0 dX2_named_2 rfl 2 rfl ?_
    refine zr_aload_n C0 dX2_named_3 rfl 0 rfl ?_
    obtain ⟨x1, e2, hf⟩ := zbind hf
    refine zr_get C0 fl_X2_20_X2 dX2_named_4 (zgR e2) ?_
    obtain ⟨_, e3, hf⟩ := zbind hf
    obtain ⟨x6, h4, e5, hf⟩ := zbind2 hf
    refine zr_callF_r C0 cv_X2_36_J2 rfl (zcko e3) (m_J2_size C0.2.2.2.2.2.2.1 e5) (by decide) (by decide) rfl rfl (Nat.le_of_ble_eq_true rfl) dX2_named_7 rfl ?_
    refine zr_icmp_ge C0 (tgt := 43) dX2_named_12 (by decide) (fun c7 => ?_) (fun c7 => ?_)
    · have hf := zif_t c7 hf
      refine zr_iconst C0 (v := -1) dX2_named_43 (by decide) ?_
      refine zretW hf ?_
      exact zr_iret C0 (ty := .int) rfl rfl dX2_named_44 rfl
    · have hf := zif_f c7 hf
      refine zr_aload_n C0 dX2_named_15 rfl 0 rfl ?_
      obtain ⟨x8, e9, hf⟩ := zbind hf
      refine zr_get C0 fl_X2_20_X2 dX2_named_16 (zgR e9) ?_
      refine zr_iload_n C0 dX2_named_19 rfl 2 rfl ?_
      obtain ⟨_, e10, hf⟩ := zbind hf
      obtain ⟨x13, h11, e12, hf⟩ := zbind2 hf
      refine zr_callF_r C0 cv_X2_42_J2 rfl (zcko e10) (m_J2_get C0.2.2.2.2.2.2.1 e12) (by decide) (by decide) rfl rfl (Nat.le_of_ble_eq_true rfl) dX2_named_20 rfl ?_
      obtain ⟨_, e14, hf⟩ := zbind hf
      refine zr_castS C0 (ci := 19) rfl (zcko e14) q1146 dX2_named_25 ?_
      refine zr_aload_n C0 dX2_named_28 rfl 1 rfl ?_
      obtain ⟨_, e15, hf⟩ := zbind hf
      obtain ⟨x18, h16, e17, hf⟩ := zbind2 hf
      refine zr_callVX_r C0 cv_X2_48_J9 rfl (zcko e15) (m_J9_contentEquals_J9 C0.2.2.2.2.2.2.1 e17) (by decide) (by decide) rfl rfl (Nat.le_of_ble_eq_true rfl) dX2_named_29 rfl ?_
      refine zr_if_eq C0 (tgt := 37) dX2_named_32 (by decide) (fun c19 => ?_) (fun c19 => ?_)
      · have hf := zif_t c19 hf
        refine zr_iinc (lv' := [(2, .int (p2 + 1)), (0, .ref p0), (1, .ref p1)]) C0 dX2_named_37 2 rfl rfl (by decide) (by first | rfl | simp [zst1, zst2, zcat_rf]) ?_
        refine zr_goto C0 (tgt := 2) dX2_named_40 (by decide) ?_
        refine zr_sub [1, 2, 0] rfl ?_
        exact ih _ _ _ _ hf
      · have hf := zif_f c19 hf
        refine zr_iload_n C0 dX2_named_35 rfl 2 rfl ?_
        refine zretW hf ?_
        exact zr_iret C0 (ty := .int) rfl rfl dX2_named_36 rfl
def f_X2_named_J9_b0 (E : zE) (p0 : Nat) (p1 : Nat) (h : zH) : Option (Int32 × zH) :=
  f_X2_named_J9_l2 E E.1 p0 p1 (0 : Int32) h
theorem w_X2_named_J9_b0 (C0 : zCx p l e R s m args below meth c D B0 3 "FranchiseLedger$Rules" cX2_named E 4 128 (Option.some Jvm.ClassFile.FieldType.int) "named") {r : Int32} {h' : zH} {p0 : Nat} {p1 : Nat} {h : zH} (hf : f_X2_named_J9_b0 E p0 p1 h = some (r, h')) : zW p l e R s m args below meth c D B0 3 (zEnd D B0 R below args s (zoI r) h') h 0 [(0, .ref p0), (1, .ref p1)] [] := by
  unfold f_X2_named_J9_b0 at hf
  refine zr_iconst C0 (v := 0) dX2_named_0 (by decide) ?_
  refine zr_istore_n (i := 2) (lv' := [(2, .int (0 : Int32)), (0, .ref p0), (1, .ref p1)]) C0 dX2_named_1 rfl (by decide) (by first | rfl | simp [zst1, zst2, zcat_rf]) ?_
  refine zr_sub [1, 2, 0] rfl ?_
  exact w_X2_named_J9_l2 C0 _ _ _ _ _ hf
def f_X2_named_J9 (E : zE) (p0 : Nat) (p1 : Nat) (h : zH) : Option (Int32 × zH) := f_X2_named_J9_b0 E p0 p1 h
theorem m_X2_named_J9 {l : Launch} (hst : l.stackTraces = false) {D : zD} {B0 : Nat} {E : zE} {p0 : Nat} {p1 : Nat} {h h' : zH} {r : Int32} (hf : f_X2_named_J9 E p0 p1 h = some (r, h')) : zMet l yX2_named (ws_ yX2_named cX2_named 3 (Option.some Jvm.ClassFile.FieldType.int)) 4 128 D B0 E [.ref p0, .ref p1] h (zoI r) h' := by
  unfold f_X2_named_J9 at hf
  refine zMet_of hst (by decide +kernel) rfl rfl (Nat.le_of_ble_eq_true rfl) (fun p e R s m below meth c C0 hno => ?_)
  show zW _ _ _ _ _ _ _ _ _ _ _ _ _ _ _ _ [(0, .ref p0), (1, .ref p1)] []
  exact w_X2_named_J9_b0 C0 hf
def f_X7_namedIn_b45 (E : zE) (p0 : Nat) (p2 : Int32) (s0 : Nat) (s1 : Int32) (h : zH) : Option ((Int32 ⊕ (Nat × Nat)) × zH) :=
  (cko h s0 6).bind fun _ =>
  bnd2 (f_X7_require E s0 s1 (3 : Int32) h) fun x4 h2 =>
  Sum.elim (fun x5 => (
    (cko h2 p0 6).bind fun _ =>
    bnd2 (f_X7_scan E p0 h2) fun x10 h8 =>
    some (.inl p2, h8)
  )) (fun q6 => (
    some (.inr q6, h2)
  )) x4
theorem w_X7_namedIn_b45 (C0 : zCx p l e R s m args below meth c D B0 3 "FranchiseLedger$Reader" cX7_namedIn E 11 284 (Option.some Jvm.ClassFile.FieldType.int) "namedIn") (hno : ∀ x ∈ c.exceptionTable.toList, False) {r : (Int32 ⊕ (Nat × Nat))} {h' : zH} {p0 : Nat} {p2 : Int32} {s0 : Nat} {s1 : Int32} {h : zH} (hf : f_X7_namedIn_b45 E p0 p2 s0 s1 h = some (r, h')) : zW p l e R s m args below meth c D B0 3 (zEnd D B0 R below args s (zoT zoI r) h') h 45 [(0, .ref p0), (2, .int p2)] [.int s1, .ref s0] := by
  unfold f_X7_namedIn_b45 at hf
  refine zr_iconst C0 (v := 3) dX7_namedIn_45 (by decide) ?_
  obtain ⟨_, e1, hf⟩ := zbind hf
  obtain ⟨x4, h2, e3, hf⟩ := zbind2 hf
  rcases x4 with x5 | q6
  · have hf := zinl hf
    refine zr_callV_r C0 cv_X7_116_X7 rfl (zcko e1) (m_X7_require C0.2.2.2.2.2.2.1 e3) (by decide) (by decide) rfl rfl (Nat.le_of_ble_eq_true rfl) dX7_namedIn_46 rfl ?_
    refine zr_aload_n C0 dX7_namedIn_49 rfl 0 rfl ?_
    obtain ⟨_, e7, hf⟩ := zbind hf
    obtain ⟨x10, h8, e9, hf⟩ := zbind2 hf
    refine zr_callV_r C0 cv_X7_50_X7 rfl (zcko e7) (m_X7_scan C0.2.2.2.2.2.2.1 e9) (by decide) (by decide) rfl rfl (Nat.le_of_ble_eq_true rfl) dX7_namedIn_50 rfl ?_
    refine zr_iload_n C0 dX7_namedIn_53 rfl 1 rfl ?_
    refine zretW hf ?_
    exact zr_iret C0 (ty := .int) rfl rfl dX7_namedIn_54 rfl
  · have hf := zinr hf
    refine zretW hf ?_
    exact zr_callV_t C0 cv_X7_116_X7 rfl (zcko e1) (m_X7_require C0.2.2.2.2.2.2.1 e3) (by decide) (by decide) rfl rfl (Nat.le_of_ble_eq_true rfl) dX7_namedIn_46 (zr_out C0 hno rfl)
def f_X7_namedIn_b21 (E : zE) (p0 : Nat) (p1 : Nat) (s0 : Nat) (s1 : Int32) (h : zH) : Option ((Int32 ⊕ (Nat × Nat)) × zH) :=
  (cko h s0 6).bind fun _ =>
  bnd2 (f_X7_require E s0 s1 (1 : Int32) h) fun x4 h2 =>
  Sum.elim (fun x5 => (
    (gR h2 p0 6 7).bind fun x7 =>
    (cko h2 p1 2).bind fun _ =>
    bnd2 (f_X2_named_J9 E p1 x7 h2) fun x12 h10 =>
    if x12 = (-1 : Int32) then (
      f_X7_namedIn_b45 E p0 x12 p0 (0 : Int32) h10
    ) else (
      f_X7_namedIn_b45 E p0 x12 p0 (1 : Int32) h10
    )
  )) (fun q6 => (
    some (.inr q6, h2)
  )) x4
theorem w_X7_namedIn_b21 (C0 : zCx p l e R s m args below meth c D B0 3 "FranchiseLedger$Reader" cX7_namedIn E 11 284 (Option.some Jvm.ClassFile.FieldType.int) "namedIn") (hno : ∀ x ∈ c.exceptionTable.toList, False) {r : (Int32 ⊕ (Nat × Nat))} {h' : zH} {p0 : Nat} {p1 : Nat} {s0 : Nat} {s1 : Int32} {h : zH} (hf : f_X7_namedIn_b21 E p0 p1 s0 s1 h = some (r, h')) : zW p l e R s m args below meth c D B0 3 (zEnd D B0 R below args s (zoT zoI r) h') h 21 [(0, .ref p0), (1, .ref p1)] [.int s1, .ref s0] := by
  unfold f_X7_namedIn_b21 at hf
  refine zr_iconst C0 (v := 1) dX7_namedIn_21 (by decide) ?_
  obtain ⟨_, e1, hf⟩ := zbind hf
  obtain ⟨x4, h2, e3, hf⟩ := zbind2 hf
  rcases x4 with x5 | q6
  · have hf := zinl hf
    refine zr_callV_r C0 cv_X7_116_X7 rfl (zcko e1) (m_X7_require C0.2.2.2.2.2.2.1 e3) (by decide) (by decide) rfl rfl (Nat.le_of_ble_eq_true rfl) dX7_namedIn_22 rfl ?_
    refine zr_aload_n C0 dX7_namedIn_25 rfl 1 rfl ?_
    refine zr_aload_n C0 dX7_namedIn_26 rfl 0 rfl ?_
    obtain ⟨x7, e8, hf⟩ := zbind hf
    refine zr_get C0 fl_X7_33_X7 dX7_namedIn_27 (zgR e8) ?_
    obtain ⟨_, e9, hf⟩ := zbind hf
    obtain ⟨x12, h10, e11, hf⟩ := zbind2 hf
    refine zr_callV_r C0 cv_X7_187_X2 rfl (zcko e9) (m_X2_named_J9 C0.2.2.2.2.2.2.1 e11) (by decide) (by decide) rfl rfl (Nat.le_of_ble_eq_true rfl) dX7_namedIn_30 rfl ?_
    refine zr_istore_n (i := 2) (lv' := [(2, .int x12), (0, .ref p0), (1, .ref p1)]) C0 dX7_namedIn_33 rfl (by decide) (by first | rfl | simp [zst1, zst2, zcat_rf]) ?_
    refine zr_aload_n C0 dX7_namedIn_34 rfl 1 rfl ?_
    refine zr_iload_n C0 dX7_namedIn_35 rfl 0 rfl ?_
    refine zr_iconst C0 (v := -1) dX7_namedIn_36 (by decide) ?_
    refine zr_icmp_eq C0 (tgt := 44) dX7_namedIn_37 (by decide) (fun c13 => ?_) (fun c13 => ?_)
    · have hf := zif_t c13 hf
      refine zr_iconst C0 (v := 0) dX7_namedIn_44 (by decide) ?_
      refine zr_sub [1, 0] rfl ?_
      exact w_X7_namedIn_b45 C0 hno hf
    · have hf := zif_f c13 hf
      refine zr_iconst C0 (v := 1) dX7_namedIn_40 (by decide) ?_
      refine zr_goto C0 (tgt := 45) dX7_namedIn_41 (by decide) ?_
      refine zr_sub [1, 0] rfl ?_
      exact w_X7_namedIn_b45 C0 hno hf
  · have hf := zinr hf
    refine zretW hf ?_
    exact zr_callV_t C0 cv_X7_116_X7 rfl (zcko e1) (m_X7_require C0.2.2.2.2.2.2.1 e3) (by decide) (by decide) rfl rfl (Nat.le_of_ble_eq_true rfl) dX7_namedIn_22 (zr_out C0 hno rfl)
def f_X7_namedIn_b20 (E : zE) (p0 : Nat) (p1 : Nat) (s0 : Nat) (h : zH) : Option ((Int32 ⊕ (Nat × Nat)) × zH) :=
  f_X7_namedIn_b21 E p0 p1 s0 (0 : Int32) h
theorem w_X7_namedIn_b20 (C0 : zCx p l e R s m args below meth c D B0 3 "FranchiseLedger$Reader" cX7_namedIn E 11 284 (Option.some Jvm.ClassFile.FieldType.int) "namedIn") (hno : ∀ x ∈ c.exceptionTable.toList, False) {r : (Int32 ⊕ (Nat × Nat))} {h' : zH} {p0 : Nat} {p1 : Nat} {s0 : Nat} {h : zH} (hf : f_X7_namedIn_b20 E p0 p1 s0 h = some (r, h')) : zW p l e R s m args below meth c D B0 3 (zEnd D B0 R below args s (zoT zoI r) h') h 20 [(0, .ref p0), (1, .ref p1)] [.ref s0] := by
  unfold f_X7_namedIn_b20 at hf
  refine zr_iconst C0 (v := 0) dX7_namedIn_20 (by decide) ?_
  exact w_X7_namedIn_b21 C0 hno hf
def f_X7_namedIn_b0 (E : zE) (p0 : Nat) (p1 : Nat) (h : zH) : Option ((Int32 ⊕ (Nat × Nat)) × zH) :=
  (gI h p0 6 5).bind fun x1 =>
  if x1 = (1 : Int32) then (
    (cko h p0 6).bind fun _ =>
    bnd2 (f_X7_isReserved E p0 h) fun x7 h5 =>
    if x7 = 0 then (
      f_X7_namedIn_b21 E p0 p1 p0 (1 : Int32) h5
    ) else (
      f_X7_namedIn_b20 E p0 p1 p0 h5
    )
  ) else (
    f_X7_namedIn_b20 E p0 p1 p0 h
  )
theorem w_X7_namedIn_b0 (C0 : zCx p l e R s m args below meth c D B0 3 "FranchiseLedger$Reader" cX7_namedIn E 11 284 (Option.some Jvm.ClassFile.FieldType.int) "namedIn") (hno : ∀ x ∈ c.exceptionTable.toList, False) {r : (Int32 ⊕ (Nat × Nat))} {h' : zH} {p0 : Nat} {p1 : Nat} {h : zH} (hf : f_X7_namedIn_b0 E p0 p1 h = some (r, h')) : zW p l e R s m args below meth c D B0 3 (zEnd D B0 R below args s (zoT zoI r) h') h 0 [(0, .ref p0), (1, .ref p1)] [] := by
  unfold f_X7_namedIn_b0 at hf
  refine zr_aload_n C0 dX7_namedIn_0 rfl 0 rfl ?_
  refine zr_aload_n C0 dX7_namedIn_1 rfl 0 rfl ?_
  obtain ⟨x1, e2, hf⟩ := zbind hf
  refine zr_get C0 fl_X7_79_X7 dX7_namedIn_2 (zgI e2) ?_
  refine zr_iconst C0 (v := 1) dX7_namedIn_5 (by decide) ?_
  refine zr_icmp_ne C0 (tgt := 20) dX7_namedIn_6 (by decide) (fun c3 => ?_) (fun c3 => ?_)
  · have hf := zif_f c3 hf
    exact w_X7_namedIn_b20 C0 hno hf
  · have hf := zif_t c3 hf
    refine zr_aload_n C0 dX7_namedIn_9 rfl 0 rfl ?_
    obtain ⟨_, e4, hf⟩ := zbind hf
    obtain ⟨x7, h5, e6, hf⟩ := zbind2 hf
    refine zr_callV_r C0 cv_X7_184_X7 rfl (zcko e4) (m_X7_isReserved C0.2.2.2.2.2.2.1 e6) (by decide) (by decide) rfl rfl (Nat.le_of_ble_eq_true rfl) dX7_namedIn_10 rfl ?_
    refine zr_if_ne C0 (tgt := 20) dX7_namedIn_13 (by decide) (fun c8 => ?_) (fun c8 => ?_)
    · have hf := zif_f c8 hf
      exact w_X7_namedIn_b20 C0 hno hf
    · have hf := zif_t c8 hf
      refine zr_iconst C0 (v := 1) dX7_namedIn_16 (by decide) ?_
      refine zr_goto C0 (tgt := 21) dX7_namedIn_17 (by decide) ?_
      exact w_X7_namedIn_b21 C0 hno hf
def f_X7_namedIn (E : zE) (p0 : Nat) (p1 : Nat) (h : zH) : Option ((Int32 ⊕ (Nat × Nat)) × zH) := f_X7_namedIn_b0 E p0 p1 h
theorem m_X7_namedIn {l : Launch} (hst : l.stackTraces = false) {D : zD} {B0 : Nat} {E : zE} {p0 : Nat} {p1 : Nat} {h h' : zH} {r : (Int32 ⊕ (Nat × Nat))} (hf : f_X7_namedIn E p0 p1 h = some (r, h')) : zMet l yX7_namedIn (ws_ yX7_namedIn cX7_namedIn 3 (Option.some Jvm.ClassFile.FieldType.int)) 11 284 D B0 E [.ref p0, .ref p1] h (zoT zoI r) h' := by
  unfold f_X7_namedIn at hf
  refine zMet_of hst (by decide +kernel) rfl rfl (Nat.le_of_ble_eq_true rfl) (fun p e R s m below meth c C0 hno => ?_)
  show zW _ _ _ _ _ _ _ _ _ _ _ _ _ _ _ _ [(0, .ref p0), (1, .ref p1)] []
  exact w_X7_namedIn_b0 C0 hno hf
def f_X7_vote_b81 (E : zE) (p0 : Nat) (p1 : Int32) (p2 : Int32) (s0 : Int32) (h : zH) : Option ((Nat ⊕ (Nat × Nat)) × zH) :=
  (cko h p0 6).bind fun _ =>
  bnd2 (f_X7_scan E p0 h) fun x4 h2 =>
  bnd2 (nO h2 14 5 [.int 0, .int 0, .int 0, .int 0, .long 0]) fun q5 h6 =>
  bnd2 (f_X15_init E q5 (5 : Int32) p1 p2 s0 (0 : Int64) h6) fun x10 h8 =>
  some (.inl q5, h8)
theorem w_X7_vote_b81 (C0 : zCx p l e R s m args below meth c D B0 4 "FranchiseLedger$Reader" cX7_vote E 12 307 (Option.some (Jvm.ClassFile.FieldType.object "FranchiseLedger$Posting")) "vote") (hno : ∀ x ∈ c.exceptionTable.toList, False) {r : (Nat ⊕ (Nat × Nat))} {h' : zH} {p0 : Nat} {p1 : Int32} {p2 : Int32} {s0 : Int32} {h : zH} (hf : f_X7_vote_b81 E p0 p1 p2 s0 h = some (r, h')) : zW p l e R s m args below meth c D B0 4 (zEnd D B0 R below args s (zoT zoR r) h') h 81 [(0, .ref p0), (1, .int p1), (2, .int p2)] [.int s0] := by
  unfold f_X7_vote_b81 at hf
  refine zr_istore_n (i := 3) (lv' := [(3, .int s0), (0, .ref p0), (1, .int p1), (2, .int p2)]) C0 dX7_vote_81 rfl (by decide) (by first | rfl | simp [zst1, zst2, zcat_rf]) ?_
  refine zr_aload_n C0 dX7_vote_82 rfl 1 rfl ?_
  obtain ⟨_, e1, hf⟩ := zbind hf
  obtain ⟨x4, h2, e3, hf⟩ := zbind2 hf
  refine zr_callV_r C0 cv_X7_50_X7 rfl (zcko e1) (m_X7_scan C0.2.2.2.2.2.2.1 e3) (by decide) (by decide) rfl rfl (Nat.le_of_ble_eq_true rfl) dX7_vote_83 rfl ?_
  obtain ⟨q5, h6, e7, hf⟩ := zbind2 hf
  refine zr_newc C0 (C := RX15) (T := TX15) (N := 5) rfl in_X15 tyX15_ok q1528 q1529 q171 nw_X15 dX7_vote_86 e7 ?_
  refine zr_dup C0 dX7_vote_89 rfl ?_
  refine zr_iconst C0 (v := 5) dX7_vote_90 (by decide) ?_
  refine zr_iload_n C0 dX7_vote_91 rfl 2 rfl ?_
  refine zr_iload_n C0 dX7_vote_92 rfl 3 rfl ?_
  refine zr_iload_n C0 dX7_vote_93 rfl 0 rfl ?_
  refine zr_lconst C0 (v := 0) dX7_vote_94 (by decide) ?_
  obtain ⟨x10, h8, e9, hf⟩ := zbind2 hf
  refine zr_callIN_r C0 cv_X7_285 (m_X15_init C0.2.2.2.2.2.2.1 e9) (by decide) (by decide) rfl rfl (Nat.le_of_ble_eq_true rfl) dX7_vote_95 rfl ?_
  refine zretW hf ?_
  exact zr_aret C0 rfl (Or.inl ⟨_, rfl⟩) dX7_vote_98 rfl
def f_X7_vote_b59 (E : zE) (p0 : Nat) (p1 : Int32) (p2 : Int32) (s0 : Nat) (s1 : Int32) (h : zH) : Option ((Nat ⊕ (Nat × Nat)) × zH) :=
  (cko h s0 6).bind fun _ =>
  bnd2 (f_X7_require E s0 s1 (1 : Int32) h) fun x4 h2 =>
  Sum.elim (fun x5 => (
    (gR h2 p0 6 7).bind fun x7 =>
    (cko h2 x7 19).bind fun _ =>
    bnd2 (f_J9_equals_J9 E x7 (E.2.1 25) h2) fun x12 h10 =>
    if x12 = 0 then (
      f_X7_vote_b81 E p0 p1 p2 (0 : Int32) h10
    ) else (
      f_X7_vote_b81 E p0 p1 p2 (1 : Int32) h10
    )
  )) (fun q6 => (
    some (.inr q6, h2)
  )) x4
theorem w_X7_vote_b59 (C0 : zCx p l e R s m args below meth c D B0 4 "FranchiseLedger$Reader" cX7_vote E 12 307 (Option.some (Jvm.ClassFile.FieldType.object "FranchiseLedger$Posting")) "vote") (hno : ∀ x ∈ c.exceptionTable.toList, False) {r : (Nat ⊕ (Nat × Nat))} {h' : zH} {p0 : Nat} {p1 : Int32} {p2 : Int32} {s0 : Nat} {s1 : Int32} {h : zH} (hf : f_X7_vote_b59 E p0 p1 p2 s0 s1 h = some (r, h')) : zW p l e R s m args below meth c D B0 4 (zEnd D B0 R below args s (zoT zoR r) h') h 59 [(0, .ref p0), (1, .int p1), (2, .int p2)] [.int s1, .ref s0] := by
  unfold f_X7_vote_b59 at hf
  refine zr_iconst C0 (v := 1) dX7_vote_59 (by decide) ?_
  obtain ⟨_, e1, hf⟩ := zbind hf
  obtain ⟨x4, h2, e3, hf⟩ := zbind2 hf
  rcases x4 with x5 | q6
  · have hf := zinl hf
    refine zr_callV_r C0 cv_X7_116_X7 rfl (zcko e1) (m_X7_require C0.2.2.2.2.2.2.1 e3) (by decide) (by decide) rfl rfl (Nat.le_of_ble_eq_true rfl) dX7_vote_60 rfl ?_
    refine zr_aload_n C0 dX7_vote_63 rfl 0 rfl ?_
    obtain ⟨x7, e8, hf⟩ := zbind hf
    refine zr_get C0 fl_X7_33_X7 dX7_vote_64 (zgR e8) ?_
    refine zr_ldcwS C0 (i := 25) rfl dX7_vote_67 ?_
    obtain ⟨_, e9, hf⟩ := zbind hf
    obtain ⟨x12, h10, e11, hf⟩ := zbind2 hf
    refine zr_callV_r C0 cv_X7_131_J9 rfl (zcko e9) (m_J9_equals_J9 C0.2.2.2.2.2.2.1 e11) (by decide) (by decide) rfl rfl (Nat.le_of_ble_eq_true rfl) dX7_vote_70 rfl ?_
    refine zr_if_eq C0 (tgt := 80) dX7_vote_73 (by decide) (fun c13 => ?_) (fun c13 => ?_)
    · have hf := zif_t c13 hf
      refine zr_iconst C0 (v := 0) dX7_vote_80 (by decide) ?_
      exact w_X7_vote_b81 C0 hno hf
    · have hf := zif_f c13 hf
      refine zr_iconst C0 (v := 1) dX7_vote_76 (by decide) ?_
      refine zr_goto C0 (tgt := 81) dX7_vote_77 (by decide) ?_
      exact w_X7_vote_b81 C0 hno hf
  · have hf := zinr hf
    refine zretW hf ?_
    exact zr_callV_t C0 cv_X7_116_X7 rfl (zcko e1) (m_X7_require C0.2.2.2.2.2.2.1 e3) (by decide) (by decide) rfl rfl (Nat.le_of_ble_eq_true rfl) dX7_vote_60 (zr_out C0 hno rfl)
def f_X7_vote_b58 (E : zE) (p0 : Nat) (p1 : Int32) (p2 : Int32) (s0 : Nat) (h : zH) : Option ((Nat ⊕ (Nat × Nat)) × zH) :=
  f_X7_vote_b59 E p0 p1 p2 s0 (0 : Int32) h
theorem w_X7_vote_b58 (C0 : zCx p l e R s m args below meth c D B0 4 "FranchiseLedger$Reader" cX7_vote E 12 307 (Option.some (Jvm.ClassFile.FieldType.object "FranchiseLedger$Posting")) "vote") (hno : ∀ x ∈ c.exceptionTable.toList, False) {r : (Nat ⊕ (Nat × Nat))} {h' : zH} {p0 : Nat} {p1 : Int32} {p2 : Int32} {s0 : Nat} {h : zH} (hf : f_X7_vote_b58 E p0 p1 p2 s0 h = some (r, h')) : zW p l e R s m args below meth c D B0 4 (zEnd D B0 R below args s (zoT zoR r) h') h 58 [(0, .ref p0), (1, .int p1), (2, .int p2)] [.ref s0] := by
  unfold f_X7_vote_b58 at hf
  refine zr_iconst C0 (v := 0) dX7_vote_58 (by decide) ?_
  exact w_X7_vote_b59 C0 hno hf
def f_X7_vote_b54 (E : zE) (p0 : Nat) (p1 : Int32) (p2 : Int32) (s0 : Nat) (h : zH) : Option ((Nat ⊕ (Nat × Nat)) × zH) :=
  f_X7_vote_b59 E p0 p1 p2 s0 (1 : Int32) h
theorem w_X7_vote_b54 (C0 : zCx p l e R s m args below meth c D B0 4 "FranchiseLedger$Reader" cX7_vote E 12 307 (Option.some (Jvm.ClassFile.FieldType.object "FranchiseLedger$Posting")) "vote") (hno : ∀ x ∈ c.exceptionTable.toList, False) {r : (Nat ⊕ (Nat × Nat))} {h' : zH} {p0 : Nat} {p1 : Int32} {p2 : Int32} {s0 : Nat} {h : zH} (hf : f_X7_vote_b54 E p0 p1 p2 s0 h = some (r, h')) : zW p l e R s m args below meth c D B0 4 (zEnd D B0 R below args s (zoT zoR r) h') h 54 [(0, .ref p0), (1, .int p1), (2, .int p2)] [.ref s0] := by
  unfold f_X7_vote_b54 at hf
  refine zr_iconst C0 (v := 1) dX7_vote_54 (by decide) ?_
  refine zr_goto C0 (tgt := 59) dX7_vote_55 (by decide) ?_
  exact w_X7_vote_b59 C0 hno hf
def f_X7_vote_b0 (E : zE) (p0 : Nat) (h : zH) : Option ((Nat ⊕ (Nat × Nat)) × zH) :=
  (gR h p0 6 8).bind fun x1 =>
  (gR h x1 0 0).bind fun x3 =>
  (cko h p0 6).bind fun _ =>
  bnd2 (f_X7_namedIn E p0 x3 h) fun x8 h6 =>
  Sum.elim (fun x9 => (
    (cko h6 p0 6).bind fun _ =>
    bnd2 (f_X7_number E p0 (0 : Int32) (4 : Int32) h6) fun x14 h12 =>
    Sum.elim (fun x15 => (
      (gI h12 p0 6 5).bind fun x17 =>
      if x17 = (1 : Int32) then (
        (gR h12 p0 6 7).bind fun x20 =>
        (cko h12 x20 19).bind fun _ =>
        bnd2 (f_J9_equals_J9 E x20 (E.2.1 25) h12) fun x25 h23 =>
        if x25 = 0 then (
          (gR h23 p0 6 7).bind fun x27 =>
          (cko h23 x27 19).bind fun _ =>
          bnd2 (f_J9_equals_J9 E x27 (E.2.1 26) h23) fun x32 h30 =>
          if x32 = 0 then (
            f_X7_vote_b58 E p0 x9 x15 p0 h30
          ) else (
            f_X7_vote_b54 E p0 x9 x15 p0 h30
          )
        ) else (
          f_X7_vote_b54 E p0 x9 x15 p0 h23
        )
      ) else (
        f_X7_vote_b58 E p0 x9 x15 p0 h12
      )
    )) (fun q16 => (
      some (.inr q16, h12)
    )) x14
  )) (fun q10 => (
    some (.inr q10, h6)
  )) x8
theorem w_X7_vote_b0 (C0 : zCx p l e R s m args below meth c D B0 4 "FranchiseLedger$Reader" cX7_vote E 12 307 (Option.some (Jvm.ClassFile.FieldType.object "FranchiseLedger$Posting")) "vote") (hno : ∀ x ∈ c.exceptionTable.toList, False) {r : (Nat ⊕ (Nat × Nat))} {h' : zH} {p0 : Nat} {h : zH} (hf : f_X7_vote_b0 E p0 h = some (r, h')) : zW p l e R s m args below meth c D B0 4 (zEnd D B0 R below args s (zoT zoR r) h') h 0 [(0, .ref p0)] [] := by
  unfold f_X7_vote_b0 at hf
  refine zr_aload_n C0 dX7_vote_0 rfl 0 rfl ?_
  refine zr_aload_n C0 dX7_vote_1 rfl 0 rfl ?_
  obtain ⟨x1, e2, hf⟩ := zbind hf
  refine zr_get C0 fl_X7_3_X7 dX7_vote_2 (zgR e2) ?_
  obtain ⟨x3, e4, hf⟩ := zbind hf
  refine zr_get C0 fl_X7_288_X1 dX7_vote_5 (zgR e4) ?_
  obtain ⟨_, e5, hf⟩ := zbind hf
  obtain ⟨x8, h6, e7, hf⟩ := zbind2 hf
  rcases x8 with x9 | q10
  · have hf := zinl hf
    refine zr_callV_r C0 cv_X7_197_X7 rfl (zcko e5) (m_X7_namedIn C0.2.2.2.2.2.2.1 e7) (by decide) (by decide) rfl rfl (Nat.le_of_ble_eq_true rfl) dX7_vote_8 rfl ?_
    refine zr_istore_n (i := 1) (lv' := [(1, .int x9), (0, .ref p0)]) C0 dX7_vote_11 rfl (by decide) (by first | rfl | simp [zst1, zst2, zcat_rf]) ?_
    refine zr_aload_n C0 dX7_vote_12 rfl 1 rfl ?_
    refine zr_iconst C0 (v := 0) dX7_vote_13 (by decide) ?_
    refine zr_iconst C0 (v := 4) dX7_vote_14 (by decide) ?_
    obtain ⟨_, e11, hf⟩ := zbind hf
    obtain ⟨x14, h12, e13, hf⟩ := zbind2 hf
    rcases x14 with x15 | q16
    · have hf := zinl hf
      refine zr_callV_r C0 cv_X7_164_X7 rfl (zcko e11) (m_X7_number C0.2.2.2.2.2.2.1 e13) (by decide) (by decide) rfl rfl (Nat.le_of_ble_eq_true rfl) dX7_vote_15 rfl ?_
      refine zr_istore_n (i := 2) (lv' := [(2, .int x15), (1, .int x9), (0, .ref p0)]) C0 dX7_vote_18 rfl (by decide) (by first | rfl | simp [zst1, zst2, zcat_rf]) ?_
      refine zr_aload_n C0 dX7_vote_19 rfl 2 rfl ?_
      refine zr_aload_n C0 dX7_vote_20 rfl 2 rfl ?_
      obtain ⟨x17, e18, hf⟩ := zbind hf
      refine zr_get C0 fl_X7_79_X7 dX7_vote_21 (zgI e18) ?_
      refine zr_iconst C0 (v := 1) dX7_vote_24 (by decide) ?_
      refine zr_icmp_ne C0 (tgt := 58) dX7_vote_25 (by decide) (fun c19 => ?_) (fun c19 => ?_)
      · have hf := zif_f c19 hf
        refine zr_sub [2, 1, 0] rfl ?_
        exact w_X7_vote_b58 C0 hno hf
      · have hf := zif_t c19 hf
        refine zr_aload_n C0 dX7_vote_28 rfl 2 rfl ?_
        obtain ⟨x20, e21, hf⟩ := zbind hf
        refine zr_get C0 fl_X7_33_X7 dX7_vote_29 (zgR e21) ?_
        refine zr_ldcwS C0 (i := 25) rfl dX7_vote_32 ?_
        obtain ⟨_, e22, hf⟩ := zbind hf
        obtain ⟨x25, h23, e24, hf⟩ := zbind2 hf
        refine zr_callV_r C0 cv_X7_131_J9 rfl (zcko e22) (m_J9_equals_J9 C0.2.2.2.2.2.2.1 e24) (by decide) (by decide) rfl rfl (Nat.le_of_ble_eq_true rfl) dX7_vote_35 rfl ?_
        refine zr_if_ne C0 (tgt := 54) dX7_vote_38 (by decide) (fun c26 => ?_) (fun c26 => ?_)
        · have hf := zif_f c26 hf
          refine zr_sub [2, 1, 0] rfl ?_
          exact w_X7_vote_b54 C0 hno hf
        · have hf := zif_t c26 hf
          refine zr_aload_n C0 dX7_vote_41 rfl 2 rfl ?_
          obtain ⟨x27, e28, hf⟩ := zbind hf
          refine zr_get C0 fl_X7_33_X7 dX7_vote_42 (zgR e28) ?_
          refine zr_ldcwS C0 (i := 26) rfl dX7_vote_45 ?_
          obtain ⟨_, e29, hf⟩ := zbind hf
          obtain ⟨x32, h30, e31, hf⟩ := zbind2 hf
          refine zr_callV_r C0 cv_X7_131_J9 rfl (zcko e29) (m_J9_equals_J9 C0.2.2.2.2.2.2.1 e31) (by decide) (by decide) rfl rfl (Nat.le_of_ble_eq_true rfl) dX7_vote_48 rfl ?_
          refine zr_if_eq C0 (tgt := 58) dX7_vote_51 (by decide) (fun c33 => ?_) (fun c33 => ?_)
          · have hf := zif_t c33 hf
            refine zr_sub [2, 1, 0] rfl ?_
            exact w_X7_vote_b58 C0 hno hf
          · have hf := zif_f c33 hf
            refine zr_sub [2, 1, 0] rfl ?_
            exact w_X7_vote_b54 C0 hno hf
    · have hf := zinr hf
      refine zretW hf ?_
      exact zr_callV_t C0 cv_X7_164_X7 rfl (zcko e11) (m_X7_number C0.2.2.2.2.2.2.1 e13) (by decide) (by decide) rfl rfl (Nat.le_of_ble_eq_true rfl) dX7_vote_15 (zr_out C0 hno rfl)
  · have hf := zinr hf
    refine zretW hf ?_
    exact zr_callV_t C0 cv_X7_197_X7 rfl (zcko e5) (m_X7_namedIn C0.2.2.2.2.2.2.1 e7) (by decide) (by decide) rfl rfl (Nat.le_of_ble_eq_true rfl) dX7_vote_8 (zr_out C0 hno rfl)
def f_X7_vote (E : zE) (p0 : Nat) (h : zH) : Option ((Nat ⊕ (Nat × Nat)) × zH) := f_X7_vote_b0 E p0 h
theorem m_X7_vote {l : Launch} (hst : l.stackTraces = false) {D : zD} {B0 : Nat} {E : zE} {p0 : Nat} {h h' : zH} {r : (Nat ⊕ (Nat × Nat))} (hf : f_X7_vote E p0 h = some (r, h')) : zMet l yX7_vote (ws_ yX7_vote cX7_vote 4 (Option.some (Jvm.ClassFile.FieldType.object "FranchiseLedger$Posting"))) 12 307 D B0 E [.ref p0] h (zoT zoR r) h' := by
  unfold f_X7_vote at hf
  refine zMet_of hst (by decide +kernel) rfl rfl (Nat.le_of_ble_eq_true rfl) (fun p e R s m below meth c C0 hno => ?_)
  show zW _ _ _ _ _ _ _ _ _ _ _ _ _ _ _ _ [(0, .ref p0)] []
  exact w_X7_vote_b0 C0 hno hf
def f_X7_toFranchisee_b0 (E : zE) (p0 : Nat) (p1 : Int32) (h : zH) : Option ((Nat ⊕ (Nat × Nat)) × zH) :=
  (gR h p0 6 8).bind fun x1 =>
  (gR h x1 0 0).bind fun x3 =>
  (cko h p0 6).bind fun _ =>
  bnd2 (f_X7_namedIn E p0 x3 h) fun x8 h6 =>
  Sum.elim (fun x9 => (
    bnd2 (nO h6 14 5 [.int 0, .int 0, .int 0, .int 0, .long 0]) fun q11 h12 =>
    (cko h12 p0 6).bind fun _ =>
    bnd2 (f_X7_dollars E p0 (1 : Int32) (999999 : Int32) h12) fun x17 h15 =>
    Sum.elim (fun x18 => (
      bnd2 (f_X15_init E q11 p1 x9 (-1 : Int32) (-1 : Int32) x18 h15) fun x22 h20 =>
      some (.inl q11, h20)
    )) (fun q19 => (
      some (.inr q19, h15)
    )) x17
  )) (fun q10 => (
    some (.inr q10, h6)
  )) x8
theorem w_X7_toFranchisee_b0 (C0 : zCx p l e R s m args below meth c D B0 3 "FranchiseLedger$Reader" cX7_toFranchisee E 13 329 (Option.some (Jvm.ClassFile.FieldType.object "FranchiseLedger$Posting")) "toFranchisee") (hno : ∀ x ∈ c.exceptionTable.toList, False) {r : (Nat ⊕ (Nat × Nat))} {h' : zH} {p0 : Nat} {p1 : Int32} {h : zH} (hf : f_X7_toFranchisee_b0 E p0 p1 h = some (r, h')) : zW p l e R s m args below meth c D B0 3 (zEnd D B0 R below args s (zoT zoR r) h') h 0 [(0, .ref p0), (1, .int p1)] [] := by
  unfold f_X7_toFranchisee_b0 at hf
  refine zr_aload_n C0 dX7_toFranchisee_0 rfl 0 rfl ?_
  refine zr_aload_n C0 dX7_toFranchisee_1 rfl 0 rfl ?_
  obtain ⟨x1, e2, hf⟩ := zbind hf
  refine zr_get C0 fl_X7_3_X7 dX7_toFranchisee_2 (zgR e2) ?_
  obtain ⟨x3, e4, hf⟩ := zbind hf
  refine zr_get C0 fl_X7_288_X1 dX7_toFranchisee_5 (zgR e4) ?_
  obtain ⟨_, e5, hf⟩ := zbind hf
  obtain ⟨x8, h6, e7, hf⟩ := zbind2 hf
  rcases x8 with x9 | q10
  · have hf := zinl hf
    refine zr_callV_r C0 cv_X7_197_X7 rfl (zcko e5) (m_X7_namedIn C0.2.2.2.2.2.2.1 e7) (by decide) (by decide) rfl rfl (Nat.le_of_ble_eq_true rfl) dX7_toFranchisee_8 rfl ?_
    refine zr_istore_n (i := 2) (lv' := [(2, .int x9), (0, .ref p0), (1, .int p1)]) C0 dX7_toFranchisee_11 rfl (by decide) (by first | rfl | simp [zst1, zst2, zcat_rf]) ?_
    obtain ⟨q11, h12, e13, hf⟩ := zbind2 hf
    refine zr_newc C0 (C := RX15) (T := TX15) (N := 5) rfl in_X15 tyX15_ok q1528 q1529 q171 nw_X15 dX7_toFranchisee_12 e13 ?_
    refine zr_dup C0 dX7_toFranchisee_15 rfl ?_
    refine zr_iload_n C0 dX7_toFranchisee_16 rfl 2 rfl ?_
    refine zr_iload_n C0 dX7_toFranchisee_17 rfl 0 rfl ?_
    refine zr_iconst C0 (v := -1) dX7_toFranchisee_18 (by decide) ?_
    refine zr_iconst C0 (v := -1) dX7_toFranchisee_19 (by decide) ?_
    refine zr_aload_n C0 dX7_toFranchisee_20 rfl 1 rfl ?_
    refine zr_iconst C0 (v := 1) dX7_toFranchisee_21 (by decide) ?_
    refine zr_ldcw C0 (v := 999999) q1583 dX7_toFranchisee_22 ?_
    obtain ⟨_, e14, hf⟩ := zbind hf
    obtain ⟨x17, h15, e16, hf⟩ := zbind2 hf
    rcases x17 with x18 | q19
    · have hf := zinl hf
      refine zr_callV_r C0 cv_X7_281_X7 rfl (zcko e14) (m_X7_dollars C0.2.2.2.2.2.2.1 e16) (by decide) (by decide) rfl rfl (Nat.le_of_ble_eq_true rfl) dX7_toFranchisee_25 rfl ?_
      obtain ⟨x22, h20, e21, hf⟩ := zbind2 hf
      refine zr_callIN_r C0 cv_X7_285 (m_X15_init C0.2.2.2.2.2.2.1 e21) (by decide) (by decide) rfl rfl (Nat.le_of_ble_eq_true rfl) dX7_toFranchisee_28 rfl ?_
      refine zretW hf ?_
      exact zr_aret C0 rfl (Or.inl ⟨_, rfl⟩) dX7_toFranchisee_31 rfl
    · have hf := zinr hf
      refine zretW hf ?_
      exact zr_callV_t C0 cv_X7_281_X7 rfl (zcko e14) (m_X7_dollars C0.2.2.2.2.2.2.1 e16) (by decide) (by decide) rfl rfl (Nat.le_of_ble_eq_true rfl) dX7_toFranchisee_25 (zr_out C0 hno rfl)
  · have hf := zinr hf
    refine zretW hf ?_
    exact zr_callV_t C0 cv_X7_197_X7 rfl (zcko e5) (m_X7_namedIn C0.2.2.2.2.2.2.1 e7) (by decide) (by decide) rfl rfl (Nat.le_of_ble_eq_true rfl) dX7_toFranchisee_8 (zr_out C0 hno rfl)
def f_X7_toFranchisee (E : zE) (p0 : Nat) (p1 : Int32) (h : zH) : Option ((Nat ⊕ (Nat × Nat)) × zH) := f_X7_toFranchisee_b0 E p0 p1 h
theorem m_X7_toFranchisee {l : Launch} (hst : l.stackTraces = false) {D : zD} {B0 : Nat} {E : zE} {p0 : Nat} {p1 : Int32} {h h' : zH} {r : (Nat ⊕ (Nat × Nat))} (hf : f_X7_toFranchisee E p0 p1 h = some (r, h')) : zMet l yX7_toFranchisee (ws_ yX7_toFranchisee cX7_toFranchisee 3 (Option.some (Jvm.ClassFile.FieldType.object "FranchiseLedger$Posting"))) 13 329 D B0 E [.ref p0, .int p1] h (zoT zoR r) h' := by
  unfold f_X7_toFranchisee at hf
  refine zMet_of hst (by decide +kernel) rfl rfl (Nat.le_of_ble_eq_true rfl) (fun p e R s m below meth c C0 hno => ?_)
  show zW _ _ _ _ _ _ _ _ _ _ _ _ _ _ _ _ [(0, .ref p0), (1, .int p1)] []
  exact w_X7_toFranchisee_b0 C0 hno hf
def f_X7_posting_b107 (E : zE) (s0 : Nat) (h : zH) : Option ((Nat ⊕ (Nat × Nat)) × zH) :=
  some (.inl s0, h)
theorem w_X7_posting_b107 (C0 : zCx p l e R s m args below meth c D B0 2 "FranchiseLedger$Reader" cX7_posting E 14 352 (Option.some (Jvm.ClassFile.FieldType.object "FranchiseLedger$Posting")) "posting") (hno : ∀ x ∈ c.exceptionTable.toList, False) {r : (Nat ⊕ (Nat × Nat))} {h' : zH} {s0 : Nat} {h : zH} (hf : f_X7_posting_b107 E s0 h = some (r, h')) : zW p l e R s m args below meth c D B0 2 (zEnd D B0 R below args s (zoT zoR r) h') h 107 [] [.ref s0] := by
  unfold f_X7_posting_b107 at hf
  refine zretW hf ?_
  exact zr_aret C0 rfl (Or.inl ⟨_, rfl⟩) dX7_posting_107 rfl
def f_X7_posting_b58 (E : zE) (p0 : Nat) (p1 : Int32) (h : zH) : Option ((Nat ⊕ (Nat × Nat)) × zH) :=
  (cko h p0 6).bind fun _ =>
  bnd2 (f_X7_toFranchisee E p0 p1 h) fun x4 h2 =>
  Sum.elim (fun x5 => (
    f_X7_posting_b107 E x5 h2
  )) (fun q6 => (
    some (.inr q6, h2)
  )) x4
theorem w_X7_posting_b58 (C0 : zCx p l e R s m args below meth c D B0 2 "FranchiseLedger$Reader" cX7_posting E 14 352 (Option.some (Jvm.ClassFile.FieldType.object "FranchiseLedger$Posting")) "posting") (hno : ∀ x ∈ c.exceptionTable.toList, False) {r : (Nat ⊕ (Nat × Nat))} {h' : zH} {p0 : Nat} {p1 : Int32} {h : zH} (hf : f_X7_posting_b58 E p0 p1 h = some (r, h')) : zW p l e R s m args below meth c D B0 2 (zEnd D B0 R below args s (zoT zoR r) h') h 58 [(0, .ref p0), (1, .int p1)] [] := by
  unfold f_X7_posting_b58 at hf
  refine zr_aload_n C0 dX7_posting_58 rfl 0 rfl ?_
  refine zr_iload_n C0 dX7_posting_59 rfl 1 rfl ?_
  obtain ⟨_, e1, hf⟩ := zbind hf
  obtain ⟨x4, h2, e3, hf⟩ := zbind2 hf
  rcases x4 with x5 | q6
  · have hf := zinl hf
    refine zr_callV_r C0 cv_X7_316_X7 rfl (zcko e1) (m_X7_toFranchisee C0.2.2.2.2.2.2.1 e3) (by decide) (by decide) rfl rfl (Nat.le_of_ble_eq_true rfl) dX7_posting_60 rfl ?_
    refine zr_goto C0 (tgt := 107) dX7_posting_63 (by decide) ?_
    refine zr_sub [] rfl ?_
    exact w_X7_posting_b107 C0 hno hf
  · have hf := zinr hf
    refine zretW hf ?_
    exact zr_callV_t C0 cv_X7_316_X7 rfl (zcko e1) (m_X7_toFranchisee C0.2.2.2.2.2.2.1 e3) (by decide) (by decide) rfl rfl (Nat.le_of_ble_eq_true rfl) dX7_posting_60 (zr_out C0 hno rfl)
def f_X7_posting_b0 (E : zE) (p0 : Nat) (p1 : Int32) (h : zH) : Option ((Nat ⊕ (Nat × Nat)) × zH) :=
  (cko h p0 6).bind fun _ =>
  bnd2 (f_X7_scan E p0 h) fun x4 h2 =>
  if p1 = 0 then (
    (cko h2 p0 6).bind fun _ =>
    bnd2 (f_X7_sales E p0 h2) fun x9 h7 =>
    Sum.elim (fun x10 => (
      f_X7_posting_b107 E x10 h7
    )) (fun q11 => (
      some (.inr q11, h7)
    )) x9
  ) else (
  if p1 = 1 then (
    (cko h2 p0 6).bind fun _ =>
    bnd2 (f_X7_delivery E p0 h2) fun x16 h14 =>
    Sum.elim (fun x17 => (
      f_X7_posting_b107 E x17 h14
    )) (fun q18 => (
      some (.inr q18, h14)
    )) x16
  ) else (
  if p1 = 2 then (
    f_X7_posting_b58 E p0 p1 h2
  ) else (
  if p1 = 3 then (
    f_X7_posting_b58 E p0 p1 h2
  ) else (
  if p1 = 4 then (
    bnd2 (nO h2 14 5 [.int 0, .int 0, .int 0, .int 0, .long 0]) fun q22 h23 =>
    (cko h23 p0 6).bind fun _ =>
    bnd2 (f_X7_dollars E p0 (1 : Int32) (999999 : Int32) h23) fun x28 h26 =>
    Sum.elim (fun x29 => (
      bnd2 (f_X15_init E q22 p1 (-1 : Int32) (-1 : Int32) (-1 : Int32) x29 h26) fun x33 h31 =>
      f_X7_posting_b107 E q22 h31
    )) (fun q30 => (
      some (.inr q30, h26)
    )) x28
  ) else (
  if p1 = 5 then (
    (cko h2 p0 6).bind fun _ =>
    bnd2 (f_X7_vote E p0 h2) fun x38 h36 =>
    Sum.elim (fun x39 => (
      f_X7_posting_b107 E x39 h36
    )) (fun q40 => (
      some (.inr q40, h36)
    )) x38
  ) else (
    bnd2 (nO h2 14 5 [.int 0, .int 0, .int 0, .int 0, .long 0]) fun q41 h42 =>
    bnd2 (f_X15_init E q41 p1 (-1 : Int32) (-1 : Int32) (-1 : Int32) (0 : Int64) h42) fun x46 h44 =>
    f_X7_posting_b107 E q41 h44
  ))))))
theorem w_X7_posting_b0 (C0 : zCx p l e R s m args below meth c D B0 2 "FranchiseLedger$Reader" cX7_posting E 14 352 (Option.some (Jvm.ClassFile.FieldType.object "FranchiseLedger$Posting")) "posting") (hno : ∀ x ∈ c.exceptionTable.toList, False) {r : (Nat ⊕ (Nat × Nat))} {h' : zH} {p0 : Nat} {p1 : Int32} {h : zH} (hf : f_X7_posting_b0 E p0 p1 h = some (r, h')) : zW p l e R s m args below meth c D B0 2 (zEnd D B0 R below args s (zoT zoR r) h') h 0 [(0, .ref p0), (1, .int p1)] [] := by
  unfold f_X7_posting_b0 at hf
  refine zr_aload_n C0 dX7_posting_0 rfl 0 rfl ?_
  obtain ⟨_, e1, hf⟩ := zbind hf
  obtain ⟨x4, h2, e3, hf⟩ := zbind2 hf
  refine zr_callV_r C0 cv_X7_50_X7 rfl (zcko e1) (m_X7_scan C0.2.2.2.2.2.2.1 e3) (by decide) (by decide) rfl rfl (Nat.le_of_ble_eq_true rfl) dX7_posting_1 rfl ?_
  refine zr_iload_n C0 dX7_posting_4 rfl 1 rfl ?_
  rcases Decidable.em (p1 = 0) with c5 | c5
  · have hf := zif_t c5 hf
    refine zr_tableIn C0 (v := 0) (tgt := 44) dX7_posting_5 c5 (by decide) (by decide) rfl (by decide) ?_
    refine zr_aload_n C0 dX7_posting_44 rfl 0 rfl ?_
    obtain ⟨_, e6, hf⟩ := zbind hf
    obtain ⟨x9, h7, e8, hf⟩ := zbind2 hf
    rcases x9 with x10 | q11
    · have hf := zinl hf
      refine zr_callV_r C0 cv_X7_310_X7 rfl (zcko e6) (m_X7_sales C0.2.2.2.2.2.2.1 e8) (by decide) (by decide) rfl rfl (Nat.le_of_ble_eq_true rfl) dX7_posting_45 rfl ?_
      refine zr_goto C0 (tgt := 107) dX7_posting_48 (by decide) ?_
      refine zr_sub [] rfl ?_
      exact w_X7_posting_b107 C0 hno hf
    · have hf := zinr hf
      refine zretW hf ?_
      exact zr_callV_t C0 cv_X7_310_X7 rfl (zcko e6) (m_X7_sales C0.2.2.2.2.2.2.1 e8) (by decide) (by decide) rfl rfl (Nat.le_of_ble_eq_true rfl) dX7_posting_45 (zr_out C0 hno rfl)
  have hf := zif_f c5 hf
  rcases Decidable.em (p1 = 1) with c12 | c12
  · have hf := zif_t c12 hf
    refine zr_tableIn C0 (v := 1) (tgt := 51) dX7_posting_5 c12 (by decide) (by decide) rfl (by decide) ?_
    refine zr_aload_n C0 dX7_posting_51 rfl 0 rfl ?_
    obtain ⟨_, e13, hf⟩ := zbind hf
    obtain ⟨x16, h14, e15, hf⟩ := zbind2 hf
    rcases x16 with x17 | q18
    · have hf := zinl hf
      refine zr_callV_r C0 cv_X7_313_X7 rfl (zcko e13) (m_X7_delivery C0.2.2.2.2.2.2.1 e15) (by decide) (by decide) rfl rfl (Nat.le_of_ble_eq_true rfl) dX7_posting_52 rfl ?_
      refine zr_goto C0 (tgt := 107) dX7_posting_55 (by decide) ?_
      refine zr_sub [] rfl ?_
      exact w_X7_posting_b107 C0 hno hf
    · have hf := zinr hf
      refine zretW hf ?_
      exact zr_callV_t C0 cv_X7_313_X7 rfl (zcko e13) (m_X7_delivery C0.2.2.2.2.2.2.1 e15) (by decide) (by decide) rfl rfl (Nat.le_of_ble_eq_true rfl) dX7_posting_52 (zr_out C0 hno rfl)
  have hf := zif_f c12 hf
  rcases Decidable.em (p1 = 2) with c19 | c19
  · have hf := zif_t c19 hf
    refine zr_tableIn C0 (v := 2) (tgt := 58) dX7_posting_5 c19 (by decide) (by decide) rfl (by decide) ?_
    exact w_X7_posting_b58 C0 hno hf
  have hf := zif_f c19 hf
  rcases Decidable.em (p1 = 3) with c20 | c20
  · have hf := zif_t c20 hf
    refine zr_tableIn C0 (v := 3) (tgt := 58) dX7_posting_5 c20 (by decide) (by decide) rfl (by decide) ?_
    exact w_X7_posting_b58 C0 hno hf
  have hf := zif_f c20 hf
  rcases Decidable.em (p1 = 4) with c21 | c21
  · have hf := zif_t c21 hf
    refine zr_tableIn C0 (v := 4) (tgt := 66) dX7_posting_5 c21 (by decide) (by decide) rfl (by decide) ?_
    obtain ⟨q22, h23, e24, hf⟩ := zbind2 hf
    refine zr_newc C0 (C := RX15) (T := TX15) (N := 5) rfl in_X15 tyX15_ok q1528 q1529 q171 nw_X15 dX7_posting_66 e24 ?_
    refine zr_dup C0 dX7_posting_69 rfl ?_
    refine zr_iload_n C0 dX7_posting_70 rfl 1 rfl ?_
    refine zr_iconst C0 (v := -1) dX7_posting_71 (by decide) ?_
    refine zr_iconst C0 (v := -1) dX7_posting_72 (by decide) ?_
    refine zr_iconst C0 (v := -1) dX7_posting_73 (by decide) ?_
    refine zr_aload_n C0 dX7_posting_74 rfl 0 rfl ?_
    refine zr_iconst C0 (v := 1) dX7_posting_75 (by decide) ?_
    refine zr_ldcw C0 (v := 999999) q1583 dX7_posting_76 ?_
    obtain ⟨_, e25, hf⟩ := zbind hf
    obtain ⟨x28, h26, e27, hf⟩ := zbind2 hf
    rcases x28 with x29 | q30
    · have hf := zinl hf
      refine zr_callV_r C0 cv_X7_281_X7 rfl (zcko e25) (m_X7_dollars C0.2.2.2.2.2.2.1 e27) (by decide) (by decide) rfl rfl (Nat.le_of_ble_eq_true rfl) dX7_posting_79 rfl ?_
      obtain ⟨x33, h31, e32, hf⟩ := zbind2 hf
      refine zr_callIN_r C0 cv_X7_285 (m_X15_init C0.2.2.2.2.2.2.1 e32) (by decide) (by decide) rfl rfl (Nat.le_of_ble_eq_true rfl) dX7_posting_82 rfl ?_
      refine zr_goto C0 (tgt := 107) dX7_posting_85 (by decide) ?_
      refine zr_sub [] rfl ?_
      exact w_X7_posting_b107 C0 hno hf
    · have hf := zinr hf
      refine zretW hf ?_
      exact zr_callV_t C0 cv_X7_281_X7 rfl (zcko e25) (m_X7_dollars C0.2.2.2.2.2.2.1 e27) (by decide) (by decide) rfl rfl (Nat.le_of_ble_eq_true rfl) dX7_posting_79 (zr_out C0 hno rfl)
  have hf := zif_f c21 hf
  rcases Decidable.em (p1 = 5) with c34 | c34
  · have hf := zif_t c34 hf
    refine zr_tableIn C0 (v := 5) (tgt := 88) dX7_posting_5 c34 (by decide) (by decide) rfl (by decide) ?_
    refine zr_aload_n C0 dX7_posting_88 rfl 0 rfl ?_
    obtain ⟨_, e35, hf⟩ := zbind hf
    obtain ⟨x38, h36, e37, hf⟩ := zbind2 hf
    rcases x38 with x39 | q40
    · have hf := zinl hf
      refine zr_callV_r C0 cv_X7_320_X7 rfl (zcko e35) (m_X7_vote C0.2.2.2.2.2.2.1 e37) (by decide) (by decide) rfl rfl (Nat.le_of_ble_eq_true rfl) dX7_posting_89 rfl ?_
      refine zr_goto C0 (tgt := 107) dX7_posting_92 (by decide) ?_
      refine zr_sub [] rfl ?_
      exact w_X7_posting_b107 C0 hno hf
    · have hf := zinr hf
      refine zretW hf ?_
      exact zr_callV_t C0 cv_X7_320_X7 rfl (zcko e35) (m_X7_vote C0.2.2.2.2.2.2.1 e37) (by decide) (by decide) rfl rfl (Nat.le_of_ble_eq_true rfl) dX7_posting_89 (zr_out C0 hno rfl)
  have hf := zif_f c34 hf
  refine zr_tableOut C0 (tgt := 95) dX7_posting_5 ?_ (by decide) ?_
  · have n0 := lv_neT (a := 0) c5 rfl; have n1 := lv_neT (a := 1) c12 rfl; have n2 := lv_neT (a := 2) c19 rfl; have n3 := lv_neT (a := 3) c20 rfl; have n4 := lv_neT (a := 4) c21 rfl; have n5 := lv_neT (a := 5) c34 rfl; omega
  obtain ⟨q41, h42, e43, hf⟩ := zbind2 hf
  refine zr_newc C0 (C := RX15) (T := TX15) (N := 5) rfl in_X15 tyX15_ok q1528 q1529 q171 nw_X15 dX7_posting_95 e43 ?_
  refine zr_dup C0 dX7_posting_98 rfl ?_
  refine zr_iload_n C0 dX7_posting_99 rfl 1 rfl ?_
  refine zr_iconst C0 (v := -1) dX7_posting_100 (by decide) ?_
  refine zr_iconst C0 (v := -1) dX7_posting_101 (by decide) ?_
  refine zr_iconst C0 (v := -1) dX7_posting_102 (by decide) ?_
  refine zr_lconst C0 (v := 0) dX7_posting_103 (by decide) ?_
  obtain ⟨x46, h44, e45, hf⟩ := zbind2 hf
  refine zr_callIN_r C0 cv_X7_285 (m_X15_init C0.2.2.2.2.2.2.1 e45) (by decide) (by decide) rfl rfl (Nat.le_of_ble_eq_true rfl) dX7_posting_104 rfl ?_
  refine zr_sub [] rfl ?_
  exact w_X7_posting_b107 C0 hno hf
def f_X7_posting (E : zE) (p0 : Nat) (p1 : Int32) (h : zH) : Option ((Nat ⊕ (Nat × Nat)) × zH) := f_X7_posting_b0 E p0 p1 h
theorem m_X7_posting {l : Launch} (hst : l.stackTraces = false) {D : zD} {B0 : Nat} {E : zE} {p0 : Nat} {p1 : Int32} {h h' : zH} {r : (Nat ⊕ (Nat × Nat))} (hf : f_X7_posting E p0 p1 h = some (r, h')) : zMet l yX7_posting (ws_ yX7_posting cX7_posting 2 (Option.some (Jvm.ClassFile.FieldType.object "FranchiseLedger$Posting"))) 14 352 D B0 E [.ref p0, .int p1] h (zoT zoR r) h' := by
  unfold f_X7_posting at hf
  refine zMet_of hst (by decide +kernel) rfl rfl (Nat.le_of_ble_eq_true rfl) (fun p e R s m below meth c C0 hno => ?_)
  show zW _ _ _ _ _ _ _ _ _ _ _ _ _ _ _ _ [(0, .ref p0), (1, .int p1)] []
  exact w_X7_posting_b0 C0 hno hf
def f_X7_readJournal_b59 (E : zE) (k0 : Nat → Nat → zH → Option ((Unit ⊕ (Nat × Nat)) × zH)) (p0 : Nat) (p1 : Nat) (s0 : Nat) (s1 : Int32) (h : zH) : Option ((Unit ⊕ (Nat × Nat)) × zH) :=
  (cko h s0 6).bind fun _ =>
  bnd2 (f_X7_require E s0 s1 (1 : Int32) h) fun x4 h2 =>
  Sum.elim (fun x5 => (
    (cko h2 p0 6).bind fun _ =>
    bnd2 (f_X7_scan E p0 h2) fun x10 h8 =>
    k0 p0 p1 h8
  )) (fun q6 => (
    some (.inr q6, h2)
  )) x4
theorem w_X7_readJournal_b59 (C0 : zCx p l e R s m args below meth c D B0 3 "FranchiseLedger$Reader" cX7_readJournal E 15 373 (Option.none : Option Jvm.ClassFile.FieldType) "readJournal") (hno : ∀ x ∈ c.exceptionTable.toList, False) {r : (Unit ⊕ (Nat × Nat))} {h' : zH} {k0 : Nat → Nat → zH → Option ((Unit ⊕ (Nat × Nat)) × zH)} (hk0 : ∀ (p0 : Nat) (p1 : Nat) (h : zH), k0 p0 p1 h = some (r, h') → zW p l e R s m args below meth c D B0 3 (zEnd D B0 R below args s (zoT zoV r) h') h 0 [(0, .ref p0), (1, .ref p1)] []) {p0 : Nat} {p1 : Nat} {s0 : Nat} {s1 : Int32} {h : zH} (hf : f_X7_readJournal_b59 E k0 p0 p1 s0 s1 h = some (r, h')) : zW p l e R s m args below meth c D B0 3 (zEnd D B0 R below args s (zoT zoV r) h') h 59 [(0, .ref p0), (1, .ref p1)] [.int s1, .ref s0] := by
  unfold f_X7_readJournal_b59 at hf
  refine zr_iconst C0 (v := 1) dX7_readJournal_59 (by decide) ?_
  obtain ⟨_, e1, hf⟩ := zbind hf
  obtain ⟨x4, h2, e3, hf⟩ := zbind2 hf
  rcases x4 with x5 | q6
  · have hf := zinl hf
    refine zr_callV_r C0 cv_X7_116_X7 rfl (zcko e1) (m_X7_require C0.2.2.2.2.2.2.1 e3) (by decide) (by decide) rfl rfl (Nat.le_of_ble_eq_true rfl) dX7_readJournal_60 rfl ?_
    refine zr_aload_n C0 dX7_readJournal_63 rfl 0 rfl ?_
    obtain ⟨_, e7, hf⟩ := zbind hf
    obtain ⟨x10, h8, e9, hf⟩ := zbind2 hf
    refine zr_callV_r C0 cv_X7_50_X7 rfl (zcko e7) (m_X7_scan C0.2.2.2.2.2.2.1 e9) (by decide) (by decide) rfl rfl (Nat.le_of_ble_eq_true rfl) dX7_readJournal_64 rfl ?_
    refine zr_goto C0 (tgt := 0) dX7_readJournal_67 (by decide) ?_
    exact hk0 _ _ _ hf
  · have hf := zinr hf
    refine zretW hf ?_
    exact zr_callV_t C0 cv_X7_116_X7 rfl (zcko e1) (m_X7_require C0.2.2.2.2.2.2.1 e3) (by decide) (by decide) rfl rfl (Nat.le_of_ble_eq_true rfl) dX7_readJournal_60 (zr_out C0 hno rfl)
def f_X7_readJournal_b29 (E : zE) (k0 : Nat → Nat → zH → Option ((Unit ⊕ (Nat × Nat)) × zH)) (p0 : Nat) (p1 : Nat) (p2 : Int32) (s0 : Nat) (s1 : Int32) (h : zH) : Option ((Unit ⊕ (Nat × Nat)) × zH) :=
  (cko h s0 6).bind fun _ =>
  bnd2 (f_X7_require E s0 s1 (4 : Int32) h) fun x4 h2 =>
  Sum.elim (fun x5 => (
    (cko h2 p0 6).bind fun _ =>
    bnd2 (f_X7_posting E p0 p2 h2) fun x10 h8 =>
    Sum.elim (fun x11 => (
      (cko h8 p1 15).bind fun _ =>
      bnd2 (f_J2_add E p1 x11 h8) fun x16 h14 =>
      (gI h14 p0 6 5).bind fun x17 =>
      if x17 = (3 : Int32) then (
        f_X7_readJournal_b59 E k0 p0 p1 p0 (1 : Int32) h14
      ) else (
        f_X7_readJournal_b59 E k0 p0 p1 p0 (0 : Int32) h14
      )
    )) (fun q12 => (
      some (.inr q12, h8)
    )) x10
  )) (fun q6 => (
    some (.inr q6, h2)
  )) x4
theorem w_X7_readJournal_b29 (C0 : zCx p l e R s m args below meth c D B0 3 "FranchiseLedger$Reader" cX7_readJournal E 15 373 (Option.none : Option Jvm.ClassFile.FieldType) "readJournal") (hno : ∀ x ∈ c.exceptionTable.toList, False) {r : (Unit ⊕ (Nat × Nat))} {h' : zH} {k0 : Nat → Nat → zH → Option ((Unit ⊕ (Nat × Nat)) × zH)} (hk0 : ∀ (p0 : Nat) (p1 : Nat) (h : zH), k0 p0 p1 h = some (r, h') → zW p l e R s m args below meth c D B0 3 (zEnd D B0 R below args s (zoT zoV r) h') h 0 [(0, .ref p0), (1, .ref p1)] []) {p0 : Nat} {p1 : Nat} {p2 : Int32} {s0 : Nat} {s1 : Int32} {h : zH} (hf : f_X7_readJournal_b29 E k0 p0 p1 p2 s0 s1 h = some (r, h')) : zW p l e R s m args below meth c D B0 3 (zEnd D B0 R below args s (zoT zoV r) h') h 29 [(0, .ref p0), (1, .ref p1), (2, .int p2)] [.int s1, .ref s0] := by
  unfold f_X7_readJournal_b29 at hf
  refine zr_iconst C0 (v := 4) dX7_readJournal_29 (by decide) ?_
  obtain ⟨_, e1, hf⟩ := zbind hf
  obtain ⟨x4, h2, e3, hf⟩ := zbind2 hf
  rcases x4 with x5 | q6
  · have hf := zinl hf
    refine zr_callV_r C0 cv_X7_116_X7 rfl (zcko e1) (m_X7_require C0.2.2.2.2.2.2.1 e3) (by decide) (by decide) rfl rfl (Nat.le_of_ble_eq_true rfl) dX7_readJournal_30 rfl ?_
    refine zr_aload_n C0 dX7_readJournal_33 rfl 1 rfl ?_
    refine zr_aload_n C0 dX7_readJournal_34 rfl 0 rfl ?_
    refine zr_iload_n C0 dX7_readJournal_35 rfl 2 rfl ?_
    obtain ⟨_, e7, hf⟩ := zbind hf
    obtain ⟨x10, h8, e9, hf⟩ := zbind2 hf
    rcases x10 with x11 | q12
    · have hf := zinl hf
      refine zr_callV_r C0 cv_X7_325_X7 rfl (zcko e7) (m_X7_posting C0.2.2.2.2.2.2.1 e9) (by decide) (by decide) rfl rfl (Nat.le_of_ble_eq_true rfl) dX7_readJournal_36 rfl ?_
      obtain ⟨_, e13, hf⟩ := zbind hf
      obtain ⟨x16, h14, e15, hf⟩ := zbind2 hf
      refine zr_callF_r C0 cv_X7_175_J2 rfl (zcko e13) (m_J2_add C0.2.2.2.2.2.2.1 e15) (by decide) (by decide) rfl rfl (Nat.le_of_ble_eq_true rfl) dX7_readJournal_39 rfl ?_
      refine zr_pop C0 dX7_readJournal_44 rfl ?_
      refine zr_aload_n C0 dX7_readJournal_45 rfl 0 rfl ?_
      refine zr_aload_n C0 dX7_readJournal_46 rfl 0 rfl ?_
      obtain ⟨x17, e18, hf⟩ := zbind hf
      refine zr_get C0 fl_X7_79_X7 dX7_readJournal_47 (zgI e18) ?_
      refine zr_iconst C0 (v := 3) dX7_readJournal_50 (by decide) ?_
      refine zr_icmp_ne C0 (tgt := 58) dX7_readJournal_51 (by decide) (fun c19 => ?_) (fun c19 => ?_)
      · have hf := zif_f c19 hf
        refine zr_iconst C0 (v := 0) dX7_readJournal_58 (by decide) ?_
        refine zr_sub [0, 1] rfl ?_
        exact w_X7_readJournal_b59 C0 hno hk0 hf
      · have hf := zif_t c19 hf
        refine zr_iconst C0 (v := 1) dX7_readJournal_54 (by decide) ?_
        refine zr_goto C0 (tgt := 59) dX7_readJournal_55 (by decide) ?_
        refine zr_sub [0, 1] rfl ?_
        exact w_X7_readJournal_b59 C0 hno hk0 hf
    · have hf := zinr hf
      refine zretW hf ?_
      exact zr_callV_t C0 cv_X7_325_X7 rfl (zcko e7) (m_X7_posting C0.2.2.2.2.2.2.1 e9) (by decide) (by decide) rfl rfl (Nat.le_of_ble_eq_true rfl) dX7_readJournal_36 (zr_out C0 hno rfl)
  · have hf := zinr hf
    refine zretW hf ?_
    exact zr_callV_t C0 cv_X7_116_X7 rfl (zcko e1) (m_X7_require C0.2.2.2.2.2.2.1 e3) (by decide) (by decide) rfl rfl (Nat.le_of_ble_eq_true rfl) dX7_readJournal_30 (zr_out C0 hno rfl)
def f_X7_readJournal_l0 (E : zE) : Nat → Nat → Nat → zH → Option ((Unit ⊕ (Nat × Nat)) × zH)
  | 0, _, _, _ => none
  | n + 1, p0, p1, h =>
    (gI h p0 6 5).bind fun x1 =>
    if x1 = 0 then (
      some (.inl (), h)
    ) else (
      (cko h p0 6).bind fun _ =>
      bnd2 (f_X7_kindHere E p0 h) fun x7 h5 =>
      Sum.elim (fun x8 => (
        (cko h5 p1 15).bind fun _ =>
        bnd2 (f_J2_size E p1 h5) fun x13 h11 =>
        if (40 : Int32) ≤ x13 then (
          f_X7_readJournal_b29 E (f_X7_readJournal_l0 E n) p0 p1 x8 p0 (0 : Int32) h11
        ) else (
          f_X7_readJournal_b29 E (f_X7_readJournal_l0 E n) p0 p1 x8 p0 (1 : Int32) h11
        )
      )) (fun q9 => (
        some (.inr q9, h5)
      )) x7
    )
theorem w_X7_readJournal_l0 (C0 : zCx p l e R s m args below meth c D B0 3 "FranchiseLedger$Reader" cX7_readJournal E 15 373 (Option.none : Option Jvm.ClassFile.FieldType) "readJournal") (hno : ∀ x ∈ c.exceptionTable.toList, False) {r : (Unit ⊕ (Nat × Nat))} {h' : zH} : ∀ (n : Nat) (p0 : Nat) (p1 : Nat) (h : zH), f_X7_readJournal_l0 E n p0 p1 h = some (r, h') → zW p l e R s m args below meth c D B0 3 (zEnd D B0 R below args s (zoT zoV r) h') h 0 [(0, .ref p0), (1, .ref p1)] [] := by
  intro n
  induction n with
  | zero =>
    intro p0 p1 h hf
    unfold f_X7_readJournal_l0 at hf
    cases hf
  | succ n ih =>
    intro p0 p1 h hf
    unfold f_X7_readJournal_l0 at hf
    refine zr_aload_n C0 dX7_readJournal_0 rfl 0 rfl ?_
    obtain ⟨x1, e2, hf⟩ := zbind hf
    refine zr_get C0 fl_X7_79_X7 dX7_readJournal_1 (zgI e2) ?_
    refine zr_if_eq C0 (tgt := 70) dX7_readJournal_4 (by decide) (fun c3 => ?_) (fun c3 => ?_)
    · have hf := zif_t c3 hf
      refine zretW hf ?_
      exact zr_vret C0 rfl dX7_readJournal_70 rfl
    · have hf := zif_f c3 hf
      refine zr_aload_n C0 dX7_readJournal_7 rfl 0 rfl ?_
      obtain ⟨_, e4, hf⟩ := zbind hf
      obtain ⟨x7, h5, e6, hf⟩ := zbind2 hf
      rcases x7 with x8 | q9
      · have hf := zinl hf
        refine zr_callV_r C0 cv_X7_322_X7 rfl (zcko e4) (m_X7_kindHere C0.2.2.2.2.2.2.1 e6) (by decide) (by decide) rfl rfl (Nat.le_of_ble_eq_true rfl) dX7_readJournal_8 rfl ?_
        refine zr_istore_n (i := 2) (lv' := [(2, .int x8), (0, .ref p0), (1, .ref p1)]) C0 dX7_readJournal_11 rfl (by decide) (by first | rfl | simp [zst1, zst2, zcat_rf]) ?_
        refine zr_aload_n C0 dX7_readJournal_12 rfl 1 rfl ?_
        refine zr_aload_n C0 dX7_readJournal_13 rfl 2 rfl ?_
        obtain ⟨_, e10, hf⟩ := zbind hf
        obtain ⟨x13, h11, e12, hf⟩ := zbind2 hf
        refine zr_callF_r C0 cv_X7_157_J2 rfl (zcko e10) (m_J2_size C0.2.2.2.2.2.2.1 e12) (by decide) (by decide) rfl rfl (Nat.le_of_ble_eq_true rfl) dX7_readJournal_14 rfl ?_
        refine zr_bipush C0 (v := 40) dX7_readJournal_19 (by decide) ?_
        refine zr_icmp_ge C0 (tgt := 28) dX7_readJournal_21 (by decide) (fun c14 => ?_) (fun c14 => ?_)
        · have hf := zif_t c14 hf
          refine zr_iconst C0 (v := 0) dX7_readJournal_28 (by decide) ?_
          refine zr_sub [1, 2, 0] rfl ?_
          exact w_X7_readJournal_b29 C0 hno ih hf
        · have hf := zif_f c14 hf
          refine zr_iconst C0 (v := 1) dX7_readJournal_24 (by decide) ?_
          refine zr_goto C0 (tgt := 29) dX7_readJournal_25 (by decide) ?_
          refine zr_sub [1, 2, 0] rfl ?_
          exact w_X7_readJournal_b29 C0 hno ih hf
      · have hf := zinr hf
        refine zretW hf ?_
        exact zr_callV_t C0 cv_X7_322_X7 rfl (zcko e4) (m_X7_kindHere C0.2.2.2.2.2.2.1 e6) (by decide) (by decide) rfl rfl (Nat.le_of_ble_eq_true rfl) dX7_readJournal_8 (zr_out C0 hno rfl)
def f_X7_readJournal (E : zE) (p0 : Nat) (p1 : Nat) (h : zH) : Option ((Unit ⊕ (Nat × Nat)) × zH) := f_X7_readJournal_l0 E E.1 p0 p1 h
theorem m_X7_readJournal {l : Launch} (hst : l.stackTraces = false) {D : zD} {B0 : Nat} {E : zE} {p0 : Nat} {p1 : Nat} {h h' : zH} {r : (Unit ⊕ (Nat × Nat))} (hf : f_X7_readJournal E p0 p1 h = some (r, h')) : zMet l yX7_readJournal (ws_ yX7_readJournal cX7_readJournal 3 (Option.none : Option Jvm.ClassFile.FieldType)) 15 373 D B0 E [.ref p0, .ref p1] h (zoT zoV r) h' := by
  unfold f_X7_readJournal at hf
  refine zMet_of hst (by decide +kernel) rfl rfl (Nat.le_of_ble_eq_true rfl) (fun p e R s m below meth c C0 hno => ?_)
  show zW _ _ _ _ _ _ _ _ _ _ _ _ _ _ _ _ [(0, .ref p0), (1, .ref p1)] []
  exact w_X7_readJournal_l0 C0 hno _ _ _ _ hf
def f_J19_clear_l5 (E : zE) : Nat → Nat → Option Nat → zH → Option (Unit × zH)
  | 0, _, _, _ => none
  | n + 1, p0, p1, h =>
    zopt p1 (
      (pF h p0 16 3 (.null)).bind fun h3 =>
      (pF h3 p0 16 2 (.null)).bind fun h5 =>
      (pF h5 p0 16 1 (.int (0 : Int32))).bind fun h7 =>
      (gI h7 p0 16 0).bind fun x9 =>
      (pF h7 p0 16 0 (.int (x9 + (1 : Int32)))).bind fun h11 =>
      some ((), h11)
    ) fun x1 => (
      (gQ h x1 17 1).bind fun x13 =>
      (pF h x1 17 0 (.null)).bind fun h15 =>
      (pF h15 x1 17 1 (.null)).bind fun h17 =>
      (pF h17 x1 17 2 (.null)).bind fun h19 =>
      f_J19_clear_l5 E n p0 x13 h19
    )
theorem w_J19_clear_l5 (C0 : zCx p l e R s m args below meth c D B0 3 "java/util/LinkedList" cJ19_clear E 1 60 (Option.none : Option Jvm.ClassFile.FieldType) "clear") {r : Unit} {h' : zH} : ∀ (n : Nat) (p0 : Nat) (p1 : Option Nat) (h : zH), f_J19_clear_l5 E n p0 p1 h = some (r, h') → zW p l e R s m args below meth c D B0 3 (zEnd D B0 R below args s (zoV r) h') h 5 [(0, .ref p0), (1, va_rf p1)] [] := by
  intro n
  induction n with
  | zero =>
    intro p0 p1 h hf
    unfold f_J19_clear_l5 at hf
    cases hf
  | succ n ih =>
    intro p0 p1 h hf
    unfold f_J19_clear_l5 at hf
    refine zr_aload_nQ C0 dJ19_clear_5 rfl 1 rfl ?_
    refine zr_ifnull C0 (r := p1) (tgt := 34) dJ19_clear_6 (by decide) (fun e2 => ?_) (fun x1 e2 => ?_)
    · subst e2
      have hf := zopt_n hf
      refine zr_aload_n C0 dJ19_clear_34 rfl 0 rfl ?_
      refine zr_aload_n C0 dJ19_clear_35 rfl 0 rfl ?_
      refine zr_null C0 dJ19_clear_36 ?_
      refine zr_dup_x1 C0 dJ19_clear_37 rfl rfl ?_
      obtain ⟨h3, e4, hf⟩ := zbind hf
      refine zr_put C0 pl_J19_27_J19 dJ19_clear_38 (fun h => by cases h) rfl rfl e4 ?_
      obtain ⟨h5, e6, hf⟩ := zbind hf
      refine zr_put C0 pl_J19_18_J19 dJ19_clear_41 (fun h => by cases h) rfl rfl e6 ?_
      refine zr_aload_n C0 dJ19_clear_44 rfl 0 rfl ?_
      refine zr_iconst C0 (v := 0) dJ19_clear_45 (by decide) ?_
      obtain ⟨h7, e8, hf⟩ := zbind hf
      refine zr_put C0 pl_J19_7_J19 dJ19_clear_46 (fun h => by cases h) rfl rfl e8 ?_
      refine zr_aload_n C0 dJ19_clear_49 rfl 0 rfl ?_
      refine zr_dup C0 dJ19_clear_50 rfl ?_
      obtain ⟨x9, e10, hf⟩ := zbind hf
      refine zr_get C0 fl_J19_33_J19 dJ19_clear_51 (zgI e10) ?_
      refine zr_iconst C0 (v := 1) dJ19_clear_54 (by decide) ?_
      refine zr_iadd C0 dJ19_clear_55 ?_
      obtain ⟨h11, e12, hf⟩ := zbind hf
      refine zr_put C0 pl_J19_33_J19 dJ19_clear_56 (fun h => by cases h) rfl rfl e12 ?_
      refine zretW hf ?_
      exact zr_vret C0 rfl dJ19_clear_59 rfl
    · subst e2
      have hf := zopt_s hf
      refine zr_aload_n C0 dJ19_clear_9 rfl 1 rfl ?_
      obtain ⟨x13, e14, hf⟩ := zbind hf
      refine zr_get C0 fl_J19_36_J20 dJ19_clear_10 (zgQ e14) ?_
      refine zr_astore_nQ (i := 2) (lv' := [(2, va_rf x13), (0, .ref p0), (1, .ref x1)]) C0 dJ19_clear_13 rfl (by decide) (by first | rfl | simp [zst1, zst2, zcat_rf]) ?_
      refine zr_aload_n C0 dJ19_clear_14 rfl 2 rfl ?_
      refine zr_null C0 dJ19_clear_15 ?_
      obtain ⟨h15, e16, hf⟩ := zbind hf
      refine zr_put C0 pl_J19_39_J20 dJ19_clear_16 (fun h => by cases h) rfl rfl e16 ?_
      refine zr_aload_n C0 dJ19_clear_19 rfl 2 rfl ?_
      refine zr_null C0 dJ19_clear_20 ?_
      obtain ⟨h17, e18, hf⟩ := zbind hf
      refine zr_put C0 pl_J19_36_J20 dJ19_clear_21 (fun h => by cases h) rfl rfl e18 ?_
      refine zr_aload_n C0 dJ19_clear_24 rfl 2 rfl ?_
      refine zr_null C0 dJ19_clear_25 ?_
      obtain ⟨h19, e20, hf⟩ := zbind hf
      refine zr_put C0 pl_J19_30_J20 dJ19_clear_26 (fun h => by cases h) rfl rfl e20 ?_
      refine zr_aload_nQ C0 dJ19_clear_29 rfl 0 rfl ?_
      refine zr_astore_nQ (i := 1) (lv' := [(1, va_rf x13), (2, va_rf x13), (0, .ref p0)]) C0 dJ19_clear_30 rfl (by decide) (by first | rfl | simp [zst1, zst2, zcat_rf]) ?_
      refine zr_goto C0 (tgt := 5) dJ19_clear_31 (by decide) ?_
      refine zr_sub [2, 0] rfl ?_
      exact ih _ _ _ hf
def f_J19_clear_b0 (E : zE) (p0 : Nat) (h : zH) : Option (Unit × zH) :=
  (gQ h p0 16 2).bind fun x1 =>
  f_J19_clear_l5 E E.1 p0 x1 h
theorem w_J19_clear_b0 (C0 : zCx p l e R s m args below meth c D B0 3 "java/util/LinkedList" cJ19_clear E 1 60 (Option.none : Option Jvm.ClassFile.FieldType) "clear") {r : Unit} {h' : zH} {p0 : Nat} {h : zH} (hf : f_J19_clear_b0 E p0 h = some (r, h')) : zW p l e R s m args below meth c D B0 3 (zEnd D B0 R below args s (zoV r) h') h 0 [(0, .ref p0)] [] := by
  unfold f_J19_clear_b0 at hf
  refine zr_aload_n C0 dJ19_clear_0 rfl 0 rfl ?_
  obtain ⟨x1, e2, hf⟩ := zbind hf
  refine zr_get C0 fl_J19_18_J19 dJ19_clear_1 (zgQ e2) ?_
  refine zr_astore_nQ (i := 1) (lv' := [(1, va_rf x1), (0, .ref p0)]) C0 dJ19_clear_4 rfl (by decide) (by first | rfl | simp [zst1, zst2, zcat_rf]) ?_
  refine zr_sub [1, 0] rfl ?_
  exact w_J19_clear_l5 C0 _ _ _ _ hf
def f_J19_clear (E : zE) (p0 : Nat) (h : zH) : Option (Unit × zH) := f_J19_clear_b0 E p0 h
theorem m_J19_clear {l : Launch} (hst : l.stackTraces = false) {D : zD} {B0 : Nat} {E : zE} {p0 : Nat} {h h' : zH} {r : Unit} (hf : f_J19_clear E p0 h = some (r, h')) : zMet l yJ19_clear (ws_ yJ19_clear cJ19_clear 3 (Option.none : Option Jvm.ClassFile.FieldType)) 1 60 D B0 E [.ref p0] h (zoV r) h' := by
  unfold f_J19_clear at hf
  refine zMet_of hst (by decide +kernel) rfl rfl (Nat.le_of_ble_eq_true rfl) (fun p e R s m below meth c C0 hno => ?_)
  show zW _ _ _ _ _ _ _ _ _ _ _ _ _ _ _ _ [(0, .ref p0)] []
  exact w_J19_clear_b0 C0 hf
def f_J20_init_b0 (E : zE) (p0 : Nat) (p1 : Option Nat) (p2 : Nat) (p3 : Option Nat) (h : zH) : Option (Unit × zH) :=
  (pF h p0 17 0 (.ref p2)).bind fun h1 =>
  (pF h1 p0 17 1 (va_rf p3)).bind fun h3 =>
  (pF h3 p0 17 2 (va_rf p1)).bind fun h5 =>
  some ((), h5)
theorem w_J20_init_b0 (C0 : zCx p l e R s m args below meth c D B0 4 "java/util/LinkedList$Node" cJ20_init E 1 60 (Option.none : Option Jvm.ClassFile.FieldType) "<init>") {r : Unit} {h' : zH} {p0 : Nat} {p1 : Option Nat} {p2 : Nat} {p3 : Option Nat} {h : zH} (hf : f_J20_init_b0 E p0 p1 p2 p3 h = some (r, h')) : zW p l e R s m args below meth c D B0 4 (zEnd D B0 R below args s (zoV r) h') h 0 [(0, .ref p0), (1, va_rf p1), (2, .ref p2), (3, va_rf p3)] [] := by
  unfold f_J20_init_b0 at hf
  refine zr_aload_n C0 dJ20_init_0 rfl 0 rfl ?_
  refine zr_objInit C0 q1041 q182 q183 dJ20_init_1 (by decide) (by show _ ≤ _; exact Nat.le_of_ble_eq_true rfl) ?_
  refine zr_aload_n C0 dJ20_init_4 rfl 0 rfl ?_
  refine zr_aload_n C0 dJ20_init_5 rfl 2 rfl ?_
  obtain ⟨h1, e2, hf⟩ := zbind hf
  refine zr_put C0 pl_J20_7_J20 dJ20_init_6 (fun h => by cases h) rfl rfl e2 ?_
  refine zr_aload_n C0 dJ20_init_9 rfl 0 rfl ?_
  refine zr_aload_nQ C0 dJ20_init_10 rfl 3 rfl ?_
  obtain ⟨h3, e4, hf⟩ := zbind hf
  refine zr_put C0 pl_J20_13_J20 dJ20_init_11 (fun h => by cases h) (znar_rf p3) (zfit_rf _ p3) e4 ?_
  refine zr_aload_n C0 dJ20_init_14 rfl 0 rfl ?_
  refine zr_aload_nQ C0 dJ20_init_15 rfl 1 rfl ?_
  obtain ⟨h5, e6, hf⟩ := zbind hf
  refine zr_put C0 pl_J20_17_J20 dJ20_init_16 (fun h => by cases h) (znar_rf p1) (zfit_rf _ p1) e6 ?_
  refine zretW hf ?_
  exact zr_vret C0 rfl dJ20_init_19 rfl
def f_J20_init (E : zE) (p0 : Nat) (p1 : Option Nat) (p2 : Nat) (p3 : Option Nat) (h : zH) : Option (Unit × zH) := f_J20_init_b0 E p0 p1 p2 p3 h
theorem m_J20_init {l : Launch} (hst : l.stackTraces = false) {D : zD} {B0 : Nat} {E : zE} {p0 : Nat} {p1 : Option Nat} {p2 : Nat} {p3 : Option Nat} {h h' : zH} {r : Unit} (hf : f_J20_init E p0 p1 p2 p3 h = some (r, h')) : zMet l yJ20_init (ws_ yJ20_init cJ20_init 4 (Option.none : Option Jvm.ClassFile.FieldType)) 1 60 D B0 E [.ref p0, va_rf p1, .ref p2, va_rf p3] h (zoV r) h' := by
  unfold f_J20_init at hf
  refine zMet_of hst (by decide +kernel) rfl rfl (by cases p1 <;> cases p3 <;> exact Nat.le_of_ble_eq_true rfl) (fun p e R s m below meth c C0 hno => ?_)
  rw [show lv_args 0 [.ref p0, va_rf p1, .ref p2, va_rf p3] = [(0, .ref p0), (1, va_rf p1), (2, .ref p2), (3, va_rf p3)] from (by cases p1 <;> cases p3 <;> rfl)]
  exact w_J20_init_b0 C0 hf
def f_J19_linkLast_b38 (E : zE) (p0 : Nat) (h : zH) : Option (Unit × zH) :=
  (gI h p0 16 1).bind fun x1 =>
  (pF h p0 16 1 (.int (x1 + (1 : Int32)))).bind fun h3 =>
  (gI h3 p0 16 0).bind fun x5 =>
  (pF h3 p0 16 0 (.int (x5 + (1 : Int32)))).bind fun h7 =>
  some ((), h7)
theorem w_J19_linkLast_b38 (C0 : zCx p l e R s m args below meth c D B0 4 "java/util/LinkedList" cJ19_linkLast E 2 83 (Option.none : Option Jvm.ClassFile.FieldType) "linkLast") {r : Unit} {h' : zH} {p0 : Nat} {h : zH} (hf : f_J19_linkLast_b38 E p0 h = some (r, h')) : zW p l e R s m args below meth c D B0 4 (zEnd D B0 R below args s (zoV r) h') h 38 [(0, .ref p0)] [] := by
  unfold f_J19_linkLast_b38 at hf
  refine zr_aload_n C0 dJ19_linkLast_38 rfl 0 rfl ?_
  refine zr_dup C0 dJ19_linkLast_39 rfl ?_
  obtain ⟨x1, e2, hf⟩ := zbind hf
  refine zr_get C0 fl_J19_7_J19 dJ19_linkLast_40 (zgI e2) ?_
  refine zr_iconst C0 (v := 1) dJ19_linkLast_43 (by decide) ?_
  refine zr_iadd C0 dJ19_linkLast_44 ?_
  obtain ⟨h3, e4, hf⟩ := zbind hf
  refine zr_put C0 pl_J19_7_J19 dJ19_linkLast_45 (fun h => by cases h) rfl rfl e4 ?_
  refine zr_aload_n C0 dJ19_linkLast_48 rfl 0 rfl ?_
  refine zr_dup C0 dJ19_linkLast_49 rfl ?_
  obtain ⟨x5, e6, hf⟩ := zbind hf
  refine zr_get C0 fl_J19_33_J19 dJ19_linkLast_50 (zgI e6) ?_
  refine zr_iconst C0 (v := 1) dJ19_linkLast_53 (by decide) ?_
  refine zr_iadd C0 dJ19_linkLast_54 ?_
  obtain ⟨h7, e8, hf⟩ := zbind hf
  refine zr_put C0 pl_J19_33_J19 dJ19_linkLast_55 (fun h => by cases h) rfl rfl e8 ?_
  refine zretW hf ?_
  exact zr_vret C0 rfl dJ19_linkLast_58 rfl
def f_J19_linkLast_b0 (E : zE) (p0 : Nat) (p1 : Nat) (h : zH) : Option (Unit × zH) :=
  (gQ h p0 16 3).bind fun x1 =>
  bnd2 (nO h 17 3 [.null, .null, .null]) fun q3 h4 =>
  bnd2 (f_J20_init E q3 x1 p1 none h4) fun x8 h6 =>
  (pF h6 p0 16 3 (.ref q3)).bind fun h9 =>
  zopt x1 (
    (pF h9 p0 16 2 (.ref q3)).bind fun h13 =>
    f_J19_linkLast_b38 E p0 h13
  ) fun x11 => (
    (pF h9 x11 17 1 (.ref q3)).bind fun h15 =>
    f_J19_linkLast_b38 E p0 h15
  )
theorem w_J19_linkLast_b0 (C0 : zCx p l e R s m args below meth c D B0 4 "java/util/LinkedList" cJ19_linkLast E 2 83 (Option.none : Option Jvm.ClassFile.FieldType) "linkLast") {r : Unit} {h' : zH} {p0 : Nat} {p1 : Nat} {h : zH} (hf : f_J19_linkLast_b0 E p0 p1 h = some (r, h')) : zW p l e R s m args below meth c D B0 4 (zEnd D B0 R below args s (zoV r) h') h 0 [(0, .ref p0), (1, .ref p1)] [] := by
  unfold f_J19_linkLast_b0 at hf
  refine zr_aload_n C0 dJ19_linkLast_0 rfl 0 rfl ?_
  obtain ⟨x1, e2, hf⟩ := zbind hf
  refine zr_get C0 fl_J19_27_J19 dJ19_linkLast_1 (zgQ e2) ?_
  refine zr_astore_nQ (i := 2) (lv' := [(2, va_rf x1), (0, .ref p0), (1, .ref p1)]) C0 dJ19_linkLast_4 rfl (by decide) (by first | rfl | simp [zst1, zst2, zcat_rf]) ?_
  obtain ⟨q3, h4, e5, hf⟩ := zbind2 hf
  refine zr_newc C0 (C := RJ20) (T := TJ20) (N := 3) rfl in_J20 tyJ20_ok q1036 q1037 q161 nw_J20 dJ19_linkLast_5 e5 ?_
  refine zr_dup C0 dJ19_linkLast_8 rfl ?_
  refine zr_aload_nQ C0 dJ19_linkLast_9 rfl 0 rfl ?_
  refine zr_aload_n C0 dJ19_linkLast_10 rfl 2 rfl ?_
  refine zr_null C0 dJ19_linkLast_11 ?_
  obtain ⟨x8, h6, e7, hf⟩ := zbind2 hf
  refine zr_callI_r C0 cv_J19_24 (m_J20_init C0.2.2.2.2.2.2.1 e7) (by decide) (by decide) rfl rfl (Nat.le_of_ble_eq_true rfl) dJ19_linkLast_12 rfl ?_
  refine zr_astore_n (i := 3) (lv' := [(3, .ref q3), (2, va_rf x1), (0, .ref p0), (1, .ref p1)]) C0 dJ19_linkLast_15 rfl (by decide) (by first | rfl | simp [zst1, zst2, zcat_rf]) ?_
  refine zr_aload_n C0 dJ19_linkLast_16 rfl 2 rfl ?_
  refine zr_aload_n C0 dJ19_linkLast_17 rfl 0 rfl ?_
  obtain ⟨h9, e10, hf⟩ := zbind hf
  refine zr_put C0 pl_J19_27_J19 dJ19_linkLast_18 (fun h => by cases h) rfl rfl e10 ?_
  refine zr_aload_nQ C0 dJ19_linkLast_21 rfl 1 rfl ?_
  refine zr_ifnonnull C0 (r := x1) (tgt := 33) dJ19_linkLast_22 (by decide) (fun x11 e12 => ?_) (fun e12 => ?_)
  · subst e12
    have hf := zopt_s hf
    refine zr_aload_n C0 dJ19_linkLast_33 rfl 1 rfl ?_
    refine zr_aload_n C0 dJ19_linkLast_34 rfl 0 rfl ?_
    obtain ⟨h15, e16, hf⟩ := zbind hf
    refine zr_put C0 pl_J19_36_J20 dJ19_linkLast_35 (fun h => by cases h) rfl rfl e16 ?_
    refine zr_sub [2] rfl ?_
    exact w_J19_linkLast_b38 C0 hf
  · subst e12
    have hf := zopt_n hf
    refine zr_aload_n C0 dJ19_linkLast_25 rfl 2 rfl ?_
    refine zr_aload_n C0 dJ19_linkLast_26 rfl 0 rfl ?_
    obtain ⟨h13, e14, hf⟩ := zbind hf
    refine zr_put C0 pl_J19_18_J19 dJ19_linkLast_27 (fun h => by cases h) rfl rfl e14 ?_
    refine zr_goto C0 (tgt := 38) dJ19_linkLast_30 (by decide) ?_
    refine zr_sub [2] rfl ?_
    exact w_J19_linkLast_b38 C0 hf
def f_J19_linkLast (E : zE) (p0 : Nat) (p1 : Nat) (h : zH) : Option (Unit × zH) := f_J19_linkLast_b0 E p0 p1 h
theorem m_J19_linkLast {l : Launch} (hst : l.stackTraces = false) {D : zD} {B0 : Nat} {E : zE} {p0 : Nat} {p1 : Nat} {h h' : zH} {r : Unit} (hf : f_J19_linkLast E p0 p1 h = some (r, h')) : zMet l yJ19_linkLast (ws_ yJ19_linkLast cJ19_linkLast 4 (Option.none : Option Jvm.ClassFile.FieldType)) 2 83 D B0 E [.ref p0, .ref p1] h (zoV r) h' := by
  unfold f_J19_linkLast at hf
  refine zMet_of hst (by decide +kernel) rfl rfl (Nat.le_of_ble_eq_true rfl) (fun p e R s m below meth c C0 hno => ?_)
  show zW _ _ _ _ _ _ _ _ _ _ _ _ _ _ _ _ [(0, .ref p0), (1, .ref p1)] []
  exact w_J19_linkLast_b0 C0 hf
def f_J19_addLast_b0 (E : zE) (p0 : Nat) (p1 : Nat) (h : zH) : Option (Unit × zH) :=
  (cko h p0 16).bind fun _ =>
  bnd2 (f_J19_linkLast E p0 p1 h) fun x4 h2 =>
  some ((), h2)
theorem w_J19_addLast_b0 (C0 : zCx p l e R s m args below meth c D B0 2 "java/util/LinkedList" cJ19_addLast E 3 106 (Option.none : Option Jvm.ClassFile.FieldType) "addLast") {r : Unit} {h' : zH} {p0 : Nat} {p1 : Nat} {h : zH} (hf : f_J19_addLast_b0 E p0 p1 h = some (r, h')) : zW p l e R s m args below meth c D B0 2 (zEnd D B0 R below args s (zoV r) h') h 0 [(0, .ref p0), (1, .ref p1)] [] := by
  unfold f_J19_addLast_b0 at hf
  refine zr_aload_n C0 dJ19_addLast_0 rfl 0 rfl ?_
  refine zr_aload_n C0 dJ19_addLast_1 rfl 1 rfl ?_
  obtain ⟨_, e1, hf⟩ := zbind hf
  obtain ⟨x4, h2, e3, hf⟩ := zbind2 hf
  refine zr_callV_r C0 cv_J19_57_J19 rfl (zcko e1) (m_J19_linkLast C0.2.2.2.2.2.2.1 e3) (by decide) (by decide) rfl rfl (Nat.le_of_ble_eq_true rfl) dJ19_addLast_2 rfl ?_
  refine zretW hf ?_
  exact zr_vret C0 rfl dJ19_addLast_5 rfl
def f_J19_addLast (E : zE) (p0 : Nat) (p1 : Nat) (h : zH) : Option (Unit × zH) := f_J19_addLast_b0 E p0 p1 h
theorem m_J19_addLast {l : Launch} (hst : l.stackTraces = false) {D : zD} {B0 : Nat} {E : zE} {p0 : Nat} {p1 : Nat} {h h' : zH} {r : Unit} (hf : f_J19_addLast E p0 p1 h = some (r, h')) : zMet l yJ19_addLast (ws_ yJ19_addLast cJ19_addLast 2 (Option.none : Option Jvm.ClassFile.FieldType)) 3 106 D B0 E [.ref p0, .ref p1] h (zoV r) h' := by
  unfold f_J19_addLast at hf
  refine zMet_of hst (by decide +kernel) rfl rfl (Nat.le_of_ble_eq_true rfl) (fun p e R s m below meth c C0 hno => ?_)
  show zW _ _ _ _ _ _ _ _ _ _ _ _ _ _ _ _ [(0, .ref p0), (1, .ref p1)] []
  exact w_J19_addLast_b0 C0 hf
def f_X1_fail_b0 (E : zE) (p0 : Nat) (p1 : Nat) (h : zH) : Option (Int32 × zH) :=
  (gI h p1 7 6).bind fun x1 =>
  (pF h p0 0 8 (.int x1)).bind fun h3 =>
  (gI h3 p1 7 7).bind fun x5 =>
  (pF h3 p0 0 9 (.int x5)).bind fun h7 =>
  some ((-4 : Int32), h7)
theorem w_X1_fail_b0 (C0 : zCx p l e R s m args below meth c D B0 2 "FranchiseLedger" cX1_fail E 1 60 (Option.some Jvm.ClassFile.FieldType.int) "fail") {r : Int32} {h' : zH} {p0 : Nat} {p1 : Nat} {h : zH} (hf : f_X1_fail_b0 E p0 p1 h = some (r, h')) : zW p l e R s m args below meth c D B0 2 (zEnd D B0 R below args s (zoI r) h') h 0 [(0, .ref p0), (1, .ref p1)] [] := by
  unfold f_X1_fail_b0 at hf
  refine zr_aload_n C0 dX1_fail_0 rfl 0 rfl ?_
  refine zr_aload_n C0 dX1_fail_1 rfl 1 rfl ?_
  obtain ⟨x1, e2, hf⟩ := zbind hf
  refine zr_get C0 fl_X1_497_X8 dX1_fail_2 (zgI e2) ?_
  obtain ⟨h3, e4, hf⟩ := zbind hf
  refine zr_put C0 pl_X1_502_X1 dX1_fail_5 (fun h => by cases h) rfl rfl e4 ?_
  refine zr_aload_n C0 dX1_fail_8 rfl 0 rfl ?_
  refine zr_aload_n C0 dX1_fail_9 rfl 1 rfl ?_
  obtain ⟨x5, e6, hf⟩ := zbind hf
  refine zr_get C0 fl_X1_505_X8 dX1_fail_10 (zgI e6) ?_
  obtain ⟨h7, e8, hf⟩ := zbind hf
  refine zr_put C0 pl_X1_70_X1 dX1_fail_13 (fun h => by cases h) rfl rfl e8 ?_
  refine zr_bipush C0 (v := -4) dX1_fail_16 (by decide) ?_
  refine zretW hf ?_
  exact zr_iret C0 (ty := .int) rfl rfl dX1_fail_18 rfl
def f_X1_fail (E : zE) (p0 : Nat) (p1 : Nat) (h : zH) : Option (Int32 × zH) := f_X1_fail_b0 E p0 p1 h
theorem m_X1_fail {l : Launch} (hst : l.stackTraces = false) {D : zD} {B0 : Nat} {E : zE} {p0 : Nat} {p1 : Nat} {h h' : zH} {r : Int32} (hf : f_X1_fail E p0 p1 h = some (r, h')) : zMet l yX1_fail (ws_ yX1_fail cX1_fail 2 (Option.some Jvm.ClassFile.FieldType.int)) 1 60 D B0 E [.ref p0, .ref p1] h (zoI r) h' := by
  unfold f_X1_fail at hf
  refine zMet_of hst (by decide +kernel) rfl rfl (Nat.le_of_ble_eq_true rfl) (fun p e R s m below meth c C0 hno => ?_)
  show zW _ _ _ _ _ _ _ _ _ _ _ _ _ _ _ _ [(0, .ref p0), (1, .ref p1)] []
  exact w_X1_fail_b0 C0 hf
def f_X1_loadJournal_l40 (E : zE) : Nat → Nat → Nat → Int32 → zH → Option (Int32 × zH)
  | 0, _, _, _, _ => none
  | n + 1, p0, p1, p2, h =>
    (cko h p1 15).bind fun _ =>
    bnd2 (f_J2_size E p1 h) fun x4 h2 =>
    if x4 ≤ p2 then (
      (gR h2 p0 0 4).bind fun x6 =>
      (cko h2 x6 16).bind fun _ =>
      bnd2 (f_J19_size E x6 h2) fun x11 h9 =>
      some (x11, h9)
    ) else (
      (gR h2 p0 0 4).bind fun x12 =>
      (cko h2 p1 15).bind fun _ =>
      bnd2 (f_J2_get E p1 p2 h2) fun x17 h15 =>
      (cko h15 x17 14).bind fun _ =>
      (cko h15 x12 16).bind fun _ =>
      bnd2 (f_J19_addLast E x12 x17 h15) fun x22 h20 =>
      f_X1_loadJournal_l40 E n p0 p1 (p2 + 1) h20
    )
theorem w_X1_loadJournal_l40 (C0 : zCx p l e R s m args below meth c D B0 3 "FranchiseLedger" cX1_loadJournal E 16 395 (Option.some Jvm.ClassFile.FieldType.int) "loadJournal") (ht : c.exceptionTable.toList = tableOf [((9 : Nat), (21 : Nat), (24 : Nat), (498 : Nat))]) {r : Int32} {h' : zH} : ∀ (n : Nat) (p0 : Nat) (p1 : Nat) (p2 : Int32) (h : zH), f_X1_loadJournal_l40 E n p0 p1 p2 h = some (r, h') → zW p l e R s m args below meth c D B0 3 (zEnd D B0 R below args s (zoI r) h') h 40 [(0, .ref p0), (1, .ref p1), (2, .int p2)] [] := by
  intro n
  induction n with
  | zero =>
    intro p0 p1 p2 h hf
    unfold f_X1_loadJournal_l40 at hf
    cases hf
  | succ n ih =>
    intro p0 p1 p2 h hf
    unfold f_X1_loadJournal_l40 at hf
    refine zr_iload_n C0 dX1_loadJournal_40 rfl 2 rfl ?_
    refine zr_aload_n C0 dX1_loadJournal_41 rfl 1 rfl ?_
    obtain ⟨_, e1, hf⟩ := zbind hf
    obtain ⟨x4, h2, e3, hf⟩ := zbind2 hf
    refine zr_callF_r C0 cv_X1_78_J2 rfl (zcko e1) (m_J2_size C0.2.2.2.2.2.2.1 e3) (by decide) (by decide) rfl rfl (Nat.le_of_ble_eq_true rfl) dX1_loadJournal_42 rfl ?_
    refine zr_icmp_ge C0 (tgt := 73) dX1_loadJournal_47 (by decide) (fun c5 => ?_) (fun c5 => ?_)
    · have hf := zif_t c5 hf
      refine zr_aload_n C0 dX1_loadJournal_73 rfl 0 rfl ?_
      obtain ⟨x6, e7, hf⟩ := zbind hf
      refine zr_get C0 fl_X1_54_X1 dX1_loadJournal_74 (zgR e7) ?_
      obtain ⟨_, e8, hf⟩ := zbind hf
      obtain ⟨x11, h9, e10, hf⟩ := zbind2 hf
      refine zr_callV_r C0 cv_X1_120_J19 rfl (zcko e8) (m_J19_size C0.2.2.2.2.2.2.1 e10) (by decide) (by decide) rfl rfl (Nat.le_of_ble_eq_true rfl) dX1_loadJournal_77 rfl ?_
      refine zretW hf ?_
      exact zr_iret C0 (ty := .int) rfl rfl dX1_loadJournal_80 rfl
    · have hf := zif_f c5 hf
      refine zr_aload_n C0 dX1_loadJournal_50 rfl 0 rfl ?_
      obtain ⟨x12, e13, hf⟩ := zbind hf
      refine zr_get C0 fl_X1_54_X1 dX1_loadJournal_51 (zgR e13) ?_
      refine zr_aload_n C0 dX1_loadJournal_54 rfl 1 rfl ?_
      refine zr_iload_n C0 dX1_loadJournal_55 rfl 2 rfl ?_
      obtain ⟨_, e14, hf⟩ := zbind hf
      obtain ⟨x17, h15, e16, hf⟩ := zbind2 hf
      refine zr_callF_r C0 cv_X1_96_J2 rfl (zcko e14) (m_J2_get C0.2.2.2.2.2.2.1 e16) (by decide) (by decide) rfl rfl (Nat.le_of_ble_eq_true rfl) dX1_loadJournal_56 rfl ?_
      obtain ⟨_, e18, hf⟩ := zbind hf
      refine zr_castS C0 (ci := 14) rfl (zcko e18) q1600 dX1_loadJournal_61 ?_
      obtain ⟨_, e19, hf⟩ := zbind hf
      obtain ⟨x22, h20, e21, hf⟩ := zbind2 hf
      refine zr_callV_r C0 cv_X1_525_J19 rfl (zcko e19) (m_J19_addLast C0.2.2.2.2.2.2.1 e21) (by decide) (by decide) rfl rfl (Nat.le_of_ble_eq_true rfl) dX1_loadJournal_64 rfl ?_
      refine zr_iinc (lv' := [(2, .int (p2 + 1)), (0, .ref p0), (1, .ref p1)]) C0 dX1_loadJournal_67 2 rfl rfl (by decide) (by first | rfl | simp [zst1, zst2, zcat_rf]) ?_
      refine zr_goto C0 (tgt := 40) dX1_loadJournal_70 (by decide) ?_
      refine zr_sub [1, 2, 0] rfl ?_
      exact ih _ _ _ _ hf
def f_X1_loadJournal_b24 (E : zE) (p0 : Nat) (s0 : Nat) (h : zH) : Option (Int32 × zH) :=
  (cko h p0 0).bind fun _ =>
  bnd2 (f_X1_fail E p0 s0 h) fun x4 h2 =>
  some (x4, h2)
theorem w_X1_loadJournal_b24 (C0 : zCx p l e R s m args below meth c D B0 3 "FranchiseLedger" cX1_loadJournal E 16 395 (Option.some Jvm.ClassFile.FieldType.int) "loadJournal") (ht : c.exceptionTable.toList = tableOf [((9 : Nat), (21 : Nat), (24 : Nat), (498 : Nat))]) {r : Int32} {h' : zH} {p0 : Nat} {s0 : Nat} {h : zH} (hf : f_X1_loadJournal_b24 E p0 s0 h = some (r, h')) : zW p l e R s m args below meth c D B0 3 (zEnd D B0 R below args s (zoI r) h') h 24 [(0, .ref p0)] [.ref s0] := by
  unfold f_X1_loadJournal_b24 at hf
  refine zr_astore_n (i := 2) (lv' := [(2, .ref s0), (0, .ref p0)]) C0 dX1_loadJournal_24 rfl (by decide) (by first | rfl | simp [zst1, zst2, zcat_rf]) ?_
  refine zr_aload_n C0 dX1_loadJournal_25 rfl 1 rfl ?_
  refine zr_aload_n C0 dX1_loadJournal_26 rfl 0 rfl ?_
  obtain ⟨_, e1, hf⟩ := zbind hf
  obtain ⟨x4, h2, e3, hf⟩ := zbind2 hf
  refine zr_callV_r C0 cv_X1_518_X1 rfl (zcko e1) (m_X1_fail C0.2.2.2.2.2.2.1 e3) (by decide) (by decide) rfl rfl (Nat.le_of_ble_eq_true rfl) dX1_loadJournal_27 rfl ?_
  refine zretW hf ?_
  exact zr_iret C0 (ty := .int) rfl rfl dX1_loadJournal_30 rfl
def f_X1_loadJournal_b0 (E : zE) (p0 : Nat) (h : zH) : Option (Int32 × zH) :=
  bnd2 (nO h 15 3 [.int 0, .null, .int 0]) fun q1 h2 =>
  bnd2 (f_J2_init E q1 (2 : Int32) h2) fun x6 h4 =>
  bnd2 (nO h4 6 9 [.int 0, .null, .null, .int 0, .int 0, .int 0, .int 0, .null, .null]) fun q7 h8 =>
  bnd2 (f_X7_init E q7 p0 h8) fun x12 h10 =>
  (cko h10 q7 6).bind fun _ =>
  bnd2 (f_X7_readJournal E q7 q1 h10) fun x16 h14 =>
  Sum.elim (fun x17 => (
    (gR h14 p0 0 4).bind fun x19 =>
    (cko h14 x19 16).bind fun _ =>
    bnd2 (f_J19_clear E x19 h14) fun x24 h22 =>
    f_X1_loadJournal_l40 E E.1 p0 q1 (0 : Int32) h22
  )) (fun q18 => (
    if q18.1 = 7 then (
      f_X1_loadJournal_b24 E p0 q18.2 h14
    ) else (
    none
    )
  )) x16
theorem w_X1_loadJournal_b0 (C0 : zCx p l e R s m args below meth c D B0 3 "FranchiseLedger" cX1_loadJournal E 16 395 (Option.some Jvm.ClassFile.FieldType.int) "loadJournal") (ht : c.exceptionTable.toList = tableOf [((9 : Nat), (21 : Nat), (24 : Nat), (498 : Nat))]) {r : Int32} {h' : zH} {p0 : Nat} {h : zH} (hf : f_X1_loadJournal_b0 E p0 h = some (r, h')) : zW p l e R s m args below meth c D B0 3 (zEnd D B0 R below args s (zoI r) h') h 0 [(0, .ref p0)] [] := by
  unfold f_X1_loadJournal_b0 at hf
  obtain ⟨q1, h2, e3, hf⟩ := zbind2 hf
  refine zr_newc C0 (C := RJ2) (T := TJ2) (N := 3) rfl in_J2 tyJ2_ok q1329 q191 q133 nw_J2 dX1_loadJournal_0 e3 ?_
  refine zr_dup C0 dX1_loadJournal_3 rfl ?_
  refine zr_iconst C0 (v := 2) dX1_loadJournal_4 (by decide) ?_
  obtain ⟨x6, h4, e5, hf⟩ := zbind2 hf
  refine zr_callI_r C0 cv_X1_510 (m_J2_init C0.2.2.2.2.2.2.1 e5) (by decide) (by decide) rfl rfl (Nat.le_of_ble_eq_true rfl) dX1_loadJournal_5 rfl ?_
  refine zr_astore_n (i := 1) (lv' := [(1, .ref q1), (0, .ref p0)]) C0 dX1_loadJournal_8 rfl (by decide) (by first | rfl | simp [zst1, zst2, zcat_rf]) ?_
  obtain ⟨q7, h8, e9, hf⟩ := zbind2 hf
  refine zr_newc C0 (C := RX7) (T := TX7) (N := 9) rfl in_X7 tyX7_ok q1331 q1332 q157 nw_X7 dX1_loadJournal_9 e9 ?_
  refine zr_dup C0 dX1_loadJournal_12 rfl ?_
  refine zr_aload_n C0 dX1_loadJournal_13 rfl 1 rfl ?_
  obtain ⟨x12, h10, e11, hf⟩ := zbind2 hf
  refine zr_callI_r C0 cv_X1_513 (m_X7_init C0.2.2.2.2.2.2.1 e11) (by decide) (by decide) rfl rfl (Nat.le_of_ble_eq_true rfl) dX1_loadJournal_14 rfl ?_
  refine zr_aload_n C0 dX1_loadJournal_17 rfl 0 rfl ?_
  obtain ⟨_, e13, hf⟩ := zbind hf
  obtain ⟨x16, h14, e15, hf⟩ := zbind2 hf
  rcases x16 with x17 | q18
  · have hf := zinl hf
    refine zr_callV_r C0 cv_X1_514_X7 rfl (zcko e13) (m_X7_readJournal C0.2.2.2.2.2.2.1 e15) (by decide) (by decide) rfl rfl (Nat.le_of_ble_eq_true rfl) dX1_loadJournal_18 rfl ?_
    refine zr_goto C0 (tgt := 31) dX1_loadJournal_21 (by decide) ?_
    refine zr_aload_n C0 dX1_loadJournal_31 rfl 1 rfl ?_
    obtain ⟨x19, e20, hf⟩ := zbind hf
    refine zr_get C0 fl_X1_54_X1 dX1_loadJournal_32 (zgR e20) ?_
    obtain ⟨_, e21, hf⟩ := zbind hf
    obtain ⟨x24, h22, e23, hf⟩ := zbind2 hf
    refine zr_callV_r C0 cv_X1_522_J19 rfl (zcko e21) (m_J19_clear C0.2.2.2.2.2.2.1 e23) (by decide) (by decide) rfl rfl (Nat.le_of_ble_eq_true rfl) dX1_loadJournal_35 rfl ?_
    refine zr_iconst C0 (v := 0) dX1_loadJournal_38 (by decide) ?_
    refine zr_istore_n (i := 2) (lv' := [(2, .int (0 : Int32)), (1, .ref q1), (0, .ref p0)]) C0 dX1_loadJournal_39 rfl (by decide) (by first | rfl | simp [zst1, zst2, zcat_rf]) ?_
    refine zr_sub [2, 1, 0] rfl ?_
    exact w_X1_loadJournal_l40 C0 ht _ _ _ _ _ hf
  · have hf := zinr hf
    rcases Decidable.em (q18.1 = 7) with c25 | c25
    · obtain ⟨q1, q2⟩ := q18
      subst c25
      have hf := zif_t rfl hf
      refine zr_callV_t C0 cv_X1_514_X7 rfl (zcko e13) (m_X7_readJournal C0.2.2.2.2.2.2.1 e15) (by decide) (by decide) rfl rfl (Nat.le_of_ble_eq_true rfl) dX1_loadJournal_18 (zr_catch C0 (tableOf []) ⟨9, 21, 24, 498⟩ (tableOf []) (by rw [ht]; rfl) rfl (fun z hz => by cases hz) (by decide) (by decide) q1328 q1419 ?_)
      refine zr_sub [1] rfl ?_
      exact w_X1_loadJournal_b24 C0 ht hf
    have hf := zif_f c25 hf
    cases hf
def f_X1_loadJournal (E : zE) (p0 : Nat) (h : zH) : Option (Int32 × zH) := f_X1_loadJournal_b0 E p0 h
theorem m_X1_loadJournal {l : Launch} (hst : l.stackTraces = false) {D : zD} {B0 : Nat} {E : zE} {p0 : Nat} {h h' : zH} {r : Int32} (hf : f_X1_loadJournal E p0 h = some (r, h')) : zMet l yX1_loadJournal (wsW_ yX1_loadJournal cX1_loadJournal 3 (Option.some Jvm.ClassFile.FieldType.int) [((9 : Nat), (21 : Nat), (24 : Nat), (498 : Nat))]) 16 395 D B0 E [.ref p0] h (zoI r) h' := by
  unfold f_X1_loadJournal at hf
  refine zMet_ofH hst (by decide +kernel) rfl rfl (Nat.le_of_ble_eq_true rfl) (fun p e R s m below meth c C0 ht => ?_)
  show zW _ _ _ _ _ _ _ _ _ _ _ _ _ _ _ _ [(0, .ref p0)] []
  exact w_X1_loadJournal_b0 C0 ht hf
def f_X9_init_b0 (E : zE) (p0 : Nat) (p1 : Int32) (h : zH) : Option (Unit × zH) :=
  bnd2 (nO h 15 3 [.int 0, .null, .int 0]) fun q1 h2 =>
  bnd2 (f_J2_init E q1 (2 : Int32) h2) fun x6 h4 =>
  (pF h4 p0 8 1 (.ref q1)).bind fun h7 =>
  bnd2 (nO h7 3 1 [.int 0]) fun q9 h10 =>
  bnd2 (f_X3_init E q9 p1 h10) fun x14 h12 =>
  (pF h12 p0 8 0 (.ref q9)).bind fun h15 =>
  some ((), h15)
theorem w_X9_init_b0 (C0 : zCx p l e R s m args below meth c D B0 2 "FranchiseLedger$Plan" cX9_init E 4 121 (Option.none : Option Jvm.ClassFile.FieldType) "<init>") {r : Unit} {h' : zH} {p0 : Nat} {p1 : Int32} {h : zH} (hf : f_X9_init_b0 E p0 p1 h = some (r, h')) : zW p l e R s m args below meth c D B0 2 (zEnd D B0 R below args s (zoV r) h') h 0 [(0, .ref p0), (1, .int p1)] [] := by
  unfold f_X9_init_b0 at hf
  refine zr_aload_n C0 dX9_init_0 rfl 0 rfl ?_
  refine zr_objInit C0 q1626 q182 q183 dX9_init_1 (by decide) (by show _ ≤ _; exact Nat.le_of_ble_eq_true rfl) ?_
  refine zr_aload_n C0 dX9_init_4 rfl 0 rfl ?_
  obtain ⟨q1, h2, e3, hf⟩ := zbind2 hf
  refine zr_newc C0 (C := RJ2) (T := TJ2) (N := 3) rfl in_J2 tyJ2_ok q1627 q191 q133 nw_J2 dX9_init_5 e3 ?_
  refine zr_dup C0 dX9_init_8 rfl ?_
  refine zr_iconst C0 (v := 2) dX9_init_9 (by decide) ?_
  obtain ⟨x6, h4, e5, hf⟩ := zbind2 hf
  refine zr_callI_r C0 cv_X9_9 (m_J2_init C0.2.2.2.2.2.2.1 e5) (by decide) (by decide) rfl rfl (Nat.le_of_ble_eq_true rfl) dX9_init_10 rfl ?_
  obtain ⟨h7, e8, hf⟩ := zbind hf
  refine zr_put C0 pl_X9_12_X9 dX9_init_13 (fun _ => rfl) rfl rfl e8 ?_
  refine zr_aload_n C0 dX9_init_16 rfl 0 rfl ?_
  obtain ⟨q9, h10, e11, hf⟩ := zbind2 hf
  refine zr_newc C0 (C := RX3) (T := TX3) (N := 1) rfl in_X3 tyX3_ok q1629 q539 q151 nw_X3 dX9_init_17 e11 ?_
  refine zr_dup C0 dX9_init_20 rfl ?_
  refine zr_iload_n C0 dX9_init_21 rfl 1 rfl ?_
  obtain ⟨x14, h12, e13, hf⟩ := zbind2 hf
  refine zr_callIN_r C0 cv_X9_20 (m_X3_init C0.2.2.2.2.2.2.1 e13) (by decide) (by decide) rfl rfl (Nat.le_of_ble_eq_true rfl) dX9_init_22 rfl ?_
  obtain ⟨h15, e16, hf⟩ := zbind hf
  refine zr_put C0 pl_X9_21_X9 dX9_init_25 (fun _ => rfl) rfl rfl e16 ?_
  refine zretW hf ?_
  exact zr_vret C0 rfl dX9_init_28 rfl
def f_X9_init (E : zE) (p0 : Nat) (p1 : Int32) (h : zH) : Option (Unit × zH) := f_X9_init_b0 E p0 p1 h
theorem m_X9_init {l : Launch} (hst : l.stackTraces = false) {D : zD} {B0 : Nat} {E : zE} {p0 : Nat} {p1 : Int32} {h h' : zH} {r : Unit} (hf : f_X9_init E p0 p1 h = some (r, h')) : zMet l yX9_init (ws_ yX9_init cX9_init 2 (Option.none : Option Jvm.ClassFile.FieldType)) 4 121 D B0 E [.ref p0, .int p1] h (zoV r) h' := by
  unfold f_X9_init at hf
  refine zMet_of hst (by decide +kernel) rfl rfl (Nat.le_of_ble_eq_true rfl) (fun p e R s m below meth c C0 hno => ?_)
  show zW _ _ _ _ _ _ _ _ _ _ _ _ _ _ _ _ [(0, .ref p0), (1, .int p1)] []
  exact w_X9_init_b0 C0 hf
def f_J17_init_X10_b0 (E : zE) (p0 : Nat) (h : zH) : Option (Unit × zH) :=
  some ((), h)
theorem w_J17_init_X10_b0 (C0 : zCx p l e R s m args below meth c D B0 1 "java/lang/Record" cJ17_init E 1 60 (Option.none : Option Jvm.ClassFile.FieldType) "<init>") {r : Unit} {h' : zH} {p0 : Nat} {h : zH} (hf : f_J17_init_X10_b0 E p0 h = some (r, h')) : zW p l e R s m args below meth c D B0 1 (zEnd D B0 R below args s (zoV r) h') h 0 [(0, .ref p0)] [] := by
  unfold f_J17_init_X10_b0 at hf
  refine zr_aload_n C0 dJ17_init_0 rfl 0 rfl ?_
  refine zr_objInit C0 q546 q182 q183 dJ17_init_1 (by decide) (by show _ ≤ _; exact Nat.le_of_ble_eq_true rfl) ?_
  refine zretW hf ?_
  exact zr_vret C0 rfl dJ17_init_4 rfl
def f_J17_init_X10 (E : zE) (p0 : Nat) (h : zH) : Option (Unit × zH) := f_J17_init_X10_b0 E p0 h
theorem m_J17_init_X10 {l : Launch} (hst : l.stackTraces = false) {D : zD} {B0 : Nat} {E : zE} {p0 : Nat} {h h' : zH} {r : Unit} (hf : f_J17_init_X10 E p0 h = some (r, h')) : zMet l yJ17_init (ws_ yJ17_init cJ17_init 1 (Option.none : Option Jvm.ClassFile.FieldType)) 1 60 D B0 E [.ref p0] h (zoV r) h' := by
  unfold f_J17_init_X10 at hf
  refine zMet_of hst (by decide +kernel) rfl rfl (Nat.le_of_ble_eq_true rfl) (fun p e R s m below meth c C0 hno => ?_)
  show zW _ _ _ _ _ _ _ _ _ _ _ _ _ _ _ _ [(0, .ref p0)] []
  exact w_J17_init_X10_b0 C0 hf
def f_X10_init_b0 (E : zE) (p0 : Nat) (p1 : Int64) (p3 : Int32) (h : zH) : Option (Unit × zH) :=
  bnd2 (f_J17_init_X10 E p0 h) fun x3 h1 =>
  (pF h1 p0 9 0 (.long p1)).bind fun h4 =>
  (pF h4 p0 9 1 (.int p3)).bind fun h6 =>
  some ((), h6)
theorem w_X10_init_b0 (C0 : zCx p l e R s m args below meth c D B0 4 "FranchiseLedger$Tier" cX10_init E 2 80 (Option.none : Option Jvm.ClassFile.FieldType) "<init>") {r : Unit} {h' : zH} {p0 : Nat} {p1 : Int64} {p3 : Int32} {h : zH} (hf : f_X10_init_b0 E p0 p1 p3 h = some (r, h')) : zW p l e R s m args below meth c D B0 4 (zEnd D B0 R below args s (zoV r) h') h 0 [(0, .ref p0), (1, .long p1), (3, .int p3)] [] := by
  unfold f_X10_init_b0 at hf
  refine zr_aload_n C0 dX10_init_0 rfl 0 rfl ?_
  obtain ⟨x3, h1, e2, hf⟩ := zbind2 hf
  refine zr_callI_r C0 cv_X10_1 (m_J17_init_X10 C0.2.2.2.2.2.2.1 e2) (by decide) (by decide) rfl rfl (Nat.le_of_ble_eq_true rfl) dX10_init_1 rfl ?_
  refine zr_aload_n C0 dX10_init_4 rfl 0 rfl ?_
  refine zr_lload_n C0 dX10_init_5 rfl 1 rfl ?_
  obtain ⟨h4, e5, hf⟩ := zbind hf
  refine zr_put C0 pl_X10_7_X10 dX10_init_6 (fun _ => rfl) rfl rfl e5 ?_
  refine zr_aload_n C0 dX10_init_9 rfl 0 rfl ?_
  refine zr_iload_n C0 dX10_init_10 rfl 2 rfl ?_
  obtain ⟨h6, e7, hf⟩ := zbind hf
  refine zr_put C0 pl_X10_13_X10 dX10_init_11 (fun _ => rfl) rfl rfl e7 ?_
  refine zretW hf ?_
  exact zr_vret C0 rfl dX10_init_14 rfl
def f_X10_init (E : zE) (p0 : Nat) (p1 : Int64) (p3 : Int32) (h : zH) : Option (Unit × zH) := f_X10_init_b0 E p0 p1 p3 h
theorem m_X10_init {l : Launch} (hst : l.stackTraces = false) {D : zD} {B0 : Nat} {E : zE} {p0 : Nat} {p1 : Int64} {p3 : Int32} {h h' : zH} {r : Unit} (hf : f_X10_init E p0 p1 p3 h = some (r, h')) : zMet l yX10_init (ws_ yX10_init cX10_init 4 (Option.none : Option Jvm.ClassFile.FieldType)) 2 80 D B0 E [.ref p0, .long p1, .int p3] h (zoV r) h' := by
  unfold f_X10_init at hf
  refine zMet_of hst (by decide +kernel) rfl rfl (Nat.le_of_ble_eq_true rfl) (fun p e R s m below meth c C0 hno => ?_)
  show zW _ _ _ _ _ _ _ _ _ _ _ _ _ _ _ _ [(0, .ref p0), (1, .long p1), (3, .int p3)] []
  exact w_X10_init_b0 C0 hf
def f_X7_plan_b111 (E : zE) (k74 : Nat → Nat → Int32 → zH → Option ((Unit ⊕ (Nat × Nat)) × zH)) (p0 : Nat) (p1 : Nat) (p2 : Int32) (s0 : Nat) (s1 : Int32) (h : zH) : Option ((Unit ⊕ (Nat × Nat)) × zH) :=
  (cko h s0 6).bind fun _ =>
  bnd2 (f_X7_require E s0 s1 (4 : Int32) h) fun x4 h2 =>
  Sum.elim (fun x5 => (
    (cko h2 p0 6).bind fun _ =>
    bnd2 (f_X7_scan E p0 h2) fun x10 h8 =>
    (gR h8 p1 8 1).bind fun x11 =>
    bnd2 (nO h8 9 2 [.long 0, .int 0]) fun q13 h14 =>
    (cko h14 p0 6).bind fun _ =>
    bnd2 (f_X7_number E p0 (0 : Int32) (3000 : Int32) h14) fun x19 h17 =>
    Sum.elim (fun x20 => (
      bnd2 (f_X10_init E q13 ((100 : Int64) * (p2.toInt64)) x20 h17) fun x24 h22 =>
      (cko h22 x11 15).bind fun _ =>
      bnd2 (f_J2_add E x11 q13 h22) fun x28 h26 =>
      k74 p0 p1 p2 h26
    )) (fun q21 => (
      some (.inr q21, h17)
    )) x19
  )) (fun q6 => (
    some (.inr q6, h2)
  )) x4
theorem w_X7_plan_b111 (C0 : zCx p l e R s m args below meth c D B0 3 "FranchiseLedger$Reader" cX7_plan E 12 307 (Option.none : Option Jvm.ClassFile.FieldType) "plan") (hno : ∀ x ∈ c.exceptionTable.toList, False) {r : (Unit ⊕ (Nat × Nat))} {h' : zH} {k74 : Nat → Nat → Int32 → zH → Option ((Unit ⊕ (Nat × Nat)) × zH)} (hk74 : ∀ (p0 : Nat) (p1 : Nat) (p2 : Int32) (h : zH), k74 p0 p1 p2 h = some (r, h') → zW p l e R s m args below meth c D B0 3 (zEnd D B0 R below args s (zoT zoV r) h') h 74 [(0, .ref p0), (1, .ref p1), (2, .int p2)] []) {p0 : Nat} {p1 : Nat} {p2 : Int32} {s0 : Nat} {s1 : Int32} {h : zH} (hf : f_X7_plan_b111 E k74 p0 p1 p2 s0 s1 h = some (r, h')) : zW p l e R s m args below meth c D B0 3 (zEnd D B0 R below args s (zoT zoV r) h') h 111 [(0, .ref p0), (1, .ref p1), (2, .int p2)] [.int s1, .ref s0] := by
  unfold f_X7_plan_b111 at hf
  refine zr_iconst C0 (v := 4) dX7_plan_111 (by decide) ?_
  obtain ⟨_, e1, hf⟩ := zbind hf
  obtain ⟨x4, h2, e3, hf⟩ := zbind2 hf
  rcases x4 with x5 | q6
  · have hf := zinl hf
    refine zr_callV_r C0 cv_X7_116_X7 rfl (zcko e1) (m_X7_require C0.2.2.2.2.2.2.1 e3) (by decide) (by decide) rfl rfl (Nat.le_of_ble_eq_true rfl) dX7_plan_112 rfl ?_
    refine zr_aload_n C0 dX7_plan_115 rfl 0 rfl ?_
    obtain ⟨_, e7, hf⟩ := zbind hf
    obtain ⟨x10, h8, e9, hf⟩ := zbind2 hf
    refine zr_callV_r C0 cv_X7_50_X7 rfl (zcko e7) (m_X7_scan C0.2.2.2.2.2.2.1 e9) (by decide) (by decide) rfl rfl (Nat.le_of_ble_eq_true rfl) dX7_plan_116 rfl ?_
    refine zr_aload_n C0 dX7_plan_119 rfl 1 rfl ?_
    obtain ⟨x11, e12, hf⟩ := zbind hf
    refine zr_get C0 fl_X7_167_X9 dX7_plan_120 (zgR e12) ?_
    obtain ⟨q13, h14, e15, hf⟩ := zbind2 hf
    refine zr_newc C0 (C := RX10) (T := TX10) (N := 2) rfl in_X10 tyX10_ok q1640 q1641 q160 nw_X10 dX7_plan_123 e15 ?_
    refine zr_dup C0 dX7_plan_126 rfl ?_
    refine zr_ldc2 C0 (v := 100) q1535 dX7_plan_127 ?_
    refine zr_iload_n C0 dX7_plan_130 rfl 2 rfl ?_
    refine zr_i2l C0 dX7_plan_131 ?_
    refine zr_lmul C0 dX7_plan_132 ?_
    refine zr_aload_n C0 dX7_plan_133 rfl 0 rfl ?_
    refine zr_iconst C0 (v := 0) dX7_plan_134 (by decide) ?_
    refine zr_sipush C0 (v := 3000) dX7_plan_135 (by decide) ?_
    obtain ⟨_, e16, hf⟩ := zbind hf
    obtain ⟨x19, h17, e18, hf⟩ := zbind2 hf
    rcases x19 with x20 | q21
    · have hf := zinl hf
      refine zr_callV_r C0 cv_X7_164_X7 rfl (zcko e16) (m_X7_number C0.2.2.2.2.2.2.1 e18) (by decide) (by decide) rfl rfl (Nat.le_of_ble_eq_true rfl) dX7_plan_138 rfl ?_
      obtain ⟨x24, h22, e23, hf⟩ := zbind2 hf
      refine zr_callIN_r C0 cv_X7_172 (m_X10_init C0.2.2.2.2.2.2.1 e23) (by decide) (by decide) rfl rfl (Nat.le_of_ble_eq_true rfl) dX7_plan_141 rfl ?_
      obtain ⟨_, e25, hf⟩ := zbind hf
      obtain ⟨x28, h26, e27, hf⟩ := zbind2 hf
      refine zr_callF_r C0 cv_X7_175_J2 rfl (zcko e25) (m_J2_add C0.2.2.2.2.2.2.1 e27) (by decide) (by decide) rfl rfl (Nat.le_of_ble_eq_true rfl) dX7_plan_144 rfl ?_
      refine zr_pop C0 dX7_plan_149 rfl ?_
      refine zr_goto C0 (tgt := 74) dX7_plan_150 (by decide) ?_
      exact hk74 _ _ _ _ hf
    · have hf := zinr hf
      refine zretW hf ?_
      exact zr_callV_t C0 cv_X7_164_X7 rfl (zcko e16) (m_X7_number C0.2.2.2.2.2.2.1 e18) (by decide) (by decide) rfl rfl (Nat.le_of_ble_eq_true rfl) dX7_plan_138 (zr_out C0 hno rfl)
  · have hf := zinr hf
    refine zretW hf ?_
    exact zr_callV_t C0 cv_X7_116_X7 rfl (zcko e1) (m_X7_require C0.2.2.2.2.2.2.1 e3) (by decide) (by decide) rfl rfl (Nat.le_of_ble_eq_true rfl) dX7_plan_112 (zr_out C0 hno rfl)
def f_X7_plan_l74 (E : zE) : Nat → Nat → Nat → Int32 → zH → Option ((Unit ⊕ (Nat × Nat)) × zH)
  | 0, _, _, _, _ => none
  | n + 1, p0, p1, p2, h =>
    (gI h p0 6 5).bind fun x1 =>
    if x1 = (2 : Int32) then (
      (cko h p0 6).bind fun _ =>
      bnd2 (f_X7_figure E p0 (p2 + (1 : Int32)) (99999 : Int32) h) fun x15 h13 =>
      Sum.elim (fun x16 => (
        (gR h13 p1 8 1).bind fun x18 =>
        (cko h13 x18 15).bind fun _ =>
        bnd2 (f_J2_size E x18 h13) fun x23 h21 =>
        if (4 : Int32) < x23 then (
          f_X7_plan_b111 E (f_X7_plan_l74 E n) p0 p1 x16 p0 (0 : Int32) h21
        ) else (
          f_X7_plan_b111 E (f_X7_plan_l74 E n) p0 p1 x16 p0 (1 : Int32) h21
        )
      )) (fun q17 => (
        some (.inr q17, h13)
      )) x15
    ) else (
      (gR h p0 6 1).bind fun x4 =>
      (gR h x4 2 0).bind fun x6 =>
      (cko h x6 15).bind fun _ =>
      bnd2 (f_J2_add E x6 p1 h) fun x11 h9 =>
      some (.inl (), h9)
    )
theorem w_X7_plan_l74 (C0 : zCx p l e R s m args below meth c D B0 3 "FranchiseLedger$Reader" cX7_plan E 12 307 (Option.none : Option Jvm.ClassFile.FieldType) "plan") (hno : ∀ x ∈ c.exceptionTable.toList, False) {r : (Unit ⊕ (Nat × Nat))} {h' : zH} : ∀ (n : Nat) (p0 : Nat) (p1 : Nat) (p2 : Int32) (h : zH), f_X7_plan_l74 E n p0 p1 p2 h = some (r, h') → zW p l e R s m args below meth c D B0 3 (zEnd D B0 R below args s (zoT zoV r) h') h 74 [(0, .ref p0), (1, .ref p1), (2, .int p2)] [] := by
  intro n
  induction n with
  | zero =>
    intro p0 p1 p2 h hf
    unfold f_X7_plan_l74 at hf
    cases hf
  | succ n ih =>
    intro p0 p1 p2 h hf
    unfold f_X7_plan_l74 at hf
    refine zr_aload_n C0 dX7_plan_74 rfl 0 rfl ?_
    obtain ⟨x1, e2, hf⟩ := zbind hf
    refine zr_get C0 fl_X7_79_X7 dX7_plan_75 (zgI e2) ?_
    refine zr_iconst C0 (v := 2) dX7_plan_78 (by decide) ?_
    refine zr_icmp_ne C0 (tgt := 153) dX7_plan_79 (by decide) (fun c3 => ?_) (fun c3 => ?_)
    · have hf := zif_f c3 hf
      refine zr_aload_n C0 dX7_plan_153 rfl 0 rfl ?_
      obtain ⟨x4, e5, hf⟩ := zbind hf
      refine zr_get C0 fl_X7_18_X7 dX7_plan_154 (zgR e5) ?_
      obtain ⟨x6, e7, hf⟩ := zbind hf
      refine zr_get C0 fl_X7_153_X2 dX7_plan_157 (zgR e7) ?_
      refine zr_aload_n C0 dX7_plan_160 rfl 1 rfl ?_
      obtain ⟨_, e8, hf⟩ := zbind hf
      obtain ⟨x11, h9, e10, hf⟩ := zbind2 hf
      refine zr_callF_r C0 cv_X7_175_J2 rfl (zcko e8) (m_J2_add C0.2.2.2.2.2.2.1 e10) (by decide) (by decide) rfl rfl (Nat.le_of_ble_eq_true rfl) dX7_plan_161 rfl ?_
      refine zr_pop C0 dX7_plan_166 rfl ?_
      refine zretW hf ?_
      exact zr_vret C0 rfl dX7_plan_167 rfl
    · have hf := zif_t c3 hf
      refine zr_aload_n C0 dX7_plan_82 rfl 0 rfl ?_
      refine zr_iload_n C0 dX7_plan_83 rfl 2 rfl ?_
      refine zr_iconst C0 (v := 1) dX7_plan_84 (by decide) ?_
      refine zr_iadd C0 dX7_plan_85 ?_
      refine zr_ldc C0 (v := 99999) q1653 dX7_plan_86 ?_
      obtain ⟨_, e12, hf⟩ := zbind hf
      obtain ⟨x15, h13, e14, hf⟩ := zbind2 hf
      rcases x15 with x16 | q17
      · have hf := zinl hf
        refine zr_callV_r C0 cv_X7_120_X7 rfl (zcko e12) (m_X7_figure C0.2.2.2.2.2.2.1 e14) (by decide) (by decide) rfl rfl (Nat.le_of_ble_eq_true rfl) dX7_plan_88 rfl ?_
        refine zr_istore_n (i := 2) (lv' := [(2, .int x16), (0, .ref p0), (1, .ref p1)]) C0 dX7_plan_91 rfl (by decide) (by first | rfl | simp [zst1, zst2, zcat_rf]) ?_
        refine zr_aload_n C0 dX7_plan_92 rfl 1 rfl ?_
        refine zr_aload_n C0 dX7_plan_93 rfl 2 rfl ?_
        obtain ⟨x18, e19, hf⟩ := zbind hf
        refine zr_get C0 fl_X7_167_X9 dX7_plan_94 (zgR e19) ?_
        obtain ⟨_, e20, hf⟩ := zbind hf
        obtain ⟨x23, h21, e22, hf⟩ := zbind2 hf
        refine zr_callF_r C0 cv_X7_157_J2 rfl (zcko e20) (m_J2_size C0.2.2.2.2.2.2.1 e22) (by decide) (by decide) rfl rfl (Nat.le_of_ble_eq_true rfl) dX7_plan_97 rfl ?_
        refine zr_iconst C0 (v := 4) dX7_plan_102 (by decide) ?_
        refine zr_icmp_gt C0 (tgt := 110) dX7_plan_103 (by decide) (fun c24 => ?_) (fun c24 => ?_)
        · have hf := zif_t c24 hf
          refine zr_iconst C0 (v := 0) dX7_plan_110 (by decide) ?_
          refine zr_sub [1, 2, 0] rfl ?_
          exact w_X7_plan_b111 C0 hno ih hf
        · have hf := zif_f c24 hf
          refine zr_iconst C0 (v := 1) dX7_plan_106 (by decide) ?_
          refine zr_goto C0 (tgt := 111) dX7_plan_107 (by decide) ?_
          refine zr_sub [1, 2, 0] rfl ?_
          exact w_X7_plan_b111 C0 hno ih hf
      · have hf := zinr hf
        refine zretW hf ?_
        exact zr_callV_t C0 cv_X7_120_X7 rfl (zcko e12) (m_X7_figure C0.2.2.2.2.2.2.1 e14) (by decide) (by decide) rfl rfl (Nat.le_of_ble_eq_true rfl) dX7_plan_88 (zr_out C0 hno rfl)
def f_X7_plan_b22 (E : zE) (p0 : Nat) (s0 : Nat) (s1 : Int32) (h : zH) : Option ((Unit ⊕ (Nat × Nat)) × zH) :=
  (cko h s0 6).bind fun _ =>
  bnd2 (f_X7_require E s0 s1 (4 : Int32) h) fun x4 h2 =>
  Sum.elim (fun x5 => (
    (cko h2 p0 6).bind fun _ =>
    bnd2 (f_X7_scan E p0 h2) fun x10 h8 =>
    bnd2 (nO h8 8 2 [.null, .null]) fun q11 h12 =>
    (cko h12 p0 6).bind fun _ =>
    bnd2 (f_X7_number E p0 (0 : Int32) (1000 : Int32) h12) fun x17 h15 =>
    Sum.elim (fun x18 => (
      bnd2 (f_X9_init E q11 x18 h15) fun x22 h20 =>
      (gR h20 q11 8 1).bind fun x23 =>
      bnd2 (nO h20 9 2 [.long 0, .int 0]) fun q25 h26 =>
      (cko h26 p0 6).bind fun _ =>
      bnd2 (f_X7_number E p0 (0 : Int32) (3000 : Int32) h26) fun x31 h29 =>
      Sum.elim (fun x32 => (
        bnd2 (f_X10_init E q25 (0 : Int64) x32 h29) fun x36 h34 =>
        (cko h34 x23 15).bind fun _ =>
        bnd2 (f_J2_add E x23 q25 h34) fun x40 h38 =>
        f_X7_plan_l74 E E.1 p0 q11 (0 : Int32) h38
      )) (fun q33 => (
        some (.inr q33, h29)
      )) x31
    )) (fun q19 => (
      some (.inr q19, h15)
    )) x17
  )) (fun q6 => (
    some (.inr q6, h2)
  )) x4
theorem w_X7_plan_b22 (C0 : zCx p l e R s m args below meth c D B0 3 "FranchiseLedger$Reader" cX7_plan E 12 307 (Option.none : Option Jvm.ClassFile.FieldType) "plan") (hno : ∀ x ∈ c.exceptionTable.toList, False) {r : (Unit ⊕ (Nat × Nat))} {h' : zH} {p0 : Nat} {s0 : Nat} {s1 : Int32} {h : zH} (hf : f_X7_plan_b22 E p0 s0 s1 h = some (r, h')) : zW p l e R s m args below meth c D B0 3 (zEnd D B0 R below args s (zoT zoV r) h') h 22 [(0, .ref p0)] [.int s1, .ref s0] := by
  unfold f_X7_plan_b22 at hf
  refine zr_iconst C0 (v := 4) dX7_plan_22 (by decide) ?_
  obtain ⟨_, e1, hf⟩ := zbind hf
  obtain ⟨x4, h2, e3, hf⟩ := zbind2 hf
  rcases x4 with x5 | q6
  · have hf := zinl hf
    refine zr_callV_r C0 cv_X7_116_X7 rfl (zcko e1) (m_X7_require C0.2.2.2.2.2.2.1 e3) (by decide) (by decide) rfl rfl (Nat.le_of_ble_eq_true rfl) dX7_plan_23 rfl ?_
    refine zr_aload_n C0 dX7_plan_26 rfl 0 rfl ?_
    obtain ⟨_, e7, hf⟩ := zbind hf
    obtain ⟨x10, h8, e9, hf⟩ := zbind2 hf
    refine zr_callV_r C0 cv_X7_50_X7 rfl (zcko e7) (m_X7_scan C0.2.2.2.2.2.2.1 e9) (by decide) (by decide) rfl rfl (Nat.le_of_ble_eq_true rfl) dX7_plan_27 rfl ?_
    obtain ⟨q11, h12, e13, hf⟩ := zbind2 hf
    refine zr_newc C0 (C := RX9) (T := TX9) (N := 2) rfl in_X9 tyX9_ok q1621 q1622 q159 nw_X9 dX7_plan_30 e13 ?_
    refine zr_dup C0 dX7_plan_33 rfl ?_
    refine zr_aload_n C0 dX7_plan_34 rfl 0 rfl ?_
    refine zr_iconst C0 (v := 0) dX7_plan_35 (by decide) ?_
    refine zr_sipush C0 (v := 1000) dX7_plan_36 (by decide) ?_
    obtain ⟨_, e14, hf⟩ := zbind hf
    obtain ⟨x17, h15, e16, hf⟩ := zbind2 hf
    rcases x17 with x18 | q19
    · have hf := zinl hf
      refine zr_callV_r C0 cv_X7_164_X7 rfl (zcko e14) (m_X7_number C0.2.2.2.2.2.2.1 e16) (by decide) (by decide) rfl rfl (Nat.le_of_ble_eq_true rfl) dX7_plan_39 rfl ?_
      obtain ⟨x22, h20, e21, hf⟩ := zbind2 hf
      refine zr_callI_r C0 cv_X7_166 (m_X9_init C0.2.2.2.2.2.2.1 e21) (by decide) (by decide) rfl rfl (Nat.le_of_ble_eq_true rfl) dX7_plan_42 rfl ?_
      refine zr_astore_n (i := 1) (lv' := [(1, .ref q11), (0, .ref p0)]) C0 dX7_plan_45 rfl (by decide) (by first | rfl | simp [zst1, zst2, zcat_rf]) ?_
      refine zr_aload_n C0 dX7_plan_46 rfl 0 rfl ?_
      obtain ⟨x23, e24, hf⟩ := zbind hf
      refine zr_get C0 fl_X7_167_X9 dX7_plan_47 (zgR e24) ?_
      obtain ⟨q25, h26, e27, hf⟩ := zbind2 hf
      refine zr_newc C0 (C := RX10) (T := TX10) (N := 2) rfl in_X10 tyX10_ok q1640 q1641 q160 nw_X10 dX7_plan_50 e27 ?_
      refine zr_dup C0 dX7_plan_53 rfl ?_
      refine zr_lconst C0 (v := 0) dX7_plan_54 (by decide) ?_
      refine zr_aload_n C0 dX7_plan_55 rfl 1 rfl ?_
      refine zr_iconst C0 (v := 0) dX7_plan_56 (by decide) ?_
      refine zr_sipush C0 (v := 3000) dX7_plan_57 (by decide) ?_
      obtain ⟨_, e28, hf⟩ := zbind hf
      obtain ⟨x31, h29, e30, hf⟩ := zbind2 hf
      rcases x31 with x32 | q33
      · have hf := zinl hf
        refine zr_callV_r C0 cv_X7_164_X7 rfl (zcko e28) (m_X7_number C0.2.2.2.2.2.2.1 e30) (by decide) (by decide) rfl rfl (Nat.le_of_ble_eq_true rfl) dX7_plan_60 rfl ?_
        obtain ⟨x36, h34, e35, hf⟩ := zbind2 hf
        refine zr_callIN_r C0 cv_X7_172 (m_X10_init C0.2.2.2.2.2.2.1 e35) (by decide) (by decide) rfl rfl (Nat.le_of_ble_eq_true rfl) dX7_plan_63 rfl ?_
        obtain ⟨_, e37, hf⟩ := zbind hf
        obtain ⟨x40, h38, e39, hf⟩ := zbind2 hf
        refine zr_callF_r C0 cv_X7_175_J2 rfl (zcko e37) (m_J2_add C0.2.2.2.2.2.2.1 e39) (by decide) (by decide) rfl rfl (Nat.le_of_ble_eq_true rfl) dX7_plan_66 rfl ?_
        refine zr_pop C0 dX7_plan_71 rfl ?_
        refine zr_iconst C0 (v := 0) dX7_plan_72 (by decide) ?_
        refine zr_istore_n (i := 2) (lv' := [(2, .int (0 : Int32)), (1, .ref q11), (0, .ref p0)]) C0 dX7_plan_73 rfl (by decide) (by first | rfl | simp [zst1, zst2, zcat_rf]) ?_
        refine zr_sub [2, 1, 0] rfl ?_
        exact w_X7_plan_l74 C0 hno _ _ _ _ _ hf
      · have hf := zinr hf
        refine zretW hf ?_
        exact zr_callV_t C0 cv_X7_164_X7 rfl (zcko e28) (m_X7_number C0.2.2.2.2.2.2.1 e30) (by decide) (by decide) rfl rfl (Nat.le_of_ble_eq_true rfl) dX7_plan_60 (zr_out C0 hno rfl)
    · have hf := zinr hf
      refine zretW hf ?_
      exact zr_callV_t C0 cv_X7_164_X7 rfl (zcko e14) (m_X7_number C0.2.2.2.2.2.2.1 e16) (by decide) (by decide) rfl rfl (Nat.le_of_ble_eq_true rfl) dX7_plan_39 (zr_out C0 hno rfl)
  · have hf := zinr hf
    refine zretW hf ?_
    exact zr_callV_t C0 cv_X7_116_X7 rfl (zcko e1) (m_X7_require C0.2.2.2.2.2.2.1 e3) (by decide) (by decide) rfl rfl (Nat.le_of_ble_eq_true rfl) dX7_plan_23 (zr_out C0 hno rfl)
def f_X7_plan_b0 (E : zE) (p0 : Nat) (h : zH) : Option ((Unit ⊕ (Nat × Nat)) × zH) :=
  (gR h p0 6 1).bind fun x1 =>
  (gR h x1 2 0).bind fun x3 =>
  (cko h x3 15).bind fun _ =>
  bnd2 (f_J2_size E x3 h) fun x8 h6 =>
  if (4 : Int32) ≤ x8 then (
    f_X7_plan_b22 E p0 p0 (0 : Int32) h6
  ) else (
    f_X7_plan_b22 E p0 p0 (1 : Int32) h6
  )
theorem w_X7_plan_b0 (C0 : zCx p l e R s m args below meth c D B0 3 "FranchiseLedger$Reader" cX7_plan E 12 307 (Option.none : Option Jvm.ClassFile.FieldType) "plan") (hno : ∀ x ∈ c.exceptionTable.toList, False) {r : (Unit ⊕ (Nat × Nat))} {h' : zH} {p0 : Nat} {h : zH} (hf : f_X7_plan_b0 E p0 h = some (r, h')) : zW p l e R s m args below meth c D B0 3 (zEnd D B0 R below args s (zoT zoV r) h') h 0 [(0, .ref p0)] [] := by
  unfold f_X7_plan_b0 at hf
  refine zr_aload_n C0 dX7_plan_0 rfl 0 rfl ?_
  refine zr_aload_n C0 dX7_plan_1 rfl 0 rfl ?_
  obtain ⟨x1, e2, hf⟩ := zbind hf
  refine zr_get C0 fl_X7_18_X7 dX7_plan_2 (zgR e2) ?_
  obtain ⟨x3, e4, hf⟩ := zbind hf
  refine zr_get C0 fl_X7_153_X2 dX7_plan_5 (zgR e4) ?_
  obtain ⟨_, e5, hf⟩ := zbind hf
  obtain ⟨x8, h6, e7, hf⟩ := zbind2 hf
  refine zr_callF_r C0 cv_X7_157_J2 rfl (zcko e5) (m_J2_size C0.2.2.2.2.2.2.1 e7) (by decide) (by decide) rfl rfl (Nat.le_of_ble_eq_true rfl) dX7_plan_8 rfl ?_
  refine zr_iconst C0 (v := 4) dX7_plan_13 (by decide) ?_
  refine zr_icmp_ge C0 (tgt := 21) dX7_plan_14 (by decide) (fun c9 => ?_) (fun c9 => ?_)
  · have hf := zif_t c9 hf
    refine zr_iconst C0 (v := 0) dX7_plan_21 (by decide) ?_
    exact w_X7_plan_b22 C0 hno hf
  · have hf := zif_f c9 hf
    refine zr_iconst C0 (v := 1) dX7_plan_17 (by decide) ?_
    refine zr_goto C0 (tgt := 22) dX7_plan_18 (by decide) ?_
    exact w_X7_plan_b22 C0 hno hf
def f_X7_plan (E : zE) (p0 : Nat) (h : zH) : Option ((Unit ⊕ (Nat × Nat)) × zH) := f_X7_plan_b0 E p0 h
theorem m_X7_plan {l : Launch} (hst : l.stackTraces = false) {D : zD} {B0 : Nat} {E : zE} {p0 : Nat} {h h' : zH} {r : (Unit ⊕ (Nat × Nat))} (hf : f_X7_plan E p0 h = some (r, h')) : zMet l yX7_plan (ws_ yX7_plan cX7_plan 3 (Option.none : Option Jvm.ClassFile.FieldType)) 12 307 D B0 E [.ref p0] h (zoT zoV r) h' := by
  unfold f_X7_plan at hf
  refine zMet_of hst (by decide +kernel) rfl rfl (Nat.le_of_ble_eq_true rfl) (fun p e R s m below meth c C0 hno => ?_)
  show zW _ _ _ _ _ _ _ _ _ _ _ _ _ _ _ _ [(0, .ref p0)] []
  exact w_X7_plan_b0 C0 hno hf
def f_X7_franchisee_b77 (E : zE) (p0 : Nat) (s0 : Nat) (s1 : Int32) (h : zH) : Option ((Unit ⊕ (Nat × Nat)) × zH) :=
  (cko h s0 6).bind fun _ =>
  bnd2 (f_X7_require E s0 s1 (3 : Int32) h) fun x4 h2 =>
  Sum.elim (fun x5 => (
    (gR h2 p0 6 7).bind fun x7 =>
    (cko h2 p0 6).bind fun _ =>
    bnd2 (f_X7_scan E p0 h2) fun x12 h10 =>
    (gR h10 p0 6 1).bind fun x13 =>
    (gR h10 x13 2 0).bind fun x15 =>
    (cko h10 x15 15).bind fun _ =>
    bnd2 (f_J2_size E x15 h10) fun x20 h18 =>
    (cko h18 p0 6).bind fun _ =>
    bnd2 (f_X7_number E p0 (0 : Int32) (x20 - (1 : Int32)) h18) fun x24 h22 =>
    Sum.elim (fun x25 => (
      (gR h22 p0 6 2).bind fun x27 =>
      (gR h22 x27 4 0).bind fun x29 =>
      bnd2 (nO h22 10 11 [.null, .null, .null, .int 0, .int 0, .int 0, .int 0, .int 0, .long 0, .long 0, .long 0]) fun q31 h32 =>
      (cko h32 p0 6).bind fun _ =>
      bnd2 (f_X7_number E p0 (0 : Int32) (999 : Int32) h32) fun x37 h35 =>
      Sum.elim (fun x38 => (
        bnd2 (f_X11_init E q31 x25 x38 h35) fun x42 h40 =>
        (cko h40 x29 15).bind fun _ =>
        bnd2 (f_J2_add E x29 q31 h40) fun x46 h44 =>
        (gR h44 p0 6 1).bind fun x47 =>
        (gR h44 x47 2 1).bind fun x49 =>
        (cko h44 x49 15).bind fun _ =>
        bnd2 (f_J2_add E x49 x7 h44) fun x54 h52 =>
        some (.inl (), h52)
      )) (fun q39 => (
        some (.inr q39, h35)
      )) x37
    )) (fun q26 => (
      some (.inr q26, h22)
    )) x24
  )) (fun q6 => (
    some (.inr q6, h2)
  )) x4
theorem w_X7_franchisee_b77 (C0 : zCx p l e R s m args below meth c D B0 3 "FranchiseLedger$Reader" cX7_franchisee E 12 307 (Option.none : Option Jvm.ClassFile.FieldType) "franchisee") (hno : ∀ x ∈ c.exceptionTable.toList, False) {r : (Unit ⊕ (Nat × Nat))} {h' : zH} {p0 : Nat} {s0 : Nat} {s1 : Int32} {h : zH} (hf : f_X7_franchisee_b77 E p0 s0 s1 h = some (r, h')) : zW p l e R s m args below meth c D B0 3 (zEnd D B0 R below args s (zoT zoV r) h') h 77 [(0, .ref p0)] [.int s1, .ref s0] := by
  unfold f_X7_franchisee_b77 at hf
  refine zr_iconst C0 (v := 3) dX7_franchisee_77 (by decide) ?_
  obtain ⟨_, e1, hf⟩ := zbind hf
  obtain ⟨x4, h2, e3, hf⟩ := zbind2 hf
  rcases x4 with x5 | q6
  · have hf := zinl hf
    refine zr_callV_r C0 cv_X7_116_X7 rfl (zcko e1) (m_X7_require C0.2.2.2.2.2.2.1 e3) (by decide) (by decide) rfl rfl (Nat.le_of_ble_eq_true rfl) dX7_franchisee_78 rfl ?_
    refine zr_aload_n C0 dX7_franchisee_81 rfl 0 rfl ?_
    obtain ⟨x7, e8, hf⟩ := zbind hf
    refine zr_get C0 fl_X7_33_X7 dX7_franchisee_82 (zgR e8) ?_
    refine zr_astore_n (i := 1) (lv' := [(1, .ref x7), (0, .ref p0)]) C0 dX7_franchisee_85 rfl (by decide) (by first | rfl | simp [zst1, zst2, zcat_rf]) ?_
    refine zr_aload_n C0 dX7_franchisee_86 rfl 1 rfl ?_
    obtain ⟨_, e9, hf⟩ := zbind hf
    obtain ⟨x12, h10, e11, hf⟩ := zbind2 hf
    refine zr_callV_r C0 cv_X7_50_X7 rfl (zcko e9) (m_X7_scan C0.2.2.2.2.2.2.1 e11) (by decide) (by decide) rfl rfl (Nat.le_of_ble_eq_true rfl) dX7_franchisee_87 rfl ?_
    refine zr_aload_n C0 dX7_franchisee_90 rfl 1 rfl ?_
    refine zr_iconst C0 (v := 0) dX7_franchisee_91 (by decide) ?_
    refine zr_aload_n C0 dX7_franchisee_92 rfl 1 rfl ?_
    obtain ⟨x13, e14, hf⟩ := zbind hf
    refine zr_get C0 fl_X7_18_X7 dX7_franchisee_93 (zgR e14) ?_
    obtain ⟨x15, e16, hf⟩ := zbind hf
    refine zr_get C0 fl_X7_153_X2 dX7_franchisee_96 (zgR e16) ?_
    obtain ⟨_, e17, hf⟩ := zbind hf
    obtain ⟨x20, h18, e19, hf⟩ := zbind2 hf
    refine zr_callF_r C0 cv_X7_157_J2 rfl (zcko e17) (m_J2_size C0.2.2.2.2.2.2.1 e19) (by decide) (by decide) rfl rfl (Nat.le_of_ble_eq_true rfl) dX7_franchisee_99 rfl ?_
    refine zr_iconst C0 (v := 1) dX7_franchisee_104 (by decide) ?_
    refine zr_isub C0 dX7_franchisee_105 ?_
    obtain ⟨_, e21, hf⟩ := zbind hf
    obtain ⟨x24, h22, e23, hf⟩ := zbind2 hf
    rcases x24 with x25 | q26
    · have hf := zinl hf
      refine zr_callV_r C0 cv_X7_164_X7 rfl (zcko e21) (m_X7_number C0.2.2.2.2.2.2.1 e23) (by decide) (by decide) rfl rfl (Nat.le_of_ble_eq_true rfl) dX7_franchisee_106 rfl ?_
      refine zr_istore_n (i := 2) (lv' := [(2, .int x25), (1, .ref x7), (0, .ref p0)]) C0 dX7_franchisee_109 rfl (by decide) (by first | rfl | simp [zst1, zst2, zcat_rf]) ?_
      refine zr_aload_n C0 dX7_franchisee_110 rfl 2 rfl ?_
      obtain ⟨x27, e28, hf⟩ := zbind hf
      refine zr_get C0 fl_X7_27_X7 dX7_franchisee_111 (zgR e28) ?_
      obtain ⟨x29, e30, hf⟩ := zbind hf
      refine zr_get C0 fl_X7_181_X4 dX7_franchisee_114 (zgR e30) ?_
      obtain ⟨q31, h32, e33, hf⟩ := zbind2 hf
      refine zr_newc C0 (C := RX11) (T := TX11) (N := 11) rfl in_X11 tyX11_ok q1658 q862 q167 nw_X11 dX7_franchisee_117 e33 ?_
      refine zr_dup C0 dX7_franchisee_120 rfl ?_
      refine zr_iload_n C0 dX7_franchisee_121 rfl 0 rfl ?_
      refine zr_aload_n C0 dX7_franchisee_122 rfl 2 rfl ?_
      refine zr_iconst C0 (v := 0) dX7_franchisee_123 (by decide) ?_
      refine zr_sipush C0 (v := 999) dX7_franchisee_124 (by decide) ?_
      obtain ⟨_, e34, hf⟩ := zbind hf
      obtain ⟨x37, h35, e36, hf⟩ := zbind2 hf
      rcases x37 with x38 | q39
      · have hf := zinl hf
        refine zr_callV_r C0 cv_X7_164_X7 rfl (zcko e34) (m_X7_number C0.2.2.2.2.2.2.1 e36) (by decide) (by decide) rfl rfl (Nat.le_of_ble_eq_true rfl) dX7_franchisee_127 rfl ?_
        obtain ⟨x42, h40, e41, hf⟩ := zbind2 hf
        refine zr_callI_r C0 cv_X7_193 (m_X11_init C0.2.2.2.2.2.2.1 e41) (by decide) (by decide) rfl rfl (Nat.le_of_ble_eq_true rfl) dX7_franchisee_130 rfl ?_
        obtain ⟨_, e43, hf⟩ := zbind hf
        obtain ⟨x46, h44, e45, hf⟩ := zbind2 hf
        refine zr_callF_r C0 cv_X7_175_J2 rfl (zcko e43) (m_J2_add C0.2.2.2.2.2.2.1 e45) (by decide) (by decide) rfl rfl (Nat.le_of_ble_eq_true rfl) dX7_franchisee_133 rfl ?_
        refine zr_pop C0 dX7_franchisee_138 rfl ?_
        refine zr_aload_n C0 dX7_franchisee_139 rfl 2 rfl ?_
        obtain ⟨x47, e48, hf⟩ := zbind hf
        refine zr_get C0 fl_X7_18_X7 dX7_franchisee_140 (zgR e48) ?_
        obtain ⟨x49, e50, hf⟩ := zbind hf
        refine zr_get C0 fl_X7_194_X2 dX7_franchisee_143 (zgR e50) ?_
        refine zr_aload_n C0 dX7_franchisee_146 rfl 1 rfl ?_
        obtain ⟨_, e51, hf⟩ := zbind hf
        obtain ⟨x54, h52, e53, hf⟩ := zbind2 hf
        refine zr_callF_r C0 cv_X7_175_J2 rfl (zcko e51) (m_J2_add C0.2.2.2.2.2.2.1 e53) (by decide) (by decide) rfl rfl (Nat.le_of_ble_eq_true rfl) dX7_franchisee_147 rfl ?_
        refine zr_pop C0 dX7_franchisee_152 rfl ?_
        refine zretW hf ?_
        exact zr_vret C0 rfl dX7_franchisee_153 rfl
      · have hf := zinr hf
        refine zretW hf ?_
        exact zr_callV_t C0 cv_X7_164_X7 rfl (zcko e34) (m_X7_number C0.2.2.2.2.2.2.1 e36) (by decide) (by decide) rfl rfl (Nat.le_of_ble_eq_true rfl) dX7_franchisee_127 (zr_out C0 hno rfl)
    · have hf := zinr hf
      refine zretW hf ?_
      exact zr_callV_t C0 cv_X7_164_X7 rfl (zcko e21) (m_X7_number C0.2.2.2.2.2.2.1 e23) (by decide) (by decide) rfl rfl (Nat.le_of_ble_eq_true rfl) dX7_franchisee_106 (zr_out C0 hno rfl)
  · have hf := zinr hf
    refine zretW hf ?_
    exact zr_callV_t C0 cv_X7_116_X7 rfl (zcko e1) (m_X7_require C0.2.2.2.2.2.2.1 e3) (by decide) (by decide) rfl rfl (Nat.le_of_ble_eq_true rfl) dX7_franchisee_78 (zr_out C0 hno rfl)
def f_X7_franchisee_b52 (E : zE) (p0 : Nat) (s0 : Nat) (s1 : Int32) (h : zH) : Option ((Unit ⊕ (Nat × Nat)) × zH) :=
  (cko h s0 6).bind fun _ =>
  bnd2 (f_X7_require E s0 s1 (1 : Int32) h) fun x4 h2 =>
  Sum.elim (fun x5 => (
    (gR h2 p0 6 1).bind fun x7 =>
    (gR h2 p0 6 7).bind fun x9 =>
    (cko h2 x7 2).bind fun _ =>
    bnd2 (f_X2_named_J9 E x7 x9 h2) fun x14 h12 =>
    if x14 = (-1 : Int32) then (
      f_X7_franchisee_b77 E p0 p0 (1 : Int32) h12
    ) else (
      f_X7_franchisee_b77 E p0 p0 (0 : Int32) h12
    )
  )) (fun q6 => (
    some (.inr q6, h2)
  )) x4
theorem w_X7_franchisee_b52 (C0 : zCx p l e R s m args below meth c D B0 3 "FranchiseLedger$Reader" cX7_franchisee E 12 307 (Option.none : Option Jvm.ClassFile.FieldType) "franchisee") (hno : ∀ x ∈ c.exceptionTable.toList, False) {r : (Unit ⊕ (Nat × Nat))} {h' : zH} {p0 : Nat} {s0 : Nat} {s1 : Int32} {h : zH} (hf : f_X7_franchisee_b52 E p0 s0 s1 h = some (r, h')) : zW p l e R s m args below meth c D B0 3 (zEnd D B0 R below args s (zoT zoV r) h') h 52 [(0, .ref p0)] [.int s1, .ref s0] := by
  unfold f_X7_franchisee_b52 at hf
  refine zr_iconst C0 (v := 1) dX7_franchisee_52 (by decide) ?_
  obtain ⟨_, e1, hf⟩ := zbind hf
  obtain ⟨x4, h2, e3, hf⟩ := zbind2 hf
  rcases x4 with x5 | q6
  · have hf := zinl hf
    refine zr_callV_r C0 cv_X7_116_X7 rfl (zcko e1) (m_X7_require C0.2.2.2.2.2.2.1 e3) (by decide) (by decide) rfl rfl (Nat.le_of_ble_eq_true rfl) dX7_franchisee_53 rfl ?_
    refine zr_aload_n C0 dX7_franchisee_56 rfl 0 rfl ?_
    refine zr_aload_n C0 dX7_franchisee_57 rfl 0 rfl ?_
    obtain ⟨x7, e8, hf⟩ := zbind hf
    refine zr_get C0 fl_X7_18_X7 dX7_franchisee_58 (zgR e8) ?_
    refine zr_aload_n C0 dX7_franchisee_61 rfl 0 rfl ?_
    obtain ⟨x9, e10, hf⟩ := zbind hf
    refine zr_get C0 fl_X7_33_X7 dX7_franchisee_62 (zgR e10) ?_
    obtain ⟨_, e11, hf⟩ := zbind hf
    obtain ⟨x14, h12, e13, hf⟩ := zbind2 hf
    refine zr_callV_r C0 cv_X7_187_X2 rfl (zcko e11) (m_X2_named_J9 C0.2.2.2.2.2.2.1 e13) (by decide) (by decide) rfl rfl (Nat.le_of_ble_eq_true rfl) dX7_franchisee_65 rfl ?_
    refine zr_iconst C0 (v := -1) dX7_franchisee_68 (by decide) ?_
    refine zr_icmp_ne C0 (tgt := 76) dX7_franchisee_69 (by decide) (fun c15 => ?_) (fun c15 => ?_)
    · have hf := zif_f c15 hf
      refine zr_iconst C0 (v := 0) dX7_franchisee_76 (by decide) ?_
      exact w_X7_franchisee_b77 C0 hno hf
    · have hf := zif_t c15 hf
      refine zr_iconst C0 (v := 1) dX7_franchisee_72 (by decide) ?_
      refine zr_goto C0 (tgt := 77) dX7_franchisee_73 (by decide) ?_
      exact w_X7_franchisee_b77 C0 hno hf
  · have hf := zinr hf
    refine zretW hf ?_
    exact zr_callV_t C0 cv_X7_116_X7 rfl (zcko e1) (m_X7_require C0.2.2.2.2.2.2.1 e3) (by decide) (by decide) rfl rfl (Nat.le_of_ble_eq_true rfl) dX7_franchisee_53 (zr_out C0 hno rfl)
def f_X7_franchisee_b51 (E : zE) (p0 : Nat) (s0 : Nat) (h : zH) : Option ((Unit ⊕ (Nat × Nat)) × zH) :=
  f_X7_franchisee_b52 E p0 s0 (0 : Int32) h
theorem w_X7_franchisee_b51 (C0 : zCx p l e R s m args below meth c D B0 3 "FranchiseLedger$Reader" cX7_franchisee E 12 307 (Option.none : Option Jvm.ClassFile.FieldType) "franchisee") (hno : ∀ x ∈ c.exceptionTable.toList, False) {r : (Unit ⊕ (Nat × Nat))} {h' : zH} {p0 : Nat} {s0 : Nat} {h : zH} (hf : f_X7_franchisee_b51 E p0 s0 h = some (r, h')) : zW p l e R s m args below meth c D B0 3 (zEnd D B0 R below args s (zoT zoV r) h') h 51 [(0, .ref p0)] [.ref s0] := by
  unfold f_X7_franchisee_b51 at hf
  refine zr_iconst C0 (v := 0) dX7_franchisee_51 (by decide) ?_
  exact w_X7_franchisee_b52 C0 hno hf
def f_X7_franchisee_b23 (E : zE) (p0 : Nat) (s0 : Nat) (s1 : Int32) (h : zH) : Option ((Unit ⊕ (Nat × Nat)) × zH) :=
  (cko h s0 6).bind fun _ =>
  bnd2 (f_X7_require E s0 s1 (4 : Int32) h) fun x4 h2 =>
  Sum.elim (fun x5 => (
    (cko h2 p0 6).bind fun _ =>
    bnd2 (f_X7_scan E p0 h2) fun x10 h8 =>
    (gI h8 p0 6 5).bind fun x11 =>
    if x11 = (1 : Int32) then (
      (cko h8 p0 6).bind fun _ =>
      bnd2 (f_X7_isReserved E p0 h8) fun x17 h15 =>
      if x17 = 0 then (
        f_X7_franchisee_b52 E p0 p0 (1 : Int32) h15
      ) else (
        f_X7_franchisee_b51 E p0 p0 h15
      )
    ) else (
      f_X7_franchisee_b51 E p0 p0 h8
    )
  )) (fun q6 => (
    some (.inr q6, h2)
  )) x4
theorem w_X7_franchisee_b23 (C0 : zCx p l e R s m args below meth c D B0 3 "FranchiseLedger$Reader" cX7_franchisee E 12 307 (Option.none : Option Jvm.ClassFile.FieldType) "franchisee") (hno : ∀ x ∈ c.exceptionTable.toList, False) {r : (Unit ⊕ (Nat × Nat))} {h' : zH} {p0 : Nat} {s0 : Nat} {s1 : Int32} {h : zH} (hf : f_X7_franchisee_b23 E p0 s0 s1 h = some (r, h')) : zW p l e R s m args below meth c D B0 3 (zEnd D B0 R below args s (zoT zoV r) h') h 23 [(0, .ref p0)] [.int s1, .ref s0] := by
  unfold f_X7_franchisee_b23 at hf
  refine zr_iconst C0 (v := 4) dX7_franchisee_23 (by decide) ?_
  obtain ⟨_, e1, hf⟩ := zbind hf
  obtain ⟨x4, h2, e3, hf⟩ := zbind2 hf
  rcases x4 with x5 | q6
  · have hf := zinl hf
    refine zr_callV_r C0 cv_X7_116_X7 rfl (zcko e1) (m_X7_require C0.2.2.2.2.2.2.1 e3) (by decide) (by decide) rfl rfl (Nat.le_of_ble_eq_true rfl) dX7_franchisee_24 rfl ?_
    refine zr_aload_n C0 dX7_franchisee_27 rfl 0 rfl ?_
    obtain ⟨_, e7, hf⟩ := zbind hf
    obtain ⟨x10, h8, e9, hf⟩ := zbind2 hf
    refine zr_callV_r C0 cv_X7_50_X7 rfl (zcko e7) (m_X7_scan C0.2.2.2.2.2.2.1 e9) (by decide) (by decide) rfl rfl (Nat.le_of_ble_eq_true rfl) dX7_franchisee_28 rfl ?_
    refine zr_aload_n C0 dX7_franchisee_31 rfl 0 rfl ?_
    refine zr_aload_n C0 dX7_franchisee_32 rfl 0 rfl ?_
    obtain ⟨x11, e12, hf⟩ := zbind hf
    refine zr_get C0 fl_X7_79_X7 dX7_franchisee_33 (zgI e12) ?_
    refine zr_iconst C0 (v := 1) dX7_franchisee_36 (by decide) ?_
    refine zr_icmp_ne C0 (tgt := 51) dX7_franchisee_37 (by decide) (fun c13 => ?_) (fun c13 => ?_)
    · have hf := zif_f c13 hf
      exact w_X7_franchisee_b51 C0 hno hf
    · have hf := zif_t c13 hf
      refine zr_aload_n C0 dX7_franchisee_40 rfl 0 rfl ?_
      obtain ⟨_, e14, hf⟩ := zbind hf
      obtain ⟨x17, h15, e16, hf⟩ := zbind2 hf
      refine zr_callV_r C0 cv_X7_184_X7 rfl (zcko e14) (m_X7_isReserved C0.2.2.2.2.2.2.1 e16) (by decide) (by decide) rfl rfl (Nat.le_of_ble_eq_true rfl) dX7_franchisee_41 rfl ?_
      refine zr_if_ne C0 (tgt := 51) dX7_franchisee_44 (by decide) (fun c18 => ?_) (fun c18 => ?_)
      · have hf := zif_f c18 hf
        exact w_X7_franchisee_b51 C0 hno hf
      · have hf := zif_t c18 hf
        refine zr_iconst C0 (v := 1) dX7_franchisee_47 (by decide) ?_
        refine zr_goto C0 (tgt := 52) dX7_franchisee_48 (by decide) ?_
        exact w_X7_franchisee_b52 C0 hno hf
  · have hf := zinr hf
    refine zretW hf ?_
    exact zr_callV_t C0 cv_X7_116_X7 rfl (zcko e1) (m_X7_require C0.2.2.2.2.2.2.1 e3) (by decide) (by decide) rfl rfl (Nat.le_of_ble_eq_true rfl) dX7_franchisee_24 (zr_out C0 hno rfl)
def f_X7_franchisee_b0 (E : zE) (p0 : Nat) (h : zH) : Option ((Unit ⊕ (Nat × Nat)) × zH) :=
  (gR h p0 6 2).bind fun x1 =>
  (gR h x1 4 0).bind fun x3 =>
  (cko h x3 15).bind fun _ =>
  bnd2 (f_J2_size E x3 h) fun x8 h6 =>
  if (8 : Int32) ≤ x8 then (
    f_X7_franchisee_b23 E p0 p0 (0 : Int32) h6
  ) else (
    f_X7_franchisee_b23 E p0 p0 (1 : Int32) h6
  )
theorem w_X7_franchisee_b0 (C0 : zCx p l e R s m args below meth c D B0 3 "FranchiseLedger$Reader" cX7_franchisee E 12 307 (Option.none : Option Jvm.ClassFile.FieldType) "franchisee") (hno : ∀ x ∈ c.exceptionTable.toList, False) {r : (Unit ⊕ (Nat × Nat))} {h' : zH} {p0 : Nat} {h : zH} (hf : f_X7_franchisee_b0 E p0 h = some (r, h')) : zW p l e R s m args below meth c D B0 3 (zEnd D B0 R below args s (zoT zoV r) h') h 0 [(0, .ref p0)] [] := by
  unfold f_X7_franchisee_b0 at hf
  refine zr_aload_n C0 dX7_franchisee_0 rfl 0 rfl ?_
  refine zr_aload_n C0 dX7_franchisee_1 rfl 0 rfl ?_
  obtain ⟨x1, e2, hf⟩ := zbind hf
  refine zr_get C0 fl_X7_27_X7 dX7_franchisee_2 (zgR e2) ?_
  obtain ⟨x3, e4, hf⟩ := zbind hf
  refine zr_get C0 fl_X7_181_X4 dX7_franchisee_5 (zgR e4) ?_
  obtain ⟨_, e5, hf⟩ := zbind hf
  obtain ⟨x8, h6, e7, hf⟩ := zbind2 hf
  refine zr_callF_r C0 cv_X7_157_J2 rfl (zcko e5) (m_J2_size C0.2.2.2.2.2.2.1 e7) (by decide) (by decide) rfl rfl (Nat.le_of_ble_eq_true rfl) dX7_franchisee_8 rfl ?_
  refine zr_bipush C0 (v := 8) dX7_franchisee_13 (by decide) ?_
  refine zr_icmp_ge C0 (tgt := 22) dX7_franchisee_15 (by decide) (fun c9 => ?_) (fun c9 => ?_)
  · have hf := zif_t c9 hf
    refine zr_iconst C0 (v := 0) dX7_franchisee_22 (by decide) ?_
    exact w_X7_franchisee_b23 C0 hno hf
  · have hf := zif_f c9 hf
    refine zr_iconst C0 (v := 1) dX7_franchisee_18 (by decide) ?_
    refine zr_goto C0 (tgt := 23) dX7_franchisee_19 (by decide) ?_
    exact w_X7_franchisee_b23 C0 hno hf
def f_X7_franchisee (E : zE) (p0 : Nat) (h : zH) : Option ((Unit ⊕ (Nat × Nat)) × zH) := f_X7_franchisee_b0 E p0 h
theorem m_X7_franchisee {l : Launch} (hst : l.stackTraces = false) {D : zD} {B0 : Nat} {E : zE} {p0 : Nat} {h h' : zH} {r : (Unit ⊕ (Nat × Nat))} (hf : f_X7_franchisee E p0 h = some (r, h')) : zMet l yX7_franchisee (ws_ yX7_franchisee cX7_franchisee 3 (Option.none : Option Jvm.ClassFile.FieldType)) 12 307 D B0 E [.ref p0] h (zoT zoV r) h' := by
  unfold f_X7_franchisee at hf
  refine zMet_of hst (by decide +kernel) rfl rfl (Nat.le_of_ble_eq_true rfl) (fun p e R s m below meth c C0 hno => ?_)
  show zW _ _ _ _ _ _ _ _ _ _ _ _ _ _ _ _ [(0, .ref p0)] []
  exact w_X7_franchisee_b0 C0 hno hf
def f_X7_named_b0 (E : zE) (p0 : Nat) (h : zH) : Option ((Int32 ⊕ (Nat × Nat)) × zH) :=
  (gR h p0 6 1).bind fun x1 =>
  (cko h p0 6).bind fun _ =>
  bnd2 (f_X7_namedIn E p0 x1 h) fun x6 h4 =>
  Sum.elim (fun x7 => (
    some (.inl x7, h4)
  )) (fun q8 => (
    some (.inr q8, h4)
  )) x6
theorem w_X7_named_b0 (C0 : zCx p l e R s m args below meth c D B0 1 "FranchiseLedger$Reader" cX7_named E 12 306 (Option.some Jvm.ClassFile.FieldType.int) "named") (hno : ∀ x ∈ c.exceptionTable.toList, False) {r : (Int32 ⊕ (Nat × Nat))} {h' : zH} {p0 : Nat} {h : zH} (hf : f_X7_named_b0 E p0 h = some (r, h')) : zW p l e R s m args below meth c D B0 1 (zEnd D B0 R below args s (zoT zoI r) h') h 0 [(0, .ref p0)] [] := by
  unfold f_X7_named_b0 at hf
  refine zr_aload_n C0 dX7_named_0 rfl 0 rfl ?_
  refine zr_aload_n C0 dX7_named_1 rfl 0 rfl ?_
  obtain ⟨x1, e2, hf⟩ := zbind hf
  refine zr_get C0 fl_X7_18_X7 dX7_named_2 (zgR e2) ?_
  obtain ⟨_, e3, hf⟩ := zbind hf
  obtain ⟨x6, h4, e5, hf⟩ := zbind2 hf
  rcases x6 with x7 | q8
  · have hf := zinl hf
    refine zr_callV_r C0 cv_X7_197_X7 rfl (zcko e3) (m_X7_namedIn C0.2.2.2.2.2.2.1 e5) (by decide) (by decide) rfl rfl (Nat.le_of_ble_eq_true rfl) dX7_named_5 rfl ?_
    refine zretW hf ?_
    exact zr_iret C0 (ty := .int) rfl rfl dX7_named_8 rfl
  · have hf := zinr hf
    refine zretW hf ?_
    exact zr_callV_t C0 cv_X7_197_X7 rfl (zcko e3) (m_X7_namedIn C0.2.2.2.2.2.2.1 e5) (by decide) (by decide) rfl rfl (Nat.le_of_ble_eq_true rfl) dX7_named_5 (zr_out C0 hno rfl)
def f_X7_named (E : zE) (p0 : Nat) (h : zH) : Option ((Int32 ⊕ (Nat × Nat)) × zH) := f_X7_named_b0 E p0 h
theorem m_X7_named {l : Launch} (hst : l.stackTraces = false) {D : zD} {B0 : Nat} {E : zE} {p0 : Nat} {h h' : zH} {r : (Int32 ⊕ (Nat × Nat))} (hf : f_X7_named E p0 h = some (r, h')) : zMet l yX7_named (ws_ yX7_named cX7_named 1 (Option.some Jvm.ClassFile.FieldType.int)) 12 306 D B0 E [.ref p0] h (zoT zoI r) h' := by
  unfold f_X7_named at hf
  refine zMet_of hst (by decide +kernel) rfl rfl (Nat.le_of_ble_eq_true rfl) (fun p e R s m below meth c C0 hno => ?_)
  show zW _ _ _ _ _ _ _ _ _ _ _ _ _ _ _ _ [(0, .ref p0)] []
  exact w_X7_named_b0 C0 hno hf
def f_J17_init_X13_b0 (E : zE) (p0 : Nat) (h : zH) : Option (Unit × zH) :=
  some ((), h)
theorem w_J17_init_X13_b0 (C0 : zCx p l e R s m args below meth c D B0 1 "java/lang/Record" cJ17_init E 1 60 (Option.none : Option Jvm.ClassFile.FieldType) "<init>") {r : Unit} {h' : zH} {p0 : Nat} {h : zH} (hf : f_J17_init_X13_b0 E p0 h = some (r, h')) : zW p l e R s m args below meth c D B0 1 (zEnd D B0 R below args s (zoV r) h') h 0 [(0, .ref p0)] [] := by
  unfold f_J17_init_X13_b0 at hf
  refine zr_aload_n C0 dJ17_init_0 rfl 0 rfl ?_
  refine zr_objInit C0 q546 q182 q183 dJ17_init_1 (by decide) (by show _ ≤ _; exact Nat.le_of_ble_eq_true rfl) ?_
  refine zretW hf ?_
  exact zr_vret C0 rfl dJ17_init_4 rfl
def f_J17_init_X13 (E : zE) (p0 : Nat) (h : zH) : Option (Unit × zH) := f_J17_init_X13_b0 E p0 h
theorem m_J17_init_X13 {l : Launch} (hst : l.stackTraces = false) {D : zD} {B0 : Nat} {E : zE} {p0 : Nat} {h h' : zH} {r : Unit} (hf : f_J17_init_X13 E p0 h = some (r, h')) : zMet l yJ17_init (ws_ yJ17_init cJ17_init 1 (Option.none : Option Jvm.ClassFile.FieldType)) 1 60 D B0 E [.ref p0] h (zoV r) h' := by
  unfold f_J17_init_X13 at hf
  refine zMet_of hst (by decide +kernel) rfl rfl (Nat.le_of_ble_eq_true rfl) (fun p e R s m below meth c C0 hno => ?_)
  show zW _ _ _ _ _ _ _ _ _ _ _ _ _ _ _ _ [(0, .ref p0)] []
  exact w_J17_init_X13_b0 C0 hf
def f_X13_init_b0 (E : zE) (p0 : Nat) (p1 : Int32) (p2 : Int32) (p3 : Int32) (p4 : Int32) (h : zH) : Option (Unit × zH) :=
  bnd2 (f_J17_init_X13 E p0 h) fun x3 h1 =>
  (pF h1 p0 12 0 (.int p1)).bind fun h4 =>
  (pF h4 p0 12 1 (.int p2)).bind fun h6 =>
  (pF h6 p0 12 2 (.int p3)).bind fun h8 =>
  (pF h8 p0 12 3 (.int p4)).bind fun h10 =>
  some ((), h10)
theorem w_X13_init_b0 (C0 : zCx p l e R s m args below meth c D B0 5 "FranchiseLedger$Area" cX13_init E 2 80 (Option.none : Option Jvm.ClassFile.FieldType) "<init>") {r : Unit} {h' : zH} {p0 : Nat} {p1 : Int32} {p2 : Int32} {p3 : Int32} {p4 : Int32} {h : zH} (hf : f_X13_init_b0 E p0 p1 p2 p3 p4 h = some (r, h')) : zW p l e R s m args below meth c D B0 5 (zEnd D B0 R below args s (zoV r) h') h 0 [(0, .ref p0), (1, .int p1), (2, .int p2), (3, .int p3), (4, .int p4)] [] := by
  unfold f_X13_init_b0 at hf
  refine zr_aload_n C0 dX13_init_0 rfl 0 rfl ?_
  obtain ⟨x3, h1, e2, hf⟩ := zbind2 hf
  refine zr_callI_r C0 cv_X13_1 (m_J17_init_X13 C0.2.2.2.2.2.2.1 e2) (by decide) (by decide) rfl rfl (Nat.le_of_ble_eq_true rfl) dX13_init_1 rfl ?_
  refine zr_aload_n C0 dX13_init_4 rfl 0 rfl ?_
  refine zr_iload_n C0 dX13_init_5 rfl 1 rfl ?_
  obtain ⟨h4, e5, hf⟩ := zbind hf
  refine zr_put C0 pl_X13_7_X13 dX13_init_6 (fun _ => rfl) rfl rfl e5 ?_
  refine zr_aload_n C0 dX13_init_9 rfl 0 rfl ?_
  refine zr_iload_n C0 dX13_init_10 rfl 2 rfl ?_
  obtain ⟨h6, e7, hf⟩ := zbind hf
  refine zr_put C0 pl_X13_13_X13 dX13_init_11 (fun _ => rfl) rfl rfl e7 ?_
  refine zr_aload_n C0 dX13_init_14 rfl 0 rfl ?_
  refine zr_iload_n C0 dX13_init_15 rfl 3 rfl ?_
  obtain ⟨h8, e9, hf⟩ := zbind hf
  refine zr_put C0 pl_X13_16_X13 dX13_init_16 (fun _ => rfl) rfl rfl e9 ?_
  refine zr_aload_n C0 dX13_init_19 rfl 0 rfl ?_
  refine zr_iload C0 dX13_init_20 4 rfl ?_
  obtain ⟨h10, e11, hf⟩ := zbind hf
  refine zr_put C0 pl_X13_19_X13 dX13_init_22 (fun _ => rfl) rfl rfl e11 ?_
  refine zretW hf ?_
  exact zr_vret C0 rfl dX13_init_25 rfl
def f_X13_init (E : zE) (p0 : Nat) (p1 : Int32) (p2 : Int32) (p3 : Int32) (p4 : Int32) (h : zH) : Option (Unit × zH) := f_X13_init_b0 E p0 p1 p2 p3 p4 h
theorem m_X13_init {l : Launch} (hst : l.stackTraces = false) {D : zD} {B0 : Nat} {E : zE} {p0 : Nat} {p1 : Int32} {p2 : Int32} {p3 : Int32} {p4 : Int32} {h h' : zH} {r : Unit} (hf : f_X13_init E p0 p1 p2 p3 p4 h = some (r, h')) : zMet l yX13_init (ws_ yX13_init cX13_init 5 (Option.none : Option Jvm.ClassFile.FieldType)) 2 80 D B0 E [.ref p0, .int p1, .int p2, .int p3, .int p4] h (zoV r) h' := by
  unfold f_X13_init at hf
  refine zMet_of hst (by decide +kernel) rfl rfl (Nat.le_of_ble_eq_true rfl) (fun p e R s m below meth c C0 hno => ?_)
  show zW _ _ _ _ _ _ _ _ _ _ _ _ _ _ _ _ [(0, .ref p0), (1, .int p1), (2, .int p2), (3, .int p3), (4, .int p4)] []
  exact w_X13_init_b0 C0 hf
def f_X1_column_b0 (E : zE) (p0 : Int32) (h : zH) : Option (Int32 × zH) :=
  some ((p0 - p0 / (30 : Int32) * (30 : Int32)), h)
theorem w_X1_column_b0 (C0 : zCx p l e R s m args below meth c D B0 1 "FranchiseLedger" cX1_column E 1 60 (Option.some Jvm.ClassFile.FieldType.int) "column") {r : Int32} {h' : zH} {p0 : Int32} {h : zH} (hf : f_X1_column_b0 E p0 h = some (r, h')) : zW p l e R s m args below meth c D B0 1 (zEnd D B0 R below args s (zoI r) h') h 0 [(0, .int p0)] [] := by
  unfold f_X1_column_b0 at hf
  refine zr_iload_n C0 dX1_column_0 rfl 0 rfl ?_
  refine zr_bipush C0 (v := 30) dX1_column_1 (by decide) ?_
  refine zr_irem C0 dX1_column_3 (by decide) ?_
  refine zretW hf ?_
  exact zr_iret C0 (ty := .int) rfl rfl dX1_column_4 rfl
def f_X1_column (E : zE) (p0 : Int32) (h : zH) : Option (Int32 × zH) := f_X1_column_b0 E p0 h
theorem m_X1_column {l : Launch} (hst : l.stackTraces = false) {D : zD} {B0 : Nat} {E : zE} {p0 : Int32} {h h' : zH} {r : Int32} (hf : f_X1_column E p0 h = some (r, h')) : zMet l yX1_column (ws_ yX1_column cX1_column 1 (Option.some Jvm.ClassFile.FieldType.int)) 1 60 D B0 E [.int p0] h (zoI r) h' := by
  unfold f_X1_column at hf
  refine zMet_of hst (by decide +kernel) rfl rfl (Nat.le_of_ble_eq_true rfl) (fun p e R s m below meth c C0 hno => ?_)
  show zW _ _ _ _ _ _ _ _ _ _ _ _ _ _ _ _ [(0, .int p0)] []
  exact w_X1_column_b0 C0 hf
def f_X1_row_b0 (E : zE) (p0 : Int32) (h : zH) : Option (Int32 × zH) :=
  some ((p0 / (30 : Int32)), h)
theorem w_X1_row_b0 (C0 : zCx p l e R s m args below meth c D B0 1 "FranchiseLedger" cX1_row E 1 60 (Option.some Jvm.ClassFile.FieldType.int) "row") {r : Int32} {h' : zH} {p0 : Int32} {h : zH} (hf : f_X1_row_b0 E p0 h = some (r, h')) : zW p l e R s m args below meth c D B0 1 (zEnd D B0 R below args s (zoI r) h') h 0 [(0, .int p0)] [] := by
  unfold f_X1_row_b0 at hf
  refine zr_iload_n C0 dX1_row_0 rfl 0 rfl ?_
  refine zr_bipush C0 (v := 30) dX1_row_1 (by decide) ?_
  refine zr_idiv C0 dX1_row_3 (by decide) ?_
  refine zretW hf ?_
  exact zr_iret C0 (ty := .int) rfl rfl dX1_row_4 rfl
def f_X1_row (E : zE) (p0 : Int32) (h : zH) : Option (Int32 × zH) := f_X1_row_b0 E p0 h
theorem m_X1_row {l : Launch} (hst : l.stackTraces = false) {D : zD} {B0 : Nat} {E : zE} {p0 : Int32} {h h' : zH} {r : Int32} (hf : f_X1_row E p0 h = some (r, h')) : zMet l yX1_row (ws_ yX1_row cX1_row 1 (Option.some Jvm.ClassFile.FieldType.int)) 1 60 D B0 E [.int p0] h (zoI r) h' := by
  unfold f_X1_row at hf
  refine zMet_of hst (by decide +kernel) rfl rfl (Nat.le_of_ble_eq_true rfl) (fun p e R s m below meth c C0 hno => ?_)
  show zW _ _ _ _ _ _ _ _ _ _ _ _ _ _ _ _ [(0, .int p0)] []
  exact w_X1_row_b0 C0 hf
def f_X13_contains_b51 (E : zE) (s0 : Int32) (h : zH) : Option (Int32 × zH) :=
  (zgd .boolean s0).bind fun _ =>
  some (s0, h)
theorem w_X13_contains_b51 (C0 : zCx p l e R s m args below meth c D B0 2 "FranchiseLedger$Area" cX13_contains E 2 85 (Option.some Jvm.ClassFile.FieldType.boolean) "contains") {r : Int32} {h' : zH} {s0 : Int32} {h : zH} (hf : f_X13_contains_b51 E s0 h = some (r, h')) : zW p l e R s m args below meth c D B0 2 (zEnd D B0 R below args s (zoI r) h') h 51 [] [.int s0] := by
  unfold f_X13_contains_b51 at hf
  obtain ⟨_, e1, hf⟩ := zbind hf
  refine zretW hf ?_
  exact zr_iret C0 (ty := .boolean) rfl (zgd_n e1) dX13_contains_51 rfl
def f_X13_contains_b50 (E : zE) (h : zH) : Option (Int32 × zH) :=
  f_X13_contains_b51 E (0 : Int32) h
theorem w_X13_contains_b50 (C0 : zCx p l e R s m args below meth c D B0 2 "FranchiseLedger$Area" cX13_contains E 2 85 (Option.some Jvm.ClassFile.FieldType.boolean) "contains") {r : Int32} {h' : zH} {h : zH} (hf : f_X13_contains_b50 E  h = some (r, h')) : zW p l e R s m args below meth c D B0 2 (zEnd D B0 R below args s (zoI r) h') h 50 [] [] := by
  unfold f_X13_contains_b50 at hf
  refine zr_iconst C0 (v := 0) dX13_contains_50 (by decide) ?_
  exact w_X13_contains_b51 C0 hf
def f_X13_contains_b0 (E : zE) (p0 : Nat) (p1 : Int32) (h : zH) : Option (Int32 × zH) :=
  bnd2 (f_X1_column E p1 h) fun x3 h1 =>
  (gI h1 p0 12 0).bind fun x4 =>
  (gI h1 p0 12 2).bind fun x6 =>
  bnd2 (f_X1_inRange E (x3.toInt64) (x4.toInt64) ((x6 - (1 : Int32)).toInt64) h1) fun x10 h8 =>
  if x10 = 0 then (
    f_X13_contains_b50 E  h8
  ) else (
    bnd2 (f_X1_row E p1 h8) fun x14 h12 =>
    (gI h12 p0 12 1).bind fun x15 =>
    (gI h12 p0 12 3).bind fun x17 =>
    bnd2 (f_X1_inRange E (x14.toInt64) (x15.toInt64) ((x17 - (1 : Int32)).toInt64) h12) fun x21 h19 =>
    if x21 = 0 then (
      f_X13_contains_b50 E  h19
    ) else (
      f_X13_contains_b51 E (1 : Int32) h19
    )
  )
theorem w_X13_contains_b0 (C0 : zCx p l e R s m args below meth c D B0 2 "FranchiseLedger$Area" cX13_contains E 2 85 (Option.some Jvm.ClassFile.FieldType.boolean) "contains") {r : Int32} {h' : zH} {p0 : Nat} {p1 : Int32} {h : zH} (hf : f_X13_contains_b0 E p0 p1 h = some (r, h')) : zW p l e R s m args below meth c D B0 2 (zEnd D B0 R below args s (zoI r) h') h 0 [(0, .ref p0), (1, .int p1)] [] := by
  unfold f_X13_contains_b0 at hf
  refine zr_iload_n C0 dX13_contains_0 rfl 1 rfl ?_
  obtain ⟨x3, h1, e2, hf⟩ := zbind2 hf
  refine zr_callSN_r C0 cv_X13_22 (m_X1_column C0.2.2.2.2.2.2.1 e2) (by decide) (by decide) rfl rfl (Nat.le_of_ble_eq_true rfl) dX13_contains_1 rfl ?_
  refine zr_i2l C0 dX13_contains_4 ?_
  refine zr_aload_n C0 dX13_contains_5 rfl 0 rfl ?_
  obtain ⟨x4, e5, hf⟩ := zbind hf
  refine zr_get C0 fl_X13_7_X13 dX13_contains_6 (zgI e5) ?_
  refine zr_i2l C0 dX13_contains_9 ?_
  refine zr_aload_n C0 dX13_contains_10 rfl 0 rfl ?_
  obtain ⟨x6, e7, hf⟩ := zbind hf
  refine zr_get C0 fl_X13_16_X13 dX13_contains_11 (zgI e7) ?_
  refine zr_iconst C0 (v := 1) dX13_contains_14 (by decide) ?_
  refine zr_isub C0 dX13_contains_15 ?_
  refine zr_i2l C0 dX13_contains_16 ?_
  obtain ⟨x10, h8, e9, hf⟩ := zbind2 hf
  refine zr_callSN_r C0 cv_X13_28 (m_X1_inRange C0.2.2.2.2.2.2.1 e9) (by decide) (by decide) rfl rfl (Nat.le_of_ble_eq_true rfl) dX13_contains_17 rfl ?_
  refine zr_if_eq C0 (tgt := 50) dX13_contains_20 (by decide) (fun c11 => ?_) (fun c11 => ?_)
  · have hf := zif_t c11 hf
    refine zr_sub [] rfl ?_
    exact w_X13_contains_b50 C0 hf
  · have hf := zif_f c11 hf
    refine zr_iload_n C0 dX13_contains_23 rfl 1 rfl ?_
    obtain ⟨x14, h12, e13, hf⟩ := zbind2 hf
    refine zr_callSN_r C0 cv_X13_32 (m_X1_row C0.2.2.2.2.2.2.1 e13) (by decide) (by decide) rfl rfl (Nat.le_of_ble_eq_true rfl) dX13_contains_24 rfl ?_
    refine zr_i2l C0 dX13_contains_27 ?_
    refine zr_aload_n C0 dX13_contains_28 rfl 0 rfl ?_
    obtain ⟨x15, e16, hf⟩ := zbind hf
    refine zr_get C0 fl_X13_13_X13 dX13_contains_29 (zgI e16) ?_
    refine zr_i2l C0 dX13_contains_32 ?_
    refine zr_aload_n C0 dX13_contains_33 rfl 0 rfl ?_
    obtain ⟨x17, e18, hf⟩ := zbind hf
    refine zr_get C0 fl_X13_19_X13 dX13_contains_34 (zgI e18) ?_
    refine zr_iconst C0 (v := 1) dX13_contains_37 (by decide) ?_
    refine zr_isub C0 dX13_contains_38 ?_
    refine zr_i2l C0 dX13_contains_39 ?_
    obtain ⟨x21, h19, e20, hf⟩ := zbind2 hf
    refine zr_callSN_r C0 cv_X13_28 (m_X1_inRange C0.2.2.2.2.2.2.1 e20) (by decide) (by decide) rfl rfl (Nat.le_of_ble_eq_true rfl) dX13_contains_40 rfl ?_
    refine zr_if_eq C0 (tgt := 50) dX13_contains_43 (by decide) (fun c22 => ?_) (fun c22 => ?_)
    · have hf := zif_t c22 hf
      refine zr_sub [] rfl ?_
      exact w_X13_contains_b50 C0 hf
    · have hf := zif_f c22 hf
      refine zr_iconst C0 (v := 1) dX13_contains_46 (by decide) ?_
      refine zr_goto C0 (tgt := 51) dX13_contains_47 (by decide) ?_
      refine zr_sub [] rfl ?_
      exact w_X13_contains_b51 C0 hf
def f_X13_contains (E : zE) (p0 : Nat) (p1 : Int32) (h : zH) : Option (Int32 × zH) := f_X13_contains_b0 E p0 p1 h
theorem m_X13_contains {l : Launch} (hst : l.stackTraces = false) {D : zD} {B0 : Nat} {E : zE} {p0 : Nat} {p1 : Int32} {h h' : zH} {r : Int32} (hf : f_X13_contains E p0 p1 h = some (r, h')) : zMet l yX13_contains (ws_ yX13_contains cX13_contains 2 (Option.some Jvm.ClassFile.FieldType.boolean)) 2 85 D B0 E [.ref p0, .int p1] h (zoI r) h' := by
  unfold f_X13_contains at hf
  refine zMet_of hst (by decide +kernel) rfl rfl (Nat.le_of_ble_eq_true rfl) (fun p e R s m below meth c C0 hno => ?_)
  show zW _ _ _ _ _ _ _ _ _ _ _ _ _ _ _ _ [(0, .ref p0), (1, .int p1)] []
  exact w_X13_contains_b0 C0 hf
def f_X7_isFreeFor_b51 (E : zE) (k2 : Nat → Int32 → Nat → Int32 → zH → Option (Int32 × zH)) (p0 : Nat) (p1 : Int32) (p2 : Nat) (p3 : Int32) (h : zH) : Option (Int32 × zH) :=
  k2 p0 p1 p2 (p3 + 1) h
theorem w_X7_isFreeFor_b51 (C0 : zCx p l e R s m args below meth c D B0 4 "FranchiseLedger$Reader" cX7_isFreeFor E 3 106 (Option.some Jvm.ClassFile.FieldType.boolean) "isFreeFor") {r : Int32} {h' : zH} {k2 : Nat → Int32 → Nat → Int32 → zH → Option (Int32 × zH)} (hk2 : ∀ (p0 : Nat) (p1 : Int32) (p2 : Nat) (p3 : Int32) (h : zH), k2 p0 p1 p2 p3 h = some (r, h') → zW p l e R s m args below meth c D B0 4 (zEnd D B0 R below args s (zoI r) h') h 2 [(0, .ref p0), (1, .int p1), (2, .ref p2), (3, .int p3)] []) {p0 : Nat} {p1 : Int32} {p2 : Nat} {p3 : Int32} {h : zH} (hf : f_X7_isFreeFor_b51 E k2 p0 p1 p2 p3 h = some (r, h')) : zW p l e R s m args below meth c D B0 4 (zEnd D B0 R below args s (zoI r) h') h 51 [(0, .ref p0), (1, .int p1), (2, .ref p2), (3, .int p3)] [] := by
  unfold f_X7_isFreeFor_b51 at hf
  refine zr_iinc (lv' := [(3, .int (p3 + 1)), (0, .ref p0), (1, .int p1), (2, .ref p2)]) C0 dX7_isFreeFor_51 3 rfl rfl (by decide) (by first | rfl | simp [zst1, zst2, zcat_rf]) ?_
  refine zr_goto C0 (tgt := 2) dX7_isFreeFor_54 (by decide) ?_
  refine zr_sub [1, 2, 3, 0] rfl ?_
  exact hk2 _ _ _ _ _ hf
def f_X7_isFreeFor_l2 (E : zE) : Nat → Nat → Int32 → Nat → Int32 → zH → Option (Int32 × zH)
  | 0, _, _, _, _, _ => none
  | n + 1, p0, p1, p2, p3, h =>
    if (900 : Int32) ≤ p3 then (
      some ((1 : Int32), h)
    ) else (
      (cko h p2 12).bind fun _ =>
      bnd2 (f_X13_contains E p2 p3 h) fun x5 h3 =>
      if x5 = 0 then (
        f_X7_isFreeFor_b51 E (f_X7_isFreeFor_l2 E n) p0 p1 p2 p3 h3
      ) else (
        (gR h3 p0 6 2).bind fun x7 =>
        (gR h3 x7 4 2).bind fun x9 =>
        (gR h3 x9 5 0).bind fun x11 =>
        (dI h3 x11 2 p3).bind fun x13 =>
        if x13 = (-1 : Int32) then (
          f_X7_isFreeFor_b51 E (f_X7_isFreeFor_l2 E n) p0 p1 p2 p3 h3
        ) else (
          (gR h3 p0 6 2).bind fun x16 =>
          (gR h3 x16 4 2).bind fun x18 =>
          (gR h3 x18 5 0).bind fun x20 =>
          (dI h3 x20 2 p3).bind fun x22 =>
          if x22 = p1 then (
            f_X7_isFreeFor_b51 E (f_X7_isFreeFor_l2 E n) p0 p1 p2 p3 h3
          ) else (
            some ((0 : Int32), h3)
          )
        )
      )
    )
theorem w_X7_isFreeFor_l2 (C0 : zCx p l e R s m args below meth c D B0 4 "FranchiseLedger$Reader" cX7_isFreeFor E 3 106 (Option.some Jvm.ClassFile.FieldType.boolean) "isFreeFor") {r : Int32} {h' : zH} : ∀ (n : Nat) (p0 : Nat) (p1 : Int32) (p2 : Nat) (p3 : Int32) (h : zH), f_X7_isFreeFor_l2 E n p0 p1 p2 p3 h = some (r, h') → zW p l e R s m args below meth c D B0 4 (zEnd D B0 R below args s (zoI r) h') h 2 [(0, .ref p0), (1, .int p1), (2, .ref p2), (3, .int p3)] [] := by
  intro n
  induction n with
  | zero =>
    intro p0 p1 p2 p3 h hf
    unfold f_X7_isFreeFor_l2 at hf
    cases hf
  | succ n ih =>
    intro p0 p1 p2 p3 h hf
    unfold f_X7_isFreeFor_l2 at hf
    refine zr_iload_n C0 dX7_isFreeFor_2 rfl 3 rfl ?_
    refine zr_sipush C0 (v := 900) dX7_isFreeFor_3 (by decide) ?_
    refine zr_icmp_ge C0 (tgt := 57) dX7_isFreeFor_6 (by decide) (fun c1 => ?_) (fun c1 => ?_)
    · have hf := zif_t c1 hf
      refine zr_iconst C0 (v := 1) dX7_isFreeFor_57 (by decide) ?_
      refine zretW hf ?_
      exact zr_iret C0 (ty := .boolean) rfl (by decide) dX7_isFreeFor_58 rfl
    · have hf := zif_f c1 hf
      refine zr_aload_n C0 dX7_isFreeFor_9 rfl 2 rfl ?_
      refine zr_iload_n C0 dX7_isFreeFor_10 rfl 3 rfl ?_
      obtain ⟨_, e2, hf⟩ := zbind hf
      obtain ⟨x5, h3, e4, hf⟩ := zbind2 hf
      refine zr_callV_r C0 cv_X7_201_X13 rfl (zcko e2) (m_X13_contains C0.2.2.2.2.2.2.1 e4) (by decide) (by decide) rfl rfl (Nat.le_of_ble_eq_true rfl) dX7_isFreeFor_11 rfl ?_
      refine zr_if_eq C0 (tgt := 51) dX7_isFreeFor_14 (by decide) (fun c6 => ?_) (fun c6 => ?_)
      · have hf := zif_t c6 hf
        exact w_X7_isFreeFor_b51 C0 ih hf
      · have hf := zif_f c6 hf
        refine zr_aload_n C0 dX7_isFreeFor_17 rfl 0 rfl ?_
        obtain ⟨x7, e8, hf⟩ := zbind hf
        refine zr_get C0 fl_X7_27_X7 dX7_isFreeFor_18 (zgR e8) ?_
        obtain ⟨x9, e10, hf⟩ := zbind hf
        refine zr_get C0 fl_X7_207_X4 dX7_isFreeFor_21 (zgR e10) ?_
        obtain ⟨x11, e12, hf⟩ := zbind hf
        refine zr_get C0 fl_X7_211_X5 dX7_isFreeFor_24 (zgR e12) ?_
        refine zr_iload_n C0 dX7_isFreeFor_27 rfl 3 rfl ?_
        obtain ⟨x13, e14, hf⟩ := zbind hf
        refine zr_bald C0 dX7_isFreeFor_28 e14 ?_
        refine zr_iconst C0 (v := -1) dX7_isFreeFor_29 (by decide) ?_
        refine zr_icmp_eq C0 (tgt := 51) dX7_isFreeFor_30 (by decide) (fun c15 => ?_) (fun c15 => ?_)
        · have hf := zif_t c15 hf
          exact w_X7_isFreeFor_b51 C0 ih hf
        · have hf := zif_f c15 hf
          refine zr_aload_n C0 dX7_isFreeFor_33 rfl 0 rfl ?_
          obtain ⟨x16, e17, hf⟩ := zbind hf
          refine zr_get C0 fl_X7_27_X7 dX7_isFreeFor_34 (zgR e17) ?_
          obtain ⟨x18, e19, hf⟩ := zbind hf
          refine zr_get C0 fl_X7_207_X4 dX7_isFreeFor_37 (zgR e19) ?_
          obtain ⟨x20, e21, hf⟩ := zbind hf
          refine zr_get C0 fl_X7_211_X5 dX7_isFreeFor_40 (zgR e21) ?_
          refine zr_iload_n C0 dX7_isFreeFor_43 rfl 3 rfl ?_
          obtain ⟨x22, e23, hf⟩ := zbind hf
          refine zr_bald C0 dX7_isFreeFor_44 e23 ?_
          refine zr_iload_n C0 dX7_isFreeFor_45 rfl 1 rfl ?_
          refine zr_icmp_eq C0 (tgt := 51) dX7_isFreeFor_46 (by decide) (fun c24 => ?_) (fun c24 => ?_)
          · have hf := zif_t c24 hf
            exact w_X7_isFreeFor_b51 C0 ih hf
          · have hf := zif_f c24 hf
            refine zr_iconst C0 (v := 0) dX7_isFreeFor_49 (by decide) ?_
            refine zretW hf ?_
            exact zr_iret C0 (ty := .boolean) rfl (by decide) dX7_isFreeFor_50 rfl
def f_X7_isFreeFor_b0 (E : zE) (p0 : Nat) (p1 : Int32) (p2 : Nat) (h : zH) : Option (Int32 × zH) :=
  f_X7_isFreeFor_l2 E E.1 p0 p1 p2 (0 : Int32) h
theorem w_X7_isFreeFor_b0 (C0 : zCx p l e R s m args below meth c D B0 4 "FranchiseLedger$Reader" cX7_isFreeFor E 3 106 (Option.some Jvm.ClassFile.FieldType.boolean) "isFreeFor") {r : Int32} {h' : zH} {p0 : Nat} {p1 : Int32} {p2 : Nat} {h : zH} (hf : f_X7_isFreeFor_b0 E p0 p1 p2 h = some (r, h')) : zW p l e R s m args below meth c D B0 4 (zEnd D B0 R below args s (zoI r) h') h 0 [(0, .ref p0), (1, .int p1), (2, .ref p2)] [] := by
  unfold f_X7_isFreeFor_b0 at hf
  refine zr_iconst C0 (v := 0) dX7_isFreeFor_0 (by decide) ?_
  refine zr_istore_n (i := 3) (lv' := [(3, .int (0 : Int32)), (0, .ref p0), (1, .int p1), (2, .ref p2)]) C0 dX7_isFreeFor_1 rfl (by decide) (by first | rfl | simp [zst1, zst2, zcat_rf]) ?_
  refine zr_sub [1, 2, 3, 0] rfl ?_
  exact w_X7_isFreeFor_l2 C0 _ _ _ _ _ _ hf
def f_X7_isFreeFor (E : zE) (p0 : Nat) (p1 : Int32) (p2 : Nat) (h : zH) : Option (Int32 × zH) := f_X7_isFreeFor_b0 E p0 p1 p2 h
theorem m_X7_isFreeFor {l : Launch} (hst : l.stackTraces = false) {D : zD} {B0 : Nat} {E : zE} {p0 : Nat} {p1 : Int32} {p2 : Nat} {h h' : zH} {r : Int32} (hf : f_X7_isFreeFor E p0 p1 p2 h = some (r, h')) : zMet l yX7_isFreeFor (ws_ yX7_isFreeFor cX7_isFreeFor 4 (Option.some Jvm.ClassFile.FieldType.boolean)) 3 106 D B0 E [.ref p0, .int p1, .ref p2] h (zoI r) h' := by
  unfold f_X7_isFreeFor at hf
  refine zMet_of hst (by decide +kernel) rfl rfl (Nat.le_of_ble_eq_true rfl) (fun p e R s m below meth c C0 hno => ?_)
  show zW _ _ _ _ _ _ _ _ _ _ _ _ _ _ _ _ [(0, .ref p0), (1, .int p1), (2, .ref p2)] []
  exact w_X7_isFreeFor_b0 C0 hf
def f_X7_area_b110 (E : zE) (k77 : Nat → Int32 → Nat → Int32 → zH → Option ((Unit ⊕ (Nat × Nat)) × zH)) (p0 : Nat) (p1 : Int32) (p5 : Nat) (p6 : Int32) (h : zH) : Option ((Unit ⊕ (Nat × Nat)) × zH) :=
  k77 p0 p1 p5 (p6 + 1) h
theorem w_X7_area_b110 (C0 : zCx p l e R s m args below meth c D B0 7 "FranchiseLedger$Reader" cX7_area E 13 326 (Option.none : Option Jvm.ClassFile.FieldType) "area") (hno : ∀ x ∈ c.exceptionTable.toList, False) {r : (Unit ⊕ (Nat × Nat))} {h' : zH} {k77 : Nat → Int32 → Nat → Int32 → zH → Option ((Unit ⊕ (Nat × Nat)) × zH)} (hk77 : ∀ (p0 : Nat) (p1 : Int32) (p5 : Nat) (p6 : Int32) (h : zH), k77 p0 p1 p5 p6 h = some (r, h') → zW p l e R s m args below meth c D B0 7 (zEnd D B0 R below args s (zoT zoV r) h') h 77 [(0, .ref p0), (1, .int p1), (5, .ref p5), (6, .int p6)] []) {p0 : Nat} {p1 : Int32} {p5 : Nat} {p6 : Int32} {h : zH} (hf : f_X7_area_b110 E k77 p0 p1 p5 p6 h = some (r, h')) : zW p l e R s m args below meth c D B0 7 (zEnd D B0 R below args s (zoT zoV r) h') h 110 [(0, .ref p0), (1, .int p1), (5, .ref p5), (6, .int p6)] [] := by
  unfold f_X7_area_b110 at hf
  refine zr_iinc (lv' := [(6, .int (p6 + 1)), (0, .ref p0), (1, .int p1), (5, .ref p5)]) C0 dX7_area_110 3 rfl rfl (by decide) (by first | rfl | simp [zst1, zst2, zcat_rf]) ?_
  refine zr_goto C0 (tgt := 77) dX7_area_113 (by decide) ?_
  refine zr_sub [1, 2, 3, 0] rfl ?_
  exact hk77 _ _ _ _ _ hf
def f_X7_area_l77 (E : zE) : Nat → Nat → Int32 → Nat → Int32 → zH → Option ((Unit ⊕ (Nat × Nat)) × zH)
  | 0, _, _, _, _, _ => none
  | n + 1, p0, p1, p5, p6, h =>
    if (900 : Int32) ≤ p6 then (
      some (.inl (), h)
    ) else (
      (cko h p5 12).bind fun _ =>
      bnd2 (f_X13_contains E p5 p6 h) fun x5 h3 =>
      if x5 = 0 then (
        f_X7_area_b110 E (f_X7_area_l77 E n) p0 p1 p5 p6 h3
      ) else (
        (gR h3 p0 6 2).bind fun x7 =>
        (gR h3 x7 4 2).bind fun x9 =>
        (gR h3 x9 5 0).bind fun x11 =>
        (sI h3 x11 2 p6 ((p1.toInt8.toInt32).toInt8.toInt32)).bind fun h13 =>
        f_X7_area_b110 E (f_X7_area_l77 E n) p0 p1 p5 p6 h13
      )
    )
theorem w_X7_area_l77 (C0 : zCx p l e R s m args below meth c D B0 7 "FranchiseLedger$Reader" cX7_area E 13 326 (Option.none : Option Jvm.ClassFile.FieldType) "area") (hno : ∀ x ∈ c.exceptionTable.toList, False) {r : (Unit ⊕ (Nat × Nat))} {h' : zH} : ∀ (n : Nat) (p0 : Nat) (p1 : Int32) (p5 : Nat) (p6 : Int32) (h : zH), f_X7_area_l77 E n p0 p1 p5 p6 h = some (r, h') → zW p l e R s m args below meth c D B0 7 (zEnd D B0 R below args s (zoT zoV r) h') h 77 [(0, .ref p0), (1, .int p1), (5, .ref p5), (6, .int p6)] [] := by
  intro n
  induction n with
  | zero =>
    intro p0 p1 p5 p6 h hf
    unfold f_X7_area_l77 at hf
    cases hf
  | succ n ih =>
    intro p0 p1 p5 p6 h hf
    unfold f_X7_area_l77 at hf
    refine zr_iload C0 dX7_area_77 3 rfl ?_
    refine zr_sipush C0 (v := 900) dX7_area_79 (by decide) ?_
    refine zr_icmp_ge C0 (tgt := 116) dX7_area_82 (by decide) (fun c1 => ?_) (fun c1 => ?_)
    · have hf := zif_t c1 hf
      refine zretW hf ?_
      exact zr_vret C0 rfl dX7_area_116 rfl
    · have hf := zif_f c1 hf
      refine zr_aload C0 dX7_area_85 2 rfl ?_
      refine zr_iload C0 dX7_area_87 3 rfl ?_
      obtain ⟨_, e2, hf⟩ := zbind hf
      obtain ⟨x5, h3, e4, hf⟩ := zbind2 hf
      refine zr_callV_r C0 cv_X7_201_X13 rfl (zcko e2) (m_X13_contains C0.2.2.2.2.2.2.1 e4) (by decide) (by decide) rfl rfl (Nat.le_of_ble_eq_true rfl) dX7_area_89 rfl ?_
      refine zr_if_eq C0 (tgt := 110) dX7_area_92 (by decide) (fun c6 => ?_) (fun c6 => ?_)
      · have hf := zif_t c6 hf
        exact w_X7_area_b110 C0 hno ih hf
      · have hf := zif_f c6 hf
        refine zr_aload_n C0 dX7_area_95 rfl 0 rfl ?_
        obtain ⟨x7, e8, hf⟩ := zbind hf
        refine zr_get C0 fl_X7_27_X7 dX7_area_96 (zgR e8) ?_
        obtain ⟨x9, e10, hf⟩ := zbind hf
        refine zr_get C0 fl_X7_207_X4 dX7_area_99 (zgR e10) ?_
        obtain ⟨x11, e12, hf⟩ := zbind hf
        refine zr_get C0 fl_X7_211_X5 dX7_area_102 (zgR e12) ?_
        refine zr_iload C0 dX7_area_105 3 rfl ?_
        refine zr_iload_n C0 dX7_area_107 rfl 1 rfl ?_
        refine zr_i2b C0 dX7_area_108 ?_
        obtain ⟨h13, e14, hf⟩ := zbind hf
        refine zr_bast C0 dX7_area_109 e14 ?_
        exact w_X7_area_b110 C0 hno ih hf
def f_X7_area_b0 (E : zE) (p0 : Nat) (h : zH) : Option ((Unit ⊕ (Nat × Nat)) × zH) :=
  (cko h p0 6).bind fun _ =>
  bnd2 (f_X7_scan E p0 h) fun x4 h2 =>
  (cko h2 p0 6).bind fun _ =>
  bnd2 (f_X7_named E p0 h2) fun x8 h6 =>
  Sum.elim (fun x9 => (
    (cko h6 p0 6).bind fun _ =>
    bnd2 (f_X7_number E p0 (0 : Int32) (29 : Int32) h6) fun x14 h12 =>
    Sum.elim (fun x15 => (
      (cko h12 p0 6).bind fun _ =>
      bnd2 (f_X7_number E p0 (0 : Int32) (29 : Int32) h12) fun x20 h18 =>
      Sum.elim (fun x21 => (
        (cko h18 p0 6).bind fun _ =>
        bnd2 (f_X7_number E p0 (x15 + (1 : Int32)) (30 : Int32) h18) fun x26 h24 =>
        Sum.elim (fun x27 => (
          bnd2 (nO h24 12 4 [.int 0, .int 0, .int 0, .int 0]) fun q29 h30 =>
          (cko h30 p0 6).bind fun _ =>
          bnd2 (f_X7_figure E p0 (x21 + (1 : Int32)) (30 : Int32) h30) fun x35 h33 =>
          Sum.elim (fun x36 => (
            bnd2 (f_X13_init E q29 x15 x21 x27 x36 h33) fun x40 h38 =>
            (cko h38 p0 6).bind fun _ =>
            bnd2 (f_X7_isFreeFor E p0 x9 q29 h38) fun x44 h42 =>
            (cko h42 p0 6).bind fun _ =>
            bnd2 (f_X7_require E p0 x44 (5 : Int32) h42) fun x48 h46 =>
            Sum.elim (fun x49 => (
              (cko h46 p0 6).bind fun _ =>
              bnd2 (f_X7_scan E p0 h46) fun x54 h52 =>
              f_X7_area_l77 E E.1 p0 x9 q29 (0 : Int32) h52
            )) (fun q50 => (
              some (.inr q50, h46)
            )) x48
          )) (fun q37 => (
            some (.inr q37, h33)
          )) x35
        )) (fun q28 => (
          some (.inr q28, h24)
        )) x26
      )) (fun q22 => (
        some (.inr q22, h18)
      )) x20
    )) (fun q16 => (
      some (.inr q16, h12)
    )) x14
  )) (fun q10 => (
    some (.inr q10, h6)
  )) x8
theorem w_X7_area_b0 (C0 : zCx p l e R s m args below meth c D B0 7 "FranchiseLedger$Reader" cX7_area E 13 326 (Option.none : Option Jvm.ClassFile.FieldType) "area") (hno : ∀ x ∈ c.exceptionTable.toList, False) {r : (Unit ⊕ (Nat × Nat))} {h' : zH} {p0 : Nat} {h : zH} (hf : f_X7_area_b0 E p0 h = some (r, h')) : zW p l e R s m args below meth c D B0 7 (zEnd D B0 R below args s (zoT zoV r) h') h 0 [(0, .ref p0)] [] := by
  unfold f_X7_area_b0 at hf
  refine zr_aload_n C0 dX7_area_0 rfl 0 rfl ?_
  obtain ⟨_, e1, hf⟩ := zbind hf
  obtain ⟨x4, h2, e3, hf⟩ := zbind2 hf
  refine zr_callV_r C0 cv_X7_50_X7 rfl (zcko e1) (m_X7_scan C0.2.2.2.2.2.2.1 e3) (by decide) (by decide) rfl rfl (Nat.le_of_ble_eq_true rfl) dX7_area_1 rfl ?_
  refine zr_aload_n C0 dX7_area_4 rfl 0 rfl ?_
  obtain ⟨_, e5, hf⟩ := zbind hf
  obtain ⟨x8, h6, e7, hf⟩ := zbind2 hf
  rcases x8 with x9 | q10
  · have hf := zinl hf
    refine zr_callV_r C0 cv_X7_216_X7 rfl (zcko e5) (m_X7_named C0.2.2.2.2.2.2.1 e7) (by decide) (by decide) rfl rfl (Nat.le_of_ble_eq_true rfl) dX7_area_5 rfl ?_
    refine zr_istore_n (i := 1) (lv' := [(1, .int x9), (0, .ref p0)]) C0 dX7_area_8 rfl (by decide) (by first | rfl | simp [zst1, zst2, zcat_rf]) ?_
    refine zr_aload_n C0 dX7_area_9 rfl 1 rfl ?_
    refine zr_iconst C0 (v := 0) dX7_area_10 (by decide) ?_
    refine zr_bipush C0 (v := 29) dX7_area_11 (by decide) ?_
    obtain ⟨_, e11, hf⟩ := zbind hf
    obtain ⟨x14, h12, e13, hf⟩ := zbind2 hf
    rcases x14 with x15 | q16
    · have hf := zinl hf
      refine zr_callV_r C0 cv_X7_164_X7 rfl (zcko e11) (m_X7_number C0.2.2.2.2.2.2.1 e13) (by decide) (by decide) rfl rfl (Nat.le_of_ble_eq_true rfl) dX7_area_13 rfl ?_
      refine zr_istore_n (i := 2) (lv' := [(2, .int x15), (1, .int x9), (0, .ref p0)]) C0 dX7_area_16 rfl (by decide) (by first | rfl | simp [zst1, zst2, zcat_rf]) ?_
      refine zr_aload_n C0 dX7_area_17 rfl 2 rfl ?_
      refine zr_iconst C0 (v := 0) dX7_area_18 (by decide) ?_
      refine zr_bipush C0 (v := 29) dX7_area_19 (by decide) ?_
      obtain ⟨_, e17, hf⟩ := zbind hf
      obtain ⟨x20, h18, e19, hf⟩ := zbind2 hf
      rcases x20 with x21 | q22
      · have hf := zinl hf
        refine zr_callV_r C0 cv_X7_164_X7 rfl (zcko e17) (m_X7_number C0.2.2.2.2.2.2.1 e19) (by decide) (by decide) rfl rfl (Nat.le_of_ble_eq_true rfl) dX7_area_21 rfl ?_
        refine zr_istore_n (i := 3) (lv' := [(3, .int x21), (2, .int x15), (1, .int x9), (0, .ref p0)]) C0 dX7_area_24 rfl (by decide) (by first | rfl | simp [zst1, zst2, zcat_rf]) ?_
        refine zr_aload_n C0 dX7_area_25 rfl 3 rfl ?_
        refine zr_iload_n C0 dX7_area_26 rfl 1 rfl ?_
        refine zr_iconst C0 (v := 1) dX7_area_27 (by decide) ?_
        refine zr_iadd C0 dX7_area_28 ?_
        refine zr_bipush C0 (v := 30) dX7_area_29 (by decide) ?_
        obtain ⟨_, e23, hf⟩ := zbind hf
        obtain ⟨x26, h24, e25, hf⟩ := zbind2 hf
        rcases x26 with x27 | q28
        · have hf := zinl hf
          refine zr_callV_r C0 cv_X7_164_X7 rfl (zcko e23) (m_X7_number C0.2.2.2.2.2.2.1 e25) (by decide) (by decide) rfl rfl (Nat.le_of_ble_eq_true rfl) dX7_area_31 rfl ?_
          refine zr_istore (i := 4) (lv' := [(4, .int x27), (3, .int x21), (2, .int x15), (1, .int x9), (0, .ref p0)]) C0 dX7_area_34 (by decide) (by first | rfl | simp [zst1, zst2, zcat_rf]) ?_
          obtain ⟨q29, h30, e31, hf⟩ := zbind2 hf
          refine zr_newc C0 (C := RX13) (T := TX13) (N := 4) rfl in_X13 tyX13_ok q1668 q1669 q169 nw_X13 dX7_area_36 e31 ?_
          refine zr_dup C0 dX7_area_39 rfl ?_
          refine zr_iload_n C0 dX7_area_40 rfl 2 rfl ?_
          refine zr_iload_n C0 dX7_area_41 rfl 1 rfl ?_
          refine zr_iload C0 dX7_area_42 0 rfl ?_
          refine zr_aload_n C0 dX7_area_44 rfl 4 rfl ?_
          refine zr_iload_n C0 dX7_area_45 rfl 1 rfl ?_
          refine zr_iconst C0 (v := 1) dX7_area_46 (by decide) ?_
          refine zr_iadd C0 dX7_area_47 ?_
          refine zr_bipush C0 (v := 30) dX7_area_48 (by decide) ?_
          obtain ⟨_, e32, hf⟩ := zbind hf
          obtain ⟨x35, h33, e34, hf⟩ := zbind2 hf
          rcases x35 with x36 | q37
          · have hf := zinl hf
            refine zr_callV_r C0 cv_X7_120_X7 rfl (zcko e32) (m_X7_figure C0.2.2.2.2.2.2.1 e34) (by decide) (by decide) rfl rfl (Nat.le_of_ble_eq_true rfl) dX7_area_50 rfl ?_
            obtain ⟨x40, h38, e39, hf⟩ := zbind2 hf
            refine zr_callIN_r C0 cv_X7_218 (m_X13_init C0.2.2.2.2.2.2.1 e39) (by decide) (by decide) rfl rfl (Nat.le_of_ble_eq_true rfl) dX7_area_53 rfl ?_
            refine zr_astore (i := 5) (lv' := [(5, .ref q29), (4, .int x27), (3, .int x21), (2, .int x15), (1, .int x9), (0, .ref p0)]) C0 dX7_area_56 (by decide) (by first | rfl | simp [zst1, zst2, zcat_rf]) ?_
            refine zr_aload_n C0 dX7_area_58 rfl 5 rfl ?_
            refine zr_aload_n C0 dX7_area_59 rfl 5 rfl ?_
            refine zr_iload_n C0 dX7_area_60 rfl 4 rfl ?_
            refine zr_aload C0 dX7_area_61 0 rfl ?_
            obtain ⟨_, e41, hf⟩ := zbind hf
            obtain ⟨x44, h42, e43, hf⟩ := zbind2 hf
            refine zr_callV_r C0 cv_X7_221_X7 rfl (zcko e41) (m_X7_isFreeFor C0.2.2.2.2.2.2.1 e43) (by decide) (by decide) rfl rfl (Nat.le_of_ble_eq_true rfl) dX7_area_63 rfl ?_
            refine zr_iconst C0 (v := 5) dX7_area_66 (by decide) ?_
            obtain ⟨_, e45, hf⟩ := zbind hf
            obtain ⟨x48, h46, e47, hf⟩ := zbind2 hf
            rcases x48 with x49 | q50
            · have hf := zinl hf
              refine zr_callV_r C0 cv_X7_116_X7 rfl (zcko e45) (m_X7_require C0.2.2.2.2.2.2.1 e47) (by decide) (by decide) rfl rfl (Nat.le_of_ble_eq_true rfl) dX7_area_67 rfl ?_
              refine zr_aload_n C0 dX7_area_70 rfl 5 rfl ?_
              obtain ⟨_, e51, hf⟩ := zbind hf
              obtain ⟨x54, h52, e53, hf⟩ := zbind2 hf
              refine zr_callV_r C0 cv_X7_50_X7 rfl (zcko e51) (m_X7_scan C0.2.2.2.2.2.2.1 e53) (by decide) (by decide) rfl rfl (Nat.le_of_ble_eq_true rfl) dX7_area_71 rfl ?_
              refine zr_iconst C0 (v := 0) dX7_area_74 (by decide) ?_
              refine zr_istore (i := 6) (lv' := [(6, .int (0 : Int32)), (5, .ref q29), (4, .int x27), (3, .int x21), (2, .int x15), (1, .int x9), (0, .ref p0)]) C0 dX7_area_75 (by decide) (by first | rfl | simp [zst1, zst2, zcat_rf]) ?_
              refine zr_sub [6, 5, 1, 0] rfl ?_
              exact w_X7_area_l77 C0 hno _ _ _ _ _ _ hf
            · have hf := zinr hf
              refine zretW hf ?_
              exact zr_callV_t C0 cv_X7_116_X7 rfl (zcko e45) (m_X7_require C0.2.2.2.2.2.2.1 e47) (by decide) (by decide) rfl rfl (Nat.le_of_ble_eq_true rfl) dX7_area_67 (zr_out C0 hno rfl)
          · have hf := zinr hf
            refine zretW hf ?_
            exact zr_callV_t C0 cv_X7_120_X7 rfl (zcko e32) (m_X7_figure C0.2.2.2.2.2.2.1 e34) (by decide) (by decide) rfl rfl (Nat.le_of_ble_eq_true rfl) dX7_area_50 (zr_out C0 hno rfl)
        · have hf := zinr hf
          refine zretW hf ?_
          exact zr_callV_t C0 cv_X7_164_X7 rfl (zcko e23) (m_X7_number C0.2.2.2.2.2.2.1 e25) (by decide) (by decide) rfl rfl (Nat.le_of_ble_eq_true rfl) dX7_area_31 (zr_out C0 hno rfl)
      · have hf := zinr hf
        refine zretW hf ?_
        exact zr_callV_t C0 cv_X7_164_X7 rfl (zcko e17) (m_X7_number C0.2.2.2.2.2.2.1 e19) (by decide) (by decide) rfl rfl (Nat.le_of_ble_eq_true rfl) dX7_area_21 (zr_out C0 hno rfl)
    · have hf := zinr hf
      refine zretW hf ?_
      exact zr_callV_t C0 cv_X7_164_X7 rfl (zcko e11) (m_X7_number C0.2.2.2.2.2.2.1 e13) (by decide) (by decide) rfl rfl (Nat.le_of_ble_eq_true rfl) dX7_area_13 (zr_out C0 hno rfl)
  · have hf := zinr hf
    refine zretW hf ?_
    exact zr_callV_t C0 cv_X7_216_X7 rfl (zcko e5) (m_X7_named C0.2.2.2.2.2.2.1 e7) (by decide) (by decide) rfl rfl (Nat.le_of_ble_eq_true rfl) dX7_area_5 (zr_out C0 hno rfl)
def f_X7_area (E : zE) (p0 : Nat) (h : zH) : Option ((Unit ⊕ (Nat × Nat)) × zH) := f_X7_area_b0 E p0 h
theorem m_X7_area {l : Launch} (hst : l.stackTraces = false) {D : zD} {B0 : Nat} {E : zE} {p0 : Nat} {h h' : zH} {r : (Unit ⊕ (Nat × Nat))} (hf : f_X7_area E p0 h = some (r, h')) : zMet l yX7_area (ws_ yX7_area cX7_area 7 (Option.none : Option Jvm.ClassFile.FieldType)) 13 326 D B0 E [.ref p0] h (zoT zoV r) h' := by
  unfold f_X7_area at hf
  refine zMet_of hst (by decide +kernel) rfl rfl (Nat.le_of_ble_eq_true rfl) (fun p e R s m below meth c C0 hno => ?_)
  show zW _ _ _ _ _ _ _ _ _ _ _ _ _ _ _ _ [(0, .ref p0)] []
  exact w_X7_area_b0 C0 hno hf
def f_X1_cell_b0 (E : zE) (p0 : Int32) (p1 : Int32) (h : zH) : Option (Int32 × zH) :=
  some ((((30 : Int32) * p1) + p0), h)
theorem w_X1_cell_b0 (C0 : zCx p l e R s m args below meth c D B0 2 "FranchiseLedger" cX1_cell E 1 60 (Option.some Jvm.ClassFile.FieldType.int) "cell") {r : Int32} {h' : zH} {p0 : Int32} {p1 : Int32} {h : zH} (hf : f_X1_cell_b0 E p0 p1 h = some (r, h')) : zW p l e R s m args below meth c D B0 2 (zEnd D B0 R below args s (zoI r) h') h 0 [(0, .int p0), (1, .int p1)] [] := by
  unfold f_X1_cell_b0 at hf
  refine zr_bipush C0 (v := 30) dX1_cell_0 (by decide) ?_
  refine zr_iload_n C0 dX1_cell_2 rfl 1 rfl ?_
  refine zr_imul C0 dX1_cell_3 ?_
  refine zr_iload_n C0 dX1_cell_4 rfl 0 rfl ?_
  refine zr_iadd C0 dX1_cell_5 ?_
  refine zretW hf ?_
  exact zr_iret C0 (ty := .int) rfl rfl dX1_cell_6 rfl
def f_X1_cell (E : zE) (p0 : Int32) (p1 : Int32) (h : zH) : Option (Int32 × zH) := f_X1_cell_b0 E p0 p1 h
theorem m_X1_cell {l : Launch} (hst : l.stackTraces = false) {D : zD} {B0 : Nat} {E : zE} {p0 : Int32} {p1 : Int32} {h h' : zH} {r : Int32} (hf : f_X1_cell E p0 p1 h = some (r, h')) : zMet l yX1_cell (ws_ yX1_cell cX1_cell 2 (Option.some Jvm.ClassFile.FieldType.int)) 1 60 D B0 E [.int p0, .int p1] h (zoI r) h' := by
  unfold f_X1_cell at hf
  refine zMet_of hst (by decide +kernel) rfl rfl (Nat.le_of_ble_eq_true rfl) (fun p e R s m below meth c C0 hno => ?_)
  show zW _ _ _ _ _ _ _ _ _ _ _ _ _ _ _ _ [(0, .int p0), (1, .int p1)] []
  exact w_X1_cell_b0 C0 hf
def f_X14_isOpen_b13 (E : zE) (s0 : Int32) (h : zH) : Option (Int32 × zH) :=
  (zgd .boolean s0).bind fun _ =>
  some (s0, h)
theorem w_X14_isOpen_b13 (C0 : zCx p l e R s m args below meth c D B0 1 "FranchiseLedger$Outlet" cX14_isOpen E 1 60 (Option.some Jvm.ClassFile.FieldType.boolean) "isOpen") {r : Int32} {h' : zH} {s0 : Int32} {h : zH} (hf : f_X14_isOpen_b13 E s0 h = some (r, h')) : zW p l e R s m args below meth c D B0 1 (zEnd D B0 R below args s (zoI r) h') h 13 [] [.int s0] := by
  unfold f_X14_isOpen_b13 at hf
  obtain ⟨_, e1, hf⟩ := zbind hf
  refine zretW hf ?_
  exact zr_iret C0 (ty := .boolean) rfl (zgd_n e1) dX14_isOpen_13 rfl
def f_X14_isOpen_b0 (E : zE) (p0 : Nat) (h : zH) : Option (Int32 × zH) :=
  (gI h p0 13 1).bind fun x1 =>
  if x1 = (-1 : Int32) then (
    f_X14_isOpen_b13 E (0 : Int32) h
  ) else (
    f_X14_isOpen_b13 E (1 : Int32) h
  )
theorem w_X14_isOpen_b0 (C0 : zCx p l e R s m args below meth c D B0 1 "FranchiseLedger$Outlet" cX14_isOpen E 1 60 (Option.some Jvm.ClassFile.FieldType.boolean) "isOpen") {r : Int32} {h' : zH} {p0 : Nat} {h : zH} (hf : f_X14_isOpen_b0 E p0 h = some (r, h')) : zW p l e R s m args below meth c D B0 1 (zEnd D B0 R below args s (zoI r) h') h 0 [(0, .ref p0)] [] := by
  unfold f_X14_isOpen_b0 at hf
  refine zr_aload_n C0 dX14_isOpen_0 rfl 0 rfl ?_
  obtain ⟨x1, e2, hf⟩ := zbind hf
  refine zr_get C0 fl_X14_18_X14 dX14_isOpen_1 (zgI e2) ?_
  refine zr_iconst C0 (v := -1) dX14_isOpen_4 (by decide) ?_
  refine zr_icmp_eq C0 (tgt := 12) dX14_isOpen_5 (by decide) (fun c3 => ?_) (fun c3 => ?_)
  · have hf := zif_t c3 hf
    refine zr_iconst C0 (v := 0) dX14_isOpen_12 (by decide) ?_
    refine zr_sub [] rfl ?_
    exact w_X14_isOpen_b13 C0 hf
  · have hf := zif_f c3 hf
    refine zr_iconst C0 (v := 1) dX14_isOpen_8 (by decide) ?_
    refine zr_goto C0 (tgt := 13) dX14_isOpen_9 (by decide) ?_
    refine zr_sub [] rfl ?_
    exact w_X14_isOpen_b13 C0 hf
def f_X14_isOpen (E : zE) (p0 : Nat) (h : zH) : Option (Int32 × zH) := f_X14_isOpen_b0 E p0 h
theorem m_X14_isOpen {l : Launch} (hst : l.stackTraces = false) {D : zD} {B0 : Nat} {E : zE} {p0 : Nat} {h h' : zH} {r : Int32} (hf : f_X14_isOpen E p0 h = some (r, h')) : zMet l yX14_isOpen (ws_ yX14_isOpen cX14_isOpen 1 (Option.some Jvm.ClassFile.FieldType.boolean)) 1 60 D B0 E [.ref p0] h (zoI r) h' := by
  unfold f_X14_isOpen at hf
  refine zMet_of hst (by decide +kernel) rfl rfl (Nat.le_of_ble_eq_true rfl) (fun p e R s m below meth c C0 hno => ?_)
  show zW _ _ _ _ _ _ _ _ _ _ _ _ _ _ _ _ [(0, .ref p0)] []
  exact w_X14_isOpen_b0 C0 hf
def f_X4_hasOutlet_b56 (E : zE) (k2 : Nat → Int32 → Int32 → zH → Option (Int32 × zH)) (p0 : Nat) (p1 : Int32) (p2 : Int32) (h : zH) : Option (Int32 × zH) :=
  k2 p0 p1 (p2 + 1) h
theorem w_X4_hasOutlet_b56 (C0 : zCx p l e R s m args below meth c D B0 3 "FranchiseLedger$Books" cX4_hasOutlet E 4 124 (Option.some Jvm.ClassFile.FieldType.boolean) "hasOutlet") {r : Int32} {h' : zH} {k2 : Nat → Int32 → Int32 → zH → Option (Int32 × zH)} (hk2 : ∀ (p0 : Nat) (p1 : Int32) (p2 : Int32) (h : zH), k2 p0 p1 p2 h = some (r, h') → zW p l e R s m args below meth c D B0 3 (zEnd D B0 R below args s (zoI r) h') h 2 [(0, .ref p0), (1, .int p1), (2, .int p2)] []) {p0 : Nat} {p1 : Int32} {p2 : Int32} {h : zH} (hf : f_X4_hasOutlet_b56 E k2 p0 p1 p2 h = some (r, h')) : zW p l e R s m args below meth c D B0 3 (zEnd D B0 R below args s (zoI r) h') h 56 [(0, .ref p0), (1, .int p1), (2, .int p2)] [] := by
  unfold f_X4_hasOutlet_b56 at hf
  refine zr_iinc (lv' := [(2, .int (p2 + 1)), (0, .ref p0), (1, .int p1)]) C0 dX4_hasOutlet_56 2 rfl rfl (by decide) (by first | rfl | simp [zst1, zst2, zcat_rf]) ?_
  refine zr_goto C0 (tgt := 2) dX4_hasOutlet_59 (by decide) ?_
  refine zr_sub [1, 2, 0] rfl ?_
  exact hk2 _ _ _ _ hf
def f_X4_hasOutlet_l2 (E : zE) : Nat → Nat → Int32 → Int32 → zH → Option (Int32 × zH)
  | 0, _, _, _, _ => none
  | n + 1, p0, p1, p2, h =>
    (gR h p0 4 1).bind fun x1 =>
    (cko h x1 15).bind fun _ =>
    bnd2 (f_J2_size E x1 h) fun x6 h4 =>
    if x6 ≤ p2 then (
      some ((0 : Int32), h4)
    ) else (
      (gR h4 p0 4 1).bind fun x8 =>
      (cko h4 x8 15).bind fun _ =>
      bnd2 (f_J2_get E x8 p2 h4) fun x13 h11 =>
      (cko h11 x13 13).bind fun _ =>
      (cko h11 x13 13).bind fun _ =>
      bnd2 (f_X14_isOpen E x13 h11) fun x18 h16 =>
      if x18 = 0 then (
        f_X4_hasOutlet_b56 E (f_X4_hasOutlet_l2 E n) p0 p1 p2 h16
      ) else (
        (gR h16 p0 4 1).bind fun x20 =>
        (cko h16 x20 15).bind fun _ =>
        bnd2 (f_J2_get E x20 p2 h16) fun x25 h23 =>
        (cko h23 x25 13).bind fun _ =>
        (gI h23 x25 13 0).bind fun x27 =>
        if x27 = p1 then (
          some ((1 : Int32), h23)
        ) else (
          f_X4_hasOutlet_b56 E (f_X4_hasOutlet_l2 E n) p0 p1 p2 h23
        )
      )
    )
theorem w_X4_hasOutlet_l2 (C0 : zCx p l e R s m args below meth c D B0 3 "FranchiseLedger$Books" cX4_hasOutlet E 4 124 (Option.some Jvm.ClassFile.FieldType.boolean) "hasOutlet") {r : Int32} {h' : zH} : ∀ (n : Nat) (p0 : Nat) (p1 : Int32) (p2 : Int32) (h : zH), f_X4_hasOutlet_l2 E n p0 p1 p2 h = some (r, h') → zW p l e R s m args below meth c D B0 3 (zEnd D B0 R below args s (zoI r) h') h 2 [(0, .ref p0), (1, .int p1), (2, .int p2)] [] := by
  intro n
  induction n with
  | zero =>
    intro p0 p1 p2 h hf
    unfold f_X4_hasOutlet_l2 at hf
    cases hf
  | succ n ih =>
    intro p0 p1 p2 h hf
    unfold f_X4_hasOutlet_l2 at hf
    refine zr_iload_n C0 dX4_hasOutlet_2 rfl 2 rfl ?_
    refine zr_aload_n C0 dX4_hasOutlet_3 rfl 0 rfl ?_
    obtain ⟨x1, e2, hf⟩ := zbind hf
    refine zr_get C0 fl_X4_24_X4 dX4_hasOutlet_4 (zgR e2) ?_
    obtain ⟨_, e3, hf⟩ := zbind hf
    obtain ⟨x6, h4, e5, hf⟩ := zbind2 hf
    refine zr_callF_r C0 cv_X4_46_J2 rfl (zcko e3) (m_J2_size C0.2.2.2.2.2.2.1 e5) (by decide) (by decide) rfl rfl (Nat.le_of_ble_eq_true rfl) dX4_hasOutlet_7 rfl ?_
    refine zr_icmp_ge C0 (tgt := 62) dX4_hasOutlet_12 (by decide) (fun c7 => ?_) (fun c7 => ?_)
    · have hf := zif_t c7 hf
      refine zr_iconst C0 (v := 0) dX4_hasOutlet_62 (by decide) ?_
      refine zretW hf ?_
      exact zr_iret C0 (ty := .boolean) rfl (by decide) dX4_hasOutlet_63 rfl
    · have hf := zif_f c7 hf
      refine zr_aload_n C0 dX4_hasOutlet_15 rfl 0 rfl ?_
      obtain ⟨x8, e9, hf⟩ := zbind hf
      refine zr_get C0 fl_X4_24_X4 dX4_hasOutlet_16 (zgR e9) ?_
      refine zr_iload_n C0 dX4_hasOutlet_19 rfl 2 rfl ?_
      obtain ⟨_, e10, hf⟩ := zbind hf
      obtain ⟨x13, h11, e12, hf⟩ := zbind2 hf
      refine zr_callF_r C0 cv_X4_52_J2 rfl (zcko e10) (m_J2_get C0.2.2.2.2.2.2.1 e12) (by decide) (by decide) rfl rfl (Nat.le_of_ble_eq_true rfl) dX4_hasOutlet_20 rfl ?_
      obtain ⟨_, e14, hf⟩ := zbind hf
      refine zr_castS C0 (ci := 13) rfl (zcko e14) q1055 dX4_hasOutlet_25 ?_
      obtain ⟨_, e15, hf⟩ := zbind hf
      obtain ⟨x18, h16, e17, hf⟩ := zbind2 hf
      refine zr_callV_r C0 cv_X4_209_X14 rfl (zcko e15) (m_X14_isOpen C0.2.2.2.2.2.2.1 e17) (by decide) (by decide) rfl rfl (Nat.le_of_ble_eq_true rfl) dX4_hasOutlet_28 rfl ?_
      refine zr_if_eq C0 (tgt := 56) dX4_hasOutlet_31 (by decide) (fun c19 => ?_) (fun c19 => ?_)
      · have hf := zif_t c19 hf
        exact w_X4_hasOutlet_b56 C0 ih hf
      · have hf := zif_f c19 hf
        refine zr_aload_n C0 dX4_hasOutlet_34 rfl 0 rfl ?_
        obtain ⟨x20, e21, hf⟩ := zbind hf
        refine zr_get C0 fl_X4_24_X4 dX4_hasOutlet_35 (zgR e21) ?_
        refine zr_iload_n C0 dX4_hasOutlet_38 rfl 2 rfl ?_
        obtain ⟨_, e22, hf⟩ := zbind hf
        obtain ⟨x25, h23, e24, hf⟩ := zbind2 hf
        refine zr_callF_r C0 cv_X4_52_J2 rfl (zcko e22) (m_J2_get C0.2.2.2.2.2.2.1 e24) (by decide) (by decide) rfl rfl (Nat.le_of_ble_eq_true rfl) dX4_hasOutlet_39 rfl ?_
        obtain ⟨_, e26, hf⟩ := zbind hf
        refine zr_castS C0 (ci := 13) rfl (zcko e26) q1055 dX4_hasOutlet_44 ?_
        obtain ⟨x27, e28, hf⟩ := zbind hf
        refine zr_get C0 fl_X4_72_X14 dX4_hasOutlet_47 (zgI e28) ?_
        refine zr_iload_n C0 dX4_hasOutlet_50 rfl 1 rfl ?_
        refine zr_icmp_ne C0 (tgt := 56) dX4_hasOutlet_51 (by decide) (fun c29 => ?_) (fun c29 => ?_)
        · have hf := zif_f c29 hf
          exact w_X4_hasOutlet_b56 C0 ih hf
        · have hf := zif_t c29 hf
          refine zr_iconst C0 (v := 1) dX4_hasOutlet_54 (by decide) ?_
          refine zretW hf ?_
          exact zr_iret C0 (ty := .boolean) rfl (by decide) dX4_hasOutlet_55 rfl
def f_X4_hasOutlet_b0 (E : zE) (p0 : Nat) (p1 : Int32) (h : zH) : Option (Int32 × zH) :=
  f_X4_hasOutlet_l2 E E.1 p0 p1 (0 : Int32) h
theorem w_X4_hasOutlet_b0 (C0 : zCx p l e R s m args below meth c D B0 3 "FranchiseLedger$Books" cX4_hasOutlet E 4 124 (Option.some Jvm.ClassFile.FieldType.boolean) "hasOutlet") {r : Int32} {h' : zH} {p0 : Nat} {p1 : Int32} {h : zH} (hf : f_X4_hasOutlet_b0 E p0 p1 h = some (r, h')) : zW p l e R s m args below meth c D B0 3 (zEnd D B0 R below args s (zoI r) h') h 0 [(0, .ref p0), (1, .int p1)] [] := by
  unfold f_X4_hasOutlet_b0 at hf
  refine zr_iconst C0 (v := 0) dX4_hasOutlet_0 (by decide) ?_
  refine zr_istore_n (i := 2) (lv' := [(2, .int (0 : Int32)), (0, .ref p0), (1, .int p1)]) C0 dX4_hasOutlet_1 rfl (by decide) (by first | rfl | simp [zst1, zst2, zcat_rf]) ?_
  refine zr_sub [1, 2, 0] rfl ?_
  exact w_X4_hasOutlet_l2 C0 _ _ _ _ _ hf
def f_X4_hasOutlet (E : zE) (p0 : Nat) (p1 : Int32) (h : zH) : Option (Int32 × zH) := f_X4_hasOutlet_b0 E p0 p1 h
theorem m_X4_hasOutlet {l : Launch} (hst : l.stackTraces = false) {D : zD} {B0 : Nat} {E : zE} {p0 : Nat} {p1 : Int32} {h h' : zH} {r : Int32} (hf : f_X4_hasOutlet E p0 p1 h = some (r, h')) : zMet l yX4_hasOutlet (ws_ yX4_hasOutlet cX4_hasOutlet 3 (Option.some Jvm.ClassFile.FieldType.boolean)) 4 124 D B0 E [.ref p0, .int p1] h (zoI r) h' := by
  unfold f_X4_hasOutlet at hf
  refine zMet_of hst (by decide +kernel) rfl rfl (Nat.le_of_ble_eq_true rfl) (fun p e R s m below meth c C0 hno => ?_)
  show zW _ _ _ _ _ _ _ _ _ _ _ _ _ _ _ _ [(0, .ref p0), (1, .int p1)] []
  exact w_X4_hasOutlet_b0 C0 hf
def f_X14_init_2_b0 (E : zE) (p0 : Nat) (p1 : Int32) (p2 : Int32) (h : zH) : Option (Unit × zH) :=
  bnd2 (f_X14_init E p0 p1 p2 (0 : Int64) h) fun x3 h1 =>
  some ((), h1)
theorem w_X14_init_2_b0 (C0 : zCx p l e R s m args below meth c D B0 3 "FranchiseLedger$Outlet" cX14_init_2 E 2 84 (Option.none : Option Jvm.ClassFile.FieldType) "<init>") {r : Unit} {h' : zH} {p0 : Nat} {p1 : Int32} {p2 : Int32} {h : zH} (hf : f_X14_init_2_b0 E p0 p1 p2 h = some (r, h')) : zW p l e R s m args below meth c D B0 3 (zEnd D B0 R below args s (zoV r) h') h 0 [(0, .ref p0), (1, .int p1), (2, .int p2)] [] := by
  unfold f_X14_init_2_b0 at hf
  refine zr_aload_n C0 dX14_init_2_0 rfl 0 rfl ?_
  refine zr_iload_n C0 dX14_init_2_1 rfl 1 rfl ?_
  refine zr_iload_n C0 dX14_init_2_2 rfl 2 rfl ?_
  refine zr_lconst C0 (v := 0) dX14_init_2_3 (by decide) ?_
  obtain ⟨x3, h1, e2, hf⟩ := zbind2 hf
  refine zr_callI_r C0 cv_X14_3 (m_X14_init C0.2.2.2.2.2.2.1 e2) (by decide) (by decide) rfl rfl (Nat.le_of_ble_eq_true rfl) dX14_init_2_4 rfl ?_
  refine zretW hf ?_
  exact zr_vret C0 rfl dX14_init_2_7 rfl
def f_X14_init_2 (E : zE) (p0 : Nat) (p1 : Int32) (p2 : Int32) (h : zH) : Option (Unit × zH) := f_X14_init_2_b0 E p0 p1 p2 h
theorem m_X14_init_2 {l : Launch} (hst : l.stackTraces = false) {D : zD} {B0 : Nat} {E : zE} {p0 : Nat} {p1 : Int32} {p2 : Int32} {h h' : zH} {r : Unit} (hf : f_X14_init_2 E p0 p1 p2 h = some (r, h')) : zMet l yX14_init_2 (ws_ yX14_init_2 cX14_init_2 3 (Option.none : Option Jvm.ClassFile.FieldType)) 2 84 D B0 E [.ref p0, .int p1, .int p2] h (zoV r) h' := by
  unfold f_X14_init_2 at hf
  refine zMet_of hst (by decide +kernel) rfl rfl (Nat.le_of_ble_eq_true rfl) (fun p e R s m below meth c C0 hno => ?_)
  show zW _ _ _ _ _ _ _ _ _ _ _ _ _ _ _ _ [(0, .ref p0), (1, .int p1), (2, .int p2)] []
  exact w_X14_init_2_b0 C0 hf
def f_X7_outlet_b89 (E : zE) (p0 : Nat) (p1 : Int32) (p3 : Int32) (s0 : Nat) (s1 : Int32) (h : zH) : Option ((Unit ⊕ (Nat × Nat)) × zH) :=
  (cko h s0 6).bind fun _ =>
  bnd2 (f_X7_require E s0 s1 (5 : Int32) h) fun x4 h2 =>
  Sum.elim (fun x5 => (
    (cko h2 p0 6).bind fun _ =>
    bnd2 (f_X7_scan E p0 h2) fun x10 h8 =>
    (gR h8 p0 6 2).bind fun x11 =>
    (gR h8 x11 4 1).bind fun x13 =>
    bnd2 (nO h8 13 3 [.int 0, .int 0, .long 0]) fun q15 h16 =>
    bnd2 (f_X14_init_2 E q15 p3 p1 h16) fun x20 h18 =>
    (cko h18 x13 15).bind fun _ =>
    bnd2 (f_J2_add E x13 q15 h18) fun x24 h22 =>
    some (.inl (), h22)
  )) (fun q6 => (
    some (.inr q6, h2)
  )) x4
theorem w_X7_outlet_b89 (C0 : zCx p l e R s m args below meth c D B0 4 "FranchiseLedger$Reader" cX7_outlet E 13 326 (Option.none : Option Jvm.ClassFile.FieldType) "outlet") (hno : ∀ x ∈ c.exceptionTable.toList, False) {r : (Unit ⊕ (Nat × Nat))} {h' : zH} {p0 : Nat} {p1 : Int32} {p3 : Int32} {s0 : Nat} {s1 : Int32} {h : zH} (hf : f_X7_outlet_b89 E p0 p1 p3 s0 s1 h = some (r, h')) : zW p l e R s m args below meth c D B0 4 (zEnd D B0 R below args s (zoT zoV r) h') h 89 [(0, .ref p0), (1, .int p1), (3, .int p3)] [.int s1, .ref s0] := by
  unfold f_X7_outlet_b89 at hf
  refine zr_iconst C0 (v := 5) dX7_outlet_89 (by decide) ?_
  obtain ⟨_, e1, hf⟩ := zbind hf
  obtain ⟨x4, h2, e3, hf⟩ := zbind2 hf
  rcases x4 with x5 | q6
  · have hf := zinl hf
    refine zr_callV_r C0 cv_X7_116_X7 rfl (zcko e1) (m_X7_require C0.2.2.2.2.2.2.1 e3) (by decide) (by decide) rfl rfl (Nat.le_of_ble_eq_true rfl) dX7_outlet_90 rfl ?_
    refine zr_aload_n C0 dX7_outlet_93 rfl 0 rfl ?_
    obtain ⟨_, e7, hf⟩ := zbind hf
    obtain ⟨x10, h8, e9, hf⟩ := zbind2 hf
    refine zr_callV_r C0 cv_X7_50_X7 rfl (zcko e7) (m_X7_scan C0.2.2.2.2.2.2.1 e9) (by decide) (by decide) rfl rfl (Nat.le_of_ble_eq_true rfl) dX7_outlet_94 rfl ?_
    refine zr_aload_n C0 dX7_outlet_97 rfl 0 rfl ?_
    obtain ⟨x11, e12, hf⟩ := zbind hf
    refine zr_get C0 fl_X7_27_X7 dX7_outlet_98 (zgR e12) ?_
    obtain ⟨x13, e14, hf⟩ := zbind hf
    refine zr_get C0 fl_X7_225_X4 dX7_outlet_101 (zgR e14) ?_
    obtain ⟨q15, h16, e17, hf⟩ := zbind2 hf
    refine zr_newc C0 (C := RX14) (T := TX14) (N := 3) rfl in_X14 tyX14_ok q1717 q1056 q170 nw_X14 dX7_outlet_104 e17 ?_
    refine zr_dup C0 dX7_outlet_107 rfl ?_
    refine zr_iload_n C0 dX7_outlet_108 rfl 2 rfl ?_
    refine zr_iload_n C0 dX7_outlet_109 rfl 1 rfl ?_
    obtain ⟨x20, h18, e19, hf⟩ := zbind2 hf
    refine zr_callI_r C0 cv_X7_236 (m_X14_init_2 C0.2.2.2.2.2.2.1 e19) (by decide) (by decide) rfl rfl (Nat.le_of_ble_eq_true rfl) dX7_outlet_110 rfl ?_
    obtain ⟨_, e21, hf⟩ := zbind hf
    obtain ⟨x24, h22, e23, hf⟩ := zbind2 hf
    refine zr_callF_r C0 cv_X7_175_J2 rfl (zcko e21) (m_J2_add C0.2.2.2.2.2.2.1 e23) (by decide) (by decide) rfl rfl (Nat.le_of_ble_eq_true rfl) dX7_outlet_113 rfl ?_
    refine zr_pop C0 dX7_outlet_118 rfl ?_
    refine zretW hf ?_
    exact zr_vret C0 rfl dX7_outlet_119 rfl
  · have hf := zinr hf
    refine zretW hf ?_
    exact zr_callV_t C0 cv_X7_116_X7 rfl (zcko e1) (m_X7_require C0.2.2.2.2.2.2.1 e3) (by decide) (by decide) rfl rfl (Nat.le_of_ble_eq_true rfl) dX7_outlet_90 (zr_out C0 hno rfl)
def f_X7_outlet_b88 (E : zE) (p0 : Nat) (p1 : Int32) (p3 : Int32) (s0 : Nat) (h : zH) : Option ((Unit ⊕ (Nat × Nat)) × zH) :=
  f_X7_outlet_b89 E p0 p1 p3 s0 (0 : Int32) h
theorem w_X7_outlet_b88 (C0 : zCx p l e R s m args below meth c D B0 4 "FranchiseLedger$Reader" cX7_outlet E 13 326 (Option.none : Option Jvm.ClassFile.FieldType) "outlet") (hno : ∀ x ∈ c.exceptionTable.toList, False) {r : (Unit ⊕ (Nat × Nat))} {h' : zH} {p0 : Nat} {p1 : Int32} {p3 : Int32} {s0 : Nat} {h : zH} (hf : f_X7_outlet_b88 E p0 p1 p3 s0 h = some (r, h')) : zW p l e R s m args below meth c D B0 4 (zEnd D B0 R below args s (zoT zoV r) h') h 88 [(0, .ref p0), (1, .int p1), (3, .int p3)] [.ref s0] := by
  unfold f_X7_outlet_b88 at hf
  refine zr_iconst C0 (v := 0) dX7_outlet_88 (by decide) ?_
  exact w_X7_outlet_b89 C0 hno hf
def f_X7_outlet_b23 (E : zE) (p0 : Nat) (s0 : Nat) (s1 : Int32) (h : zH) : Option ((Unit ⊕ (Nat × Nat)) × zH) :=
  (cko h s0 6).bind fun _ =>
  bnd2 (f_X7_require E s0 s1 (4 : Int32) h) fun x4 h2 =>
  Sum.elim (fun x5 => (
    (cko h2 p0 6).bind fun _ =>
    bnd2 (f_X7_scan E p0 h2) fun x10 h8 =>
    (cko h8 p0 6).bind fun _ =>
    bnd2 (f_X7_named E p0 h8) fun x14 h12 =>
    Sum.elim (fun x15 => (
      (cko h12 p0 6).bind fun _ =>
      bnd2 (f_X7_number E p0 (0 : Int32) (29 : Int32) h12) fun x20 h18 =>
      Sum.elim (fun x21 => (
        (cko h18 p0 6).bind fun _ =>
        bnd2 (f_X7_figure E p0 (0 : Int32) (29 : Int32) h18) fun x26 h24 =>
        Sum.elim (fun x27 => (
          bnd2 (f_X1_cell E x21 x27 h24) fun x31 h29 =>
          (gR h29 p0 6 2).bind fun x32 =>
          (gR h29 x32 4 2).bind fun x34 =>
          (gR h29 x34 5 0).bind fun x36 =>
          (dI h29 x36 2 x31).bind fun x38 =>
          if x38 = x15 then (
            (gR h29 p0 6 2).bind fun x41 =>
            (cko h29 x41 4).bind fun _ =>
            bnd2 (f_X4_hasOutlet E x41 x31 h29) fun x46 h44 =>
            if x46 = 0 then (
              f_X7_outlet_b89 E p0 x15 x31 p0 (1 : Int32) h44
            ) else (
              f_X7_outlet_b88 E p0 x15 x31 p0 h44
            )
          ) else (
            f_X7_outlet_b88 E p0 x15 x31 p0 h29
          )
        )) (fun q28 => (
          some (.inr q28, h24)
        )) x26
      )) (fun q22 => (
        some (.inr q22, h18)
      )) x20
    )) (fun q16 => (
      some (.inr q16, h12)
    )) x14
  )) (fun q6 => (
    some (.inr q6, h2)
  )) x4
theorem w_X7_outlet_b23 (C0 : zCx p l e R s m args below meth c D B0 4 "FranchiseLedger$Reader" cX7_outlet E 13 326 (Option.none : Option Jvm.ClassFile.FieldType) "outlet") (hno : ∀ x ∈ c.exceptionTable.toList, False) {r : (Unit ⊕ (Nat × Nat))} {h' : zH} {p0 : Nat} {s0 : Nat} {s1 : Int32} {h : zH} (hf : f_X7_outlet_b23 E p0 s0 s1 h = some (r, h')) : zW p l e R s m args below meth c D B0 4 (zEnd D B0 R below args s (zoT zoV r) h') h 23 [(0, .ref p0)] [.int s1, .ref s0] := by
  unfold f_X7_outlet_b23 at hf
  refine zr_iconst C0 (v := 4) dX7_outlet_23 (by decide) ?_
  obtain ⟨_, e1, hf⟩ := zbind hf
  obtain ⟨x4, h2, e3, hf⟩ := zbind2 hf
  rcases x4 with x5 | q6
  · have hf := zinl hf
    refine zr_callV_r C0 cv_X7_116_X7 rfl (zcko e1) (m_X7_require C0.2.2.2.2.2.2.1 e3) (by decide) (by decide) rfl rfl (Nat.le_of_ble_eq_true rfl) dX7_outlet_24 rfl ?_
    refine zr_aload_n C0 dX7_outlet_27 rfl 0 rfl ?_
    obtain ⟨_, e7, hf⟩ := zbind hf
    obtain ⟨x10, h8, e9, hf⟩ := zbind2 hf
    refine zr_callV_r C0 cv_X7_50_X7 rfl (zcko e7) (m_X7_scan C0.2.2.2.2.2.2.1 e9) (by decide) (by decide) rfl rfl (Nat.le_of_ble_eq_true rfl) dX7_outlet_28 rfl ?_
    refine zr_aload_n C0 dX7_outlet_31 rfl 0 rfl ?_
    obtain ⟨_, e11, hf⟩ := zbind hf
    obtain ⟨x14, h12, e13, hf⟩ := zbind2 hf
    rcases x14 with x15 | q16
    · have hf := zinl hf
      refine zr_callV_r C0 cv_X7_216_X7 rfl (zcko e11) (m_X7_named C0.2.2.2.2.2.2.1 e13) (by decide) (by decide) rfl rfl (Nat.le_of_ble_eq_true rfl) dX7_outlet_32 rfl ?_
      refine zr_istore_n (i := 1) (lv' := [(1, .int x15), (0, .ref p0)]) C0 dX7_outlet_35 rfl (by decide) (by first | rfl | simp [zst1, zst2, zcat_rf]) ?_
      refine zr_aload_n C0 dX7_outlet_36 rfl 1 rfl ?_
      refine zr_iconst C0 (v := 0) dX7_outlet_37 (by decide) ?_
      refine zr_bipush C0 (v := 29) dX7_outlet_38 (by decide) ?_
      obtain ⟨_, e17, hf⟩ := zbind hf
      obtain ⟨x20, h18, e19, hf⟩ := zbind2 hf
      rcases x20 with x21 | q22
      · have hf := zinl hf
        refine zr_callV_r C0 cv_X7_164_X7 rfl (zcko e17) (m_X7_number C0.2.2.2.2.2.2.1 e19) (by decide) (by decide) rfl rfl (Nat.le_of_ble_eq_true rfl) dX7_outlet_40 rfl ?_
        refine zr_istore_n (i := 2) (lv' := [(2, .int x21), (1, .int x15), (0, .ref p0)]) C0 dX7_outlet_43 rfl (by decide) (by first | rfl | simp [zst1, zst2, zcat_rf]) ?_
        refine zr_iload_n C0 dX7_outlet_44 rfl 0 rfl ?_
        refine zr_aload_n C0 dX7_outlet_45 rfl 2 rfl ?_
        refine zr_iconst C0 (v := 0) dX7_outlet_46 (by decide) ?_
        refine zr_bipush C0 (v := 29) dX7_outlet_47 (by decide) ?_
        obtain ⟨_, e23, hf⟩ := zbind hf
        obtain ⟨x26, h24, e25, hf⟩ := zbind2 hf
        rcases x26 with x27 | q28
        · have hf := zinl hf
          refine zr_callV_r C0 cv_X7_120_X7 rfl (zcko e23) (m_X7_figure C0.2.2.2.2.2.2.1 e25) (by decide) (by decide) rfl rfl (Nat.le_of_ble_eq_true rfl) dX7_outlet_49 rfl ?_
          obtain ⟨x31, h29, e30, hf⟩ := zbind2 hf
          refine zr_callSN_r C0 cv_X7_228 (m_X1_cell C0.2.2.2.2.2.2.1 e30) (by decide) (by decide) rfl rfl (Nat.le_of_ble_eq_true rfl) dX7_outlet_52 rfl ?_
          refine zr_istore_n (i := 3) (lv' := [(3, .int x31), (2, .int x21), (1, .int x15), (0, .ref p0)]) C0 dX7_outlet_55 rfl (by decide) (by first | rfl | simp [zst1, zst2, zcat_rf]) ?_
          refine zr_aload_n C0 dX7_outlet_56 rfl 3 rfl ?_
          refine zr_aload_n C0 dX7_outlet_57 rfl 3 rfl ?_
          obtain ⟨x32, e33, hf⟩ := zbind hf
          refine zr_get C0 fl_X7_27_X7 dX7_outlet_58 (zgR e33) ?_
          obtain ⟨x34, e35, hf⟩ := zbind hf
          refine zr_get C0 fl_X7_207_X4 dX7_outlet_61 (zgR e35) ?_
          obtain ⟨x36, e37, hf⟩ := zbind hf
          refine zr_get C0 fl_X7_211_X5 dX7_outlet_64 (zgR e37) ?_
          refine zr_iload_n C0 dX7_outlet_67 rfl 0 rfl ?_
          obtain ⟨x38, e39, hf⟩ := zbind hf
          refine zr_bald C0 dX7_outlet_68 e39 ?_
          refine zr_iload_n C0 dX7_outlet_69 rfl 2 rfl ?_
          refine zr_icmp_ne C0 (tgt := 88) dX7_outlet_70 (by decide) (fun c40 => ?_) (fun c40 => ?_)
          · have hf := zif_f c40 hf
            refine zr_sub [3, 2, 0] rfl ?_
            exact w_X7_outlet_b88 C0 hno hf
          · have hf := zif_t c40 hf
            refine zr_aload_n C0 dX7_outlet_73 rfl 3 rfl ?_
            obtain ⟨x41, e42, hf⟩ := zbind hf
            refine zr_get C0 fl_X7_27_X7 dX7_outlet_74 (zgR e42) ?_
            refine zr_iload_n C0 dX7_outlet_77 rfl 0 rfl ?_
            obtain ⟨_, e43, hf⟩ := zbind hf
            obtain ⟨x46, h44, e45, hf⟩ := zbind2 hf
            refine zr_callV_r C0 cv_X7_231_X4 rfl (zcko e43) (m_X4_hasOutlet C0.2.2.2.2.2.2.1 e45) (by decide) (by decide) rfl rfl (Nat.le_of_ble_eq_true rfl) dX7_outlet_78 rfl ?_
            refine zr_if_ne C0 (tgt := 88) dX7_outlet_81 (by decide) (fun c47 => ?_) (fun c47 => ?_)
            · have hf := zif_f c47 hf
              refine zr_sub [3, 2, 0] rfl ?_
              exact w_X7_outlet_b88 C0 hno hf
            · have hf := zif_t c47 hf
              refine zr_iconst C0 (v := 1) dX7_outlet_84 (by decide) ?_
              refine zr_goto C0 (tgt := 89) dX7_outlet_85 (by decide) ?_
              refine zr_sub [3, 2, 0] rfl ?_
              exact w_X7_outlet_b89 C0 hno hf
        · have hf := zinr hf
          refine zretW hf ?_
          exact zr_callV_t C0 cv_X7_120_X7 rfl (zcko e23) (m_X7_figure C0.2.2.2.2.2.2.1 e25) (by decide) (by decide) rfl rfl (Nat.le_of_ble_eq_true rfl) dX7_outlet_49 (zr_out C0 hno rfl)
      · have hf := zinr hf
        refine zretW hf ?_
        exact zr_callV_t C0 cv_X7_164_X7 rfl (zcko e17) (m_X7_number C0.2.2.2.2.2.2.1 e19) (by decide) (by decide) rfl rfl (Nat.le_of_ble_eq_true rfl) dX7_outlet_40 (zr_out C0 hno rfl)
    · have hf := zinr hf
      refine zretW hf ?_
      exact zr_callV_t C0 cv_X7_216_X7 rfl (zcko e11) (m_X7_named C0.2.2.2.2.2.2.1 e13) (by decide) (by decide) rfl rfl (Nat.le_of_ble_eq_true rfl) dX7_outlet_32 (zr_out C0 hno rfl)
  · have hf := zinr hf
    refine zretW hf ?_
    exact zr_callV_t C0 cv_X7_116_X7 rfl (zcko e1) (m_X7_require C0.2.2.2.2.2.2.1 e3) (by decide) (by decide) rfl rfl (Nat.le_of_ble_eq_true rfl) dX7_outlet_24 (zr_out C0 hno rfl)
def f_X7_outlet_b0 (E : zE) (p0 : Nat) (h : zH) : Option ((Unit ⊕ (Nat × Nat)) × zH) :=
  (gR h p0 6 2).bind fun x1 =>
  (gR h x1 4 1).bind fun x3 =>
  (cko h x3 15).bind fun _ =>
  bnd2 (f_J2_size E x3 h) fun x8 h6 =>
  if (16 : Int32) ≤ x8 then (
    f_X7_outlet_b23 E p0 p0 (0 : Int32) h6
  ) else (
    f_X7_outlet_b23 E p0 p0 (1 : Int32) h6
  )
theorem w_X7_outlet_b0 (C0 : zCx p l e R s m args below meth c D B0 4 "FranchiseLedger$Reader" cX7_outlet E 13 326 (Option.none : Option Jvm.ClassFile.FieldType) "outlet") (hno : ∀ x ∈ c.exceptionTable.toList, False) {r : (Unit ⊕ (Nat × Nat))} {h' : zH} {p0 : Nat} {h : zH} (hf : f_X7_outlet_b0 E p0 h = some (r, h')) : zW p l e R s m args below meth c D B0 4 (zEnd D B0 R below args s (zoT zoV r) h') h 0 [(0, .ref p0)] [] := by
  unfold f_X7_outlet_b0 at hf
  refine zr_aload_n C0 dX7_outlet_0 rfl 0 rfl ?_
  refine zr_aload_n C0 dX7_outlet_1 rfl 0 rfl ?_
  obtain ⟨x1, e2, hf⟩ := zbind hf
  refine zr_get C0 fl_X7_27_X7 dX7_outlet_2 (zgR e2) ?_
  obtain ⟨x3, e4, hf⟩ := zbind hf
  refine zr_get C0 fl_X7_225_X4 dX7_outlet_5 (zgR e4) ?_
  obtain ⟨_, e5, hf⟩ := zbind hf
  obtain ⟨x8, h6, e7, hf⟩ := zbind2 hf
  refine zr_callF_r C0 cv_X7_157_J2 rfl (zcko e5) (m_J2_size C0.2.2.2.2.2.2.1 e7) (by decide) (by decide) rfl rfl (Nat.le_of_ble_eq_true rfl) dX7_outlet_8 rfl ?_
  refine zr_bipush C0 (v := 16) dX7_outlet_13 (by decide) ?_
  refine zr_icmp_ge C0 (tgt := 22) dX7_outlet_15 (by decide) (fun c9 => ?_) (fun c9 => ?_)
  · have hf := zif_t c9 hf
    refine zr_iconst C0 (v := 0) dX7_outlet_22 (by decide) ?_
    exact w_X7_outlet_b23 C0 hno hf
  · have hf := zif_f c9 hf
    refine zr_iconst C0 (v := 1) dX7_outlet_18 (by decide) ?_
    refine zr_goto C0 (tgt := 23) dX7_outlet_19 (by decide) ?_
    exact w_X7_outlet_b23 C0 hno hf
def f_X7_outlet (E : zE) (p0 : Nat) (h : zH) : Option ((Unit ⊕ (Nat × Nat)) × zH) := f_X7_outlet_b0 E p0 h
theorem m_X7_outlet {l : Launch} (hst : l.stackTraces = false) {D : zD} {B0 : Nat} {E : zE} {p0 : Nat} {h h' : zH} {r : (Unit ⊕ (Nat × Nat))} (hf : f_X7_outlet E p0 h = some (r, h')) : zMet l yX7_outlet (ws_ yX7_outlet cX7_outlet 4 (Option.none : Option Jvm.ClassFile.FieldType)) 13 326 D B0 E [.ref p0] h (zoT zoV r) h' := by
  unfold f_X7_outlet at hf
  refine zMet_of hst (by decide +kernel) rfl rfl (Nat.le_of_ble_eq_true rfl) (fun p e R s m below meth c C0 hno => ?_)
  show zW _ _ _ _ _ _ _ _ _ _ _ _ _ _ _ _ [(0, .ref p0)] []
  exact w_X7_outlet_b0 C0 hno hf
def f_X7_credit_b0 (E : zE) (p0 : Nat) (h : zH) : Option ((Unit ⊕ (Nat × Nat)) × zH) :=
  (gR h p0 6 1).bind fun x1 =>
  bnd2 (nO h 3 1 [.int 0]) fun q3 h4 =>
  (cko h4 p0 6).bind fun _ =>
  bnd2 (f_X7_number E p0 (0 : Int32) (5000 : Int32) h4) fun x9 h7 =>
  Sum.elim (fun x10 => (
    bnd2 (f_X3_init E q3 x10 h7) fun x14 h12 =>
    (pF h12 x1 2 2 (.ref q3)).bind fun h15 =>
    (gR h15 p0 6 1).bind fun x17 =>
    (cko h15 p0 6).bind fun _ =>
    bnd2 (f_X7_number E p0 (0 : Int32) (9999 : Int32) h15) fun x22 h20 =>
    Sum.elim (fun x23 => (
      (pF h20 x17 2 5 (.long ((100 : Int64) * (x23.toInt64)))).bind fun h25 =>
      some (.inl (), h25)
    )) (fun q24 => (
      some (.inr q24, h20)
    )) x22
  )) (fun q11 => (
    some (.inr q11, h7)
  )) x9
theorem w_X7_credit_b0 (C0 : zCx p l e R s m args below meth c D B0 1 "FranchiseLedger$Reader" cX7_credit E 12 307 (Option.none : Option Jvm.ClassFile.FieldType) "credit") (hno : ∀ x ∈ c.exceptionTable.toList, False) {r : (Unit ⊕ (Nat × Nat))} {h' : zH} {p0 : Nat} {h : zH} (hf : f_X7_credit_b0 E p0 h = some (r, h')) : zW p l e R s m args below meth c D B0 1 (zEnd D B0 R below args s (zoT zoV r) h') h 0 [(0, .ref p0)] [] := by
  unfold f_X7_credit_b0 at hf
  refine zr_aload_n C0 dX7_credit_0 rfl 0 rfl ?_
  obtain ⟨x1, e2, hf⟩ := zbind hf
  refine zr_get C0 fl_X7_18_X7 dX7_credit_1 (zgR e2) ?_
  obtain ⟨q3, h4, e5, hf⟩ := zbind2 hf
  refine zr_newc C0 (C := RX3) (T := TX3) (N := 1) rfl in_X3 tyX3_ok q1730 q539 q151 nw_X3 dX7_credit_4 e5 ?_
  refine zr_dup C0 dX7_credit_7 rfl ?_
  refine zr_aload_n C0 dX7_credit_8 rfl 0 rfl ?_
  refine zr_iconst C0 (v := 0) dX7_credit_9 (by decide) ?_
  refine zr_sipush C0 (v := 5000) dX7_credit_10 (by decide) ?_
  obtain ⟨_, e6, hf⟩ := zbind hf
  obtain ⟨x9, h7, e8, hf⟩ := zbind2 hf
  rcases x9 with x10 | q11
  · have hf := zinl hf
    refine zr_callV_r C0 cv_X7_164_X7 rfl (zcko e6) (m_X7_number C0.2.2.2.2.2.2.1 e8) (by decide) (by decide) rfl rfl (Nat.le_of_ble_eq_true rfl) dX7_credit_13 rfl ?_
    obtain ⟨x14, h12, e13, hf⟩ := zbind2 hf
    refine zr_callIN_r C0 cv_X7_239 (m_X3_init C0.2.2.2.2.2.2.1 e13) (by decide) (by decide) rfl rfl (Nat.le_of_ble_eq_true rfl) dX7_credit_16 rfl ?_
    obtain ⟨h15, e16, hf⟩ := zbind hf
    refine zr_put C0 pl_X7_240_X2 dX7_credit_19 (fun h => by cases h) rfl rfl e16 ?_
    refine zr_aload_n C0 dX7_credit_22 rfl 0 rfl ?_
    obtain ⟨x17, e18, hf⟩ := zbind hf
    refine zr_get C0 fl_X7_18_X7 dX7_credit_23 (zgR e18) ?_
    refine zr_ldc2 C0 (v := 100) q1535 dX7_credit_26 ?_
    refine zr_aload_n C0 dX7_credit_29 rfl 0 rfl ?_
    refine zr_iconst C0 (v := 0) dX7_credit_30 (by decide) ?_
    refine zr_sipush C0 (v := 9999) dX7_credit_31 (by decide) ?_
    obtain ⟨_, e19, hf⟩ := zbind hf
    obtain ⟨x22, h20, e21, hf⟩ := zbind2 hf
    rcases x22 with x23 | q24
    · have hf := zinl hf
      refine zr_callV_r C0 cv_X7_164_X7 rfl (zcko e19) (m_X7_number C0.2.2.2.2.2.2.1 e21) (by decide) (by decide) rfl rfl (Nat.le_of_ble_eq_true rfl) dX7_credit_34 rfl ?_
      refine zr_i2l C0 dX7_credit_37 ?_
      refine zr_lmul C0 dX7_credit_38 ?_
      obtain ⟨h25, e26, hf⟩ := zbind hf
      refine zr_put C0 pl_X7_243_X2 dX7_credit_39 (fun h => by cases h) rfl rfl e26 ?_
      refine zretW hf ?_
      exact zr_vret C0 rfl dX7_credit_42 rfl
    · have hf := zinr hf
      refine zretW hf ?_
      exact zr_callV_t C0 cv_X7_164_X7 rfl (zcko e19) (m_X7_number C0.2.2.2.2.2.2.1 e21) (by decide) (by decide) rfl rfl (Nat.le_of_ble_eq_true rfl) dX7_credit_34 (zr_out C0 hno rfl)
  · have hf := zinr hf
    refine zretW hf ?_
    exact zr_callV_t C0 cv_X7_164_X7 rfl (zcko e6) (m_X7_number C0.2.2.2.2.2.2.1 e8) (by decide) (by decide) rfl rfl (Nat.le_of_ble_eq_true rfl) dX7_credit_13 (zr_out C0 hno rfl)
def f_X7_credit (E : zE) (p0 : Nat) (h : zH) : Option ((Unit ⊕ (Nat × Nat)) × zH) := f_X7_credit_b0 E p0 h
theorem m_X7_credit {l : Launch} (hst : l.stackTraces = false) {D : zD} {B0 : Nat} {E : zE} {p0 : Nat} {h h' : zH} {r : (Unit ⊕ (Nat × Nat))} (hf : f_X7_credit E p0 h = some (r, h')) : zMet l yX7_credit (ws_ yX7_credit cX7_credit 1 (Option.none : Option Jvm.ClassFile.FieldType)) 12 307 D B0 E [.ref p0] h (zoT zoV r) h' := by
  unfold f_X7_credit at hf
  refine zMet_of hst (by decide +kernel) rfl rfl (Nat.le_of_ble_eq_true rfl) (fun p e R s m below meth c C0 hno => ?_)
  show zW _ _ _ _ _ _ _ _ _ _ _ _ _ _ _ _ [(0, .ref p0)] []
  exact w_X7_credit_b0 C0 hno hf
def f_X7_setting_b280 (E : zE) (h : zH) : Option ((Unit ⊕ (Nat × Nat)) × zH) :=
  some (.inl (), h)
theorem w_X7_setting_b280 (C0 : zCx p l e R s m args below meth c D B0 4 "FranchiseLedger$Reader" cX7_setting E 13 327 (Option.none : Option Jvm.ClassFile.FieldType) "setting") (hno : ∀ x ∈ c.exceptionTable.toList, False) {r : (Unit ⊕ (Nat × Nat))} {h' : zH} {h : zH} (hf : f_X7_setting_b280 E  h = some (r, h')) : zW p l e R s m args below meth c D B0 4 (zEnd D B0 R below args s (zoT zoV r) h') h 280 [] [] := by
  unfold f_X7_setting_b280 at hf
  refine zretW hf ?_
  exact zr_vret C0 rfl dX7_setting_280 rfl
def f_X7_setting_b131 (E : zE) (p0 : Nat) (p3 : Int32) (h : zH) : Option ((Unit ⊕ (Nat × Nat)) × zH) :=
  if p3 = 0 then (
    (cko h p0 6).bind fun _ =>
    bnd2 (f_X7_credit E p0 h) fun x5 h3 =>
    Sum.elim (fun x6 => (
      f_X7_setting_b280 E  h3
    )) (fun q7 => (
      some (.inr q7, h3)
    )) x5
  ) else (
  if p3 = 1 then (
    (gR h p0 6 1).bind fun x9 =>
    bnd2 (nO h 3 1 [.int 0]) fun q11 h12 =>
    (cko h12 p0 6).bind fun _ =>
    bnd2 (f_X7_number E p0 (0 : Int32) (500 : Int32) h12) fun x17 h15 =>
    Sum.elim (fun x18 => (
      bnd2 (f_X3_init E q11 x18 h15) fun x22 h20 =>
      (pF h20 x9 2 3 (.ref q11)).bind fun h23 =>
      f_X7_setting_b280 E  h23
    )) (fun q19 => (
      some (.inr q19, h15)
    )) x17
  ) else (
  if p3 = 2 then (
    (gR h p0 6 1).bind fun x26 =>
    bnd2 (nO h 3 1 [.int 0]) fun q28 h29 =>
    (cko h29 p0 6).bind fun _ =>
    bnd2 (f_X7_number E p0 (0 : Int32) (2000 : Int32) h29) fun x34 h32 =>
    Sum.elim (fun x35 => (
      bnd2 (f_X3_init E q28 x35 h32) fun x39 h37 =>
      (pF h37 x26 2 4 (.ref q28)).bind fun h40 =>
      f_X7_setting_b280 E  h40
    )) (fun q36 => (
      some (.inr q36, h32)
    )) x34
  ) else (
  if p3 = 3 then (
    (gR h p0 6 1).bind fun x43 =>
    (cko h p0 6).bind fun _ =>
    bnd2 (f_X7_number E p0 (0 : Int32) (9999 : Int32) h) fun x48 h46 =>
    Sum.elim (fun x49 => (
      (pF h46 x43 2 6 (.long ((100 : Int64) * (x49.toInt64)))).bind fun h51 =>
      f_X7_setting_b280 E  h51
    )) (fun q50 => (
      some (.inr q50, h46)
    )) x48
  ) else (
  if p3 = 4 then (
    (gR h p0 6 1).bind fun x54 =>
    (cko h p0 6).bind fun _ =>
    bnd2 (f_X7_number E p0 (0 : Int32) (12 : Int32) h) fun x59 h57 =>
    Sum.elim (fun x60 => (
      (pF h57 x54 2 7 (.int x60)).bind fun h62 =>
      f_X7_setting_b280 E  h62
    )) (fun q61 => (
      some (.inr q61, h57)
    )) x59
  ) else (
    (gR h p0 6 1).bind fun x64 =>
    (cko h p0 6).bind fun _ =>
    bnd2 (f_X7_number E p0 (0 : Int32) (999 : Int32) h) fun x69 h67 =>
    Sum.elim (fun x70 => (
      (pF h67 x64 2 8 (.int x70)).bind fun h72 =>
      f_X7_setting_b280 E  h72
    )) (fun q71 => (
      some (.inr q71, h67)
    )) x69
  )))))
theorem w_X7_setting_b131 (C0 : zCx p l e R s m args below meth c D B0 4 "FranchiseLedger$Reader" cX7_setting E 13 327 (Option.none : Option Jvm.ClassFile.FieldType) "setting") (hno : ∀ x ∈ c.exceptionTable.toList, False) {r : (Unit ⊕ (Nat × Nat))} {h' : zH} {p0 : Nat} {p3 : Int32} {h : zH} (hf : f_X7_setting_b131 E p0 p3 h = some (r, h')) : zW p l e R s m args below meth c D B0 4 (zEnd D B0 R below args s (zoT zoV r) h') h 131 [(0, .ref p0), (3, .int p3)] [] := by
  unfold f_X7_setting_b131 at hf
  refine zr_iload_n C0 dX7_setting_131 rfl 1 rfl ?_
  rcases Decidable.em (p3 = 0) with c1 | c1
  · have hf := zif_t c1 hf
    refine zr_tableIn C0 (v := 0) (tgt := 168) dX7_setting_132 c1 (by decide) (by decide) rfl (by decide) ?_
    refine zr_aload_n C0 dX7_setting_168 rfl 0 rfl ?_
    obtain ⟨_, e2, hf⟩ := zbind hf
    obtain ⟨x5, h3, e4, hf⟩ := zbind2 hf
    rcases x5 with x6 | q7
    · have hf := zinl hf
      refine zr_callV_r C0 cv_X7_247_X7 rfl (zcko e2) (m_X7_credit C0.2.2.2.2.2.2.1 e4) (by decide) (by decide) rfl rfl (Nat.le_of_ble_eq_true rfl) dX7_setting_169 rfl ?_
      refine zr_goto C0 (tgt := 280) dX7_setting_172 (by decide) ?_
      refine zr_sub [] rfl ?_
      exact w_X7_setting_b280 C0 hno hf
    · have hf := zinr hf
      refine zretW hf ?_
      exact zr_callV_t C0 cv_X7_247_X7 rfl (zcko e2) (m_X7_credit C0.2.2.2.2.2.2.1 e4) (by decide) (by decide) rfl rfl (Nat.le_of_ble_eq_true rfl) dX7_setting_169 (zr_out C0 hno rfl)
  have hf := zif_f c1 hf
  rcases Decidable.em (p3 = 1) with c8 | c8
  · have hf := zif_t c8 hf
    refine zr_tableIn C0 (v := 1) (tgt := 175) dX7_setting_132 c8 (by decide) (by decide) rfl (by decide) ?_
    refine zr_aload_n C0 dX7_setting_175 rfl 0 rfl ?_
    obtain ⟨x9, e10, hf⟩ := zbind hf
    refine zr_get C0 fl_X7_18_X7 dX7_setting_176 (zgR e10) ?_
    obtain ⟨q11, h12, e13, hf⟩ := zbind2 hf
    refine zr_newc C0 (C := RX3) (T := TX3) (N := 1) rfl in_X3 tyX3_ok q1730 q539 q151 nw_X3 dX7_setting_179 e13 ?_
    refine zr_dup C0 dX7_setting_182 rfl ?_
    refine zr_aload_n C0 dX7_setting_183 rfl 0 rfl ?_
    refine zr_iconst C0 (v := 0) dX7_setting_184 (by decide) ?_
    refine zr_sipush C0 (v := 500) dX7_setting_185 (by decide) ?_
    obtain ⟨_, e14, hf⟩ := zbind hf
    obtain ⟨x17, h15, e16, hf⟩ := zbind2 hf
    rcases x17 with x18 | q19
    · have hf := zinl hf
      refine zr_callV_r C0 cv_X7_164_X7 rfl (zcko e14) (m_X7_number C0.2.2.2.2.2.2.1 e16) (by decide) (by decide) rfl rfl (Nat.le_of_ble_eq_true rfl) dX7_setting_188 rfl ?_
      obtain ⟨x22, h20, e21, hf⟩ := zbind2 hf
      refine zr_callIN_r C0 cv_X7_239 (m_X3_init C0.2.2.2.2.2.2.1 e21) (by decide) (by decide) rfl rfl (Nat.le_of_ble_eq_true rfl) dX7_setting_191 rfl ?_
      obtain ⟨h23, e24, hf⟩ := zbind hf
      refine zr_put C0 pl_X7_249_X2 dX7_setting_194 (fun h => by cases h) rfl rfl e24 ?_
      refine zr_goto C0 (tgt := 280) dX7_setting_197 (by decide) ?_
      refine zr_sub [] rfl ?_
      exact w_X7_setting_b280 C0 hno hf
    · have hf := zinr hf
      refine zretW hf ?_
      exact zr_callV_t C0 cv_X7_164_X7 rfl (zcko e14) (m_X7_number C0.2.2.2.2.2.2.1 e16) (by decide) (by decide) rfl rfl (Nat.le_of_ble_eq_true rfl) dX7_setting_188 (zr_out C0 hno rfl)
  have hf := zif_f c8 hf
  rcases Decidable.em (p3 = 2) with c25 | c25
  · have hf := zif_t c25 hf
    refine zr_tableIn C0 (v := 2) (tgt := 200) dX7_setting_132 c25 (by decide) (by decide) rfl (by decide) ?_
    refine zr_aload_n C0 dX7_setting_200 rfl 0 rfl ?_
    obtain ⟨x26, e27, hf⟩ := zbind hf
    refine zr_get C0 fl_X7_18_X7 dX7_setting_201 (zgR e27) ?_
    obtain ⟨q28, h29, e30, hf⟩ := zbind2 hf
    refine zr_newc C0 (C := RX3) (T := TX3) (N := 1) rfl in_X3 tyX3_ok q1730 q539 q151 nw_X3 dX7_setting_204 e30 ?_
    refine zr_dup C0 dX7_setting_207 rfl ?_
    refine zr_aload_n C0 dX7_setting_208 rfl 0 rfl ?_
    refine zr_iconst C0 (v := 0) dX7_setting_209 (by decide) ?_
    refine zr_sipush C0 (v := 2000) dX7_setting_210 (by decide) ?_
    obtain ⟨_, e31, hf⟩ := zbind hf
    obtain ⟨x34, h32, e33, hf⟩ := zbind2 hf
    rcases x34 with x35 | q36
    · have hf := zinl hf
      refine zr_callV_r C0 cv_X7_164_X7 rfl (zcko e31) (m_X7_number C0.2.2.2.2.2.2.1 e33) (by decide) (by decide) rfl rfl (Nat.le_of_ble_eq_true rfl) dX7_setting_213 rfl ?_
      obtain ⟨x39, h37, e38, hf⟩ := zbind2 hf
      refine zr_callIN_r C0 cv_X7_239 (m_X3_init C0.2.2.2.2.2.2.1 e38) (by decide) (by decide) rfl rfl (Nat.le_of_ble_eq_true rfl) dX7_setting_216 rfl ?_
      obtain ⟨h40, e41, hf⟩ := zbind hf
      refine zr_put C0 pl_X7_251_X2 dX7_setting_219 (fun h => by cases h) rfl rfl e41 ?_
      refine zr_goto C0 (tgt := 280) dX7_setting_222 (by decide) ?_
      refine zr_sub [] rfl ?_
      exact w_X7_setting_b280 C0 hno hf
    · have hf := zinr hf
      refine zretW hf ?_
      exact zr_callV_t C0 cv_X7_164_X7 rfl (zcko e31) (m_X7_number C0.2.2.2.2.2.2.1 e33) (by decide) (by decide) rfl rfl (Nat.le_of_ble_eq_true rfl) dX7_setting_213 (zr_out C0 hno rfl)
  have hf := zif_f c25 hf
  rcases Decidable.em (p3 = 3) with c42 | c42
  · have hf := zif_t c42 hf
    refine zr_tableIn C0 (v := 3) (tgt := 225) dX7_setting_132 c42 (by decide) (by decide) rfl (by decide) ?_
    refine zr_aload_n C0 dX7_setting_225 rfl 0 rfl ?_
    obtain ⟨x43, e44, hf⟩ := zbind hf
    refine zr_get C0 fl_X7_18_X7 dX7_setting_226 (zgR e44) ?_
    refine zr_ldc2 C0 (v := 100) q1535 dX7_setting_229 ?_
    refine zr_aload_n C0 dX7_setting_232 rfl 0 rfl ?_
    refine zr_iconst C0 (v := 0) dX7_setting_233 (by decide) ?_
    refine zr_sipush C0 (v := 9999) dX7_setting_234 (by decide) ?_
    obtain ⟨_, e45, hf⟩ := zbind hf
    obtain ⟨x48, h46, e47, hf⟩ := zbind2 hf
    rcases x48 with x49 | q50
    · have hf := zinl hf
      refine zr_callV_r C0 cv_X7_164_X7 rfl (zcko e45) (m_X7_number C0.2.2.2.2.2.2.1 e47) (by decide) (by decide) rfl rfl (Nat.le_of_ble_eq_true rfl) dX7_setting_237 rfl ?_
      refine zr_i2l C0 dX7_setting_240 ?_
      refine zr_lmul C0 dX7_setting_241 ?_
      obtain ⟨h51, e52, hf⟩ := zbind hf
      refine zr_put C0 pl_X7_253_X2 dX7_setting_242 (fun h => by cases h) rfl rfl e52 ?_
      refine zr_goto C0 (tgt := 280) dX7_setting_245 (by decide) ?_
      refine zr_sub [] rfl ?_
      exact w_X7_setting_b280 C0 hno hf
    · have hf := zinr hf
      refine zretW hf ?_
      exact zr_callV_t C0 cv_X7_164_X7 rfl (zcko e45) (m_X7_number C0.2.2.2.2.2.2.1 e47) (by decide) (by decide) rfl rfl (Nat.le_of_ble_eq_true rfl) dX7_setting_237 (zr_out C0 hno rfl)
  have hf := zif_f c42 hf
  rcases Decidable.em (p3 = 4) with c53 | c53
  · have hf := zif_t c53 hf
    refine zr_tableIn C0 (v := 4) (tgt := 248) dX7_setting_132 c53 (by decide) (by decide) rfl (by decide) ?_
    refine zr_aload_n C0 dX7_setting_248 rfl 0 rfl ?_
    obtain ⟨x54, e55, hf⟩ := zbind hf
    refine zr_get C0 fl_X7_18_X7 dX7_setting_249 (zgR e55) ?_
    refine zr_aload_n C0 dX7_setting_252 rfl 0 rfl ?_
    refine zr_iconst C0 (v := 0) dX7_setting_253 (by decide) ?_
    refine zr_bipush C0 (v := 12) dX7_setting_254 (by decide) ?_
    obtain ⟨_, e56, hf⟩ := zbind hf
    obtain ⟨x59, h57, e58, hf⟩ := zbind2 hf
    rcases x59 with x60 | q61
    · have hf := zinl hf
      refine zr_callV_r C0 cv_X7_164_X7 rfl (zcko e56) (m_X7_number C0.2.2.2.2.2.2.1 e58) (by decide) (by decide) rfl rfl (Nat.le_of_ble_eq_true rfl) dX7_setting_256 rfl ?_
      obtain ⟨h62, e63, hf⟩ := zbind hf
      refine zr_put C0 pl_X7_255_X2 dX7_setting_259 (fun h => by cases h) rfl rfl e63 ?_
      refine zr_goto C0 (tgt := 280) dX7_setting_262 (by decide) ?_
      refine zr_sub [] rfl ?_
      exact w_X7_setting_b280 C0 hno hf
    · have hf := zinr hf
      refine zretW hf ?_
      exact zr_callV_t C0 cv_X7_164_X7 rfl (zcko e56) (m_X7_number C0.2.2.2.2.2.2.1 e58) (by decide) (by decide) rfl rfl (Nat.le_of_ble_eq_true rfl) dX7_setting_256 (zr_out C0 hno rfl)
  have hf := zif_f c53 hf
  refine zr_tableOut C0 (tgt := 265) dX7_setting_132 ?_ (by decide) ?_
  · have n0 := lv_neT (a := 0) c1 rfl; have n1 := lv_neT (a := 1) c8 rfl; have n2 := lv_neT (a := 2) c25 rfl; have n3 := lv_neT (a := 3) c42 rfl; have n4 := lv_neT (a := 4) c53 rfl; omega
  refine zr_aload_n C0 dX7_setting_265 rfl 0 rfl ?_
  obtain ⟨x64, e65, hf⟩ := zbind hf
  refine zr_get C0 fl_X7_18_X7 dX7_setting_266 (zgR e65) ?_
  refine zr_aload_n C0 dX7_setting_269 rfl 0 rfl ?_
  refine zr_iconst C0 (v := 0) dX7_setting_270 (by decide) ?_
  refine zr_sipush C0 (v := 999) dX7_setting_271 (by decide) ?_
  obtain ⟨_, e66, hf⟩ := zbind hf
  obtain ⟨x69, h67, e68, hf⟩ := zbind2 hf
  rcases x69 with x70 | q71
  · have hf := zinl hf
    refine zr_callV_r C0 cv_X7_164_X7 rfl (zcko e66) (m_X7_number C0.2.2.2.2.2.2.1 e68) (by decide) (by decide) rfl rfl (Nat.le_of_ble_eq_true rfl) dX7_setting_274 rfl ?_
    obtain ⟨h72, e73, hf⟩ := zbind hf
    refine zr_put C0 pl_X7_257_X2 dX7_setting_277 (fun h => by cases h) rfl rfl e73 ?_
    refine zr_sub [] rfl ?_
    exact w_X7_setting_b280 C0 hno hf
  · have hf := zinr hf
    refine zretW hf ?_
    exact zr_callV_t C0 cv_X7_164_X7 rfl (zcko e66) (m_X7_number C0.2.2.2.2.2.2.1 e68) (by decide) (by decide) rfl rfl (Nat.le_of_ble_eq_true rfl) dX7_setting_274 (zr_out C0 hno rfl)
def f_X7_setting_b0 (E : zE) (p0 : Nat) (p1 : Nat) (h : zH) : Option ((Unit ⊕ (Nat × Nat)) × zH) :=
  (cko h p0 6).bind fun _ =>
  bnd2 (f_X7_scan E p0 h) fun x4 h2 =>
  (cko h2 p1 19).bind fun _ =>
  bnd2 (f_J9_hashCode E p1 h2) fun x8 h6 =>
  if x8 = -1352291591 then (
    (cko h6 p1 19).bind fun _ =>
    bnd2 (f_J9_equals_J9 E p1 (E.2.1 19) h6) fun x13 h11 =>
    if x13 = 0 then (
      f_X7_setting_b131 E p0 (-1 : Int32) h11
    ) else (
      f_X7_setting_b131 E p0 (0 : Int32) h11
    )
  ) else (
  if x8 = 101254 then (
    (cko h6 p1 19).bind fun _ =>
    bnd2 (f_J9_equals_J9 E p1 (E.2.1 22) h6) fun x19 h17 =>
    if x19 = 0 then (
      f_X7_setting_b131 E p0 (-1 : Int32) h17
    ) else (
      f_X7_setting_b131 E p0 (3 : Int32) h17
    )
  ) else (
  if x8 = 92668751 then (
    (cko h6 p1 19).bind fun _ =>
    bnd2 (f_J9_equals_J9 E p1 (E.2.1 21) h6) fun x25 h23 =>
    if x25 = 0 then (
      f_X7_setting_b131 E p0 (-1 : Int32) h23
    ) else (
      f_X7_setting_b131 E p0 (2 : Int32) h23
    )
  ) else (
  if x8 = 95467907 then (
    (cko h6 p1 19).bind fun _ =>
    bnd2 (f_J9_equals_J9 E p1 (E.2.1 23) h6) fun x31 h29 =>
    if x31 = 0 then (
      f_X7_setting_b131 E p0 (-1 : Int32) h29
    ) else (
      f_X7_setting_b131 E p0 (4 : Int32) h29
    )
  ) else (
  if x8 = 570402602 then (
    (cko h6 p1 19).bind fun _ =>
    bnd2 (f_J9_equals_J9 E p1 (E.2.1 20) h6) fun x37 h35 =>
    if x37 = 0 then (
      f_X7_setting_b131 E p0 (-1 : Int32) h35
    ) else (
      f_X7_setting_b131 E p0 (1 : Int32) h35
    )
  ) else (
    f_X7_setting_b131 E p0 (-1 : Int32) h6
  )))))
theorem w_X7_setting_b0 (C0 : zCx p l e R s m args below meth c D B0 4 "FranchiseLedger$Reader" cX7_setting E 13 327 (Option.none : Option Jvm.ClassFile.FieldType) "setting") (hno : ∀ x ∈ c.exceptionTable.toList, False) {r : (Unit ⊕ (Nat × Nat))} {h' : zH} {p0 : Nat} {p1 : Nat} {h : zH} (hf : f_X7_setting_b0 E p0 p1 h = some (r, h')) : zW p l e R s m args below meth c D B0 4 (zEnd D B0 R below args s (zoT zoV r) h') h 0 [(0, .ref p0), (1, .ref p1)] [] := by
  unfold f_X7_setting_b0 at hf
  refine zr_aload_n C0 dX7_setting_0 rfl 0 rfl ?_
  obtain ⟨_, e1, hf⟩ := zbind hf
  obtain ⟨x4, h2, e3, hf⟩ := zbind2 hf
  refine zr_callV_r C0 cv_X7_50_X7 rfl (zcko e1) (m_X7_scan C0.2.2.2.2.2.2.1 e3) (by decide) (by decide) rfl rfl (Nat.le_of_ble_eq_true rfl) dX7_setting_1 rfl ?_
  refine zr_aload_n C0 dX7_setting_4 rfl 1 rfl ?_
  refine zr_astore_n (i := 2) (lv' := [(2, .ref p1), (0, .ref p0), (1, .ref p1)]) C0 dX7_setting_5 rfl (by decide) (by first | rfl | simp [zst1, zst2, zcat_rf]) ?_
  refine zr_iconst C0 (v := -1) dX7_setting_6 (by decide) ?_
  refine zr_istore_n (i := 3) (lv' := [(3, .int (-1 : Int32)), (2, .ref p1), (0, .ref p0), (1, .ref p1)]) C0 dX7_setting_7 rfl (by decide) (by first | rfl | simp [zst1, zst2, zcat_rf]) ?_
  refine zr_aload_n C0 dX7_setting_8 rfl 1 rfl ?_
  obtain ⟨_, e5, hf⟩ := zbind hf
  obtain ⟨x8, h6, e7, hf⟩ := zbind2 hf
  refine zr_callV_r C0 cv_X7_124_J9 rfl (zcko e5) (m_J9_hashCode C0.2.2.2.2.2.2.1 e7) (by decide) (by decide) rfl rfl (Nat.le_of_ble_eq_true rfl) dX7_setting_9 rfl ?_
  rcases Decidable.em (x8 = -1352291591) with c9 | c9
  · have hf := zif_t c9 hf
    refine zr_lookup C0 (tgt := 64) (off := 52) dX7_setting_12 (by decide) (by rw [c9]; decide) (by decide) ?_
    refine zr_aload_n C0 dX7_setting_64 rfl 1 rfl ?_
    refine zr_ldcS C0 (i := 19) rfl dX7_setting_65 ?_
    obtain ⟨_, e10, hf⟩ := zbind hf
    obtain ⟨x13, h11, e12, hf⟩ := zbind2 hf
    refine zr_callV_r C0 cv_X7_131_J9 rfl (zcko e10) (m_J9_equals_J9 C0.2.2.2.2.2.2.1 e12) (by decide) (by decide) rfl rfl (Nat.le_of_ble_eq_true rfl) dX7_setting_67 rfl ?_
    refine zr_if_eq C0 (tgt := 131) dX7_setting_70 (by decide) (fun c14 => ?_) (fun c14 => ?_)
    · have hf := zif_t c14 hf
      refine zr_sub [2, 0] rfl ?_
      exact w_X7_setting_b131 C0 hno hf
    · have hf := zif_f c14 hf
      refine zr_iconst C0 (v := 0) dX7_setting_73 (by decide) ?_
      refine zr_istore_n (i := 3) (lv' := [(3, .int (0 : Int32)), (2, .ref p1), (0, .ref p0), (1, .ref p1)]) C0 dX7_setting_74 rfl (by decide) (by first | rfl | simp [zst1, zst2, zcat_rf]) ?_
      refine zr_goto C0 (tgt := 131) dX7_setting_75 (by decide) ?_
      refine zr_sub [2, 0] rfl ?_
      exact w_X7_setting_b131 C0 hno hf
  have hf := zif_f c9 hf
  rcases Decidable.em (x8 = 101254) with c15 | c15
  · have hf := zif_t c15 hf
    refine zr_lookup C0 (tgt := 106) (off := 94) dX7_setting_12 (by decide) (by rw [c15]; decide) (by decide) ?_
    refine zr_aload_n C0 dX7_setting_106 rfl 1 rfl ?_
    refine zr_ldcS C0 (i := 22) rfl dX7_setting_107 ?_
    obtain ⟨_, e16, hf⟩ := zbind hf
    obtain ⟨x19, h17, e18, hf⟩ := zbind2 hf
    refine zr_callV_r C0 cv_X7_131_J9 rfl (zcko e16) (m_J9_equals_J9 C0.2.2.2.2.2.2.1 e18) (by decide) (by decide) rfl rfl (Nat.le_of_ble_eq_true rfl) dX7_setting_109 rfl ?_
    refine zr_if_eq C0 (tgt := 131) dX7_setting_112 (by decide) (fun c20 => ?_) (fun c20 => ?_)
    · have hf := zif_t c20 hf
      refine zr_sub [2, 0] rfl ?_
      exact w_X7_setting_b131 C0 hno hf
    · have hf := zif_f c20 hf
      refine zr_iconst C0 (v := 3) dX7_setting_115 (by decide) ?_
      refine zr_istore_n (i := 3) (lv' := [(3, .int (3 : Int32)), (2, .ref p1), (0, .ref p0), (1, .ref p1)]) C0 dX7_setting_116 rfl (by decide) (by first | rfl | simp [zst1, zst2, zcat_rf]) ?_
      refine zr_goto C0 (tgt := 131) dX7_setting_117 (by decide) ?_
      refine zr_sub [2, 0] rfl ?_
      exact w_X7_setting_b131 C0 hno hf
  have hf := zif_f c15 hf
  rcases Decidable.em (x8 = 92668751) with c21 | c21
  · have hf := zif_t c21 hf
    refine zr_lookup C0 (tgt := 92) (off := 80) dX7_setting_12 (by decide) (by rw [c21]; decide) (by decide) ?_
    refine zr_aload_n C0 dX7_setting_92 rfl 1 rfl ?_
    refine zr_ldcS C0 (i := 21) rfl dX7_setting_93 ?_
    obtain ⟨_, e22, hf⟩ := zbind hf
    obtain ⟨x25, h23, e24, hf⟩ := zbind2 hf
    refine zr_callV_r C0 cv_X7_131_J9 rfl (zcko e22) (m_J9_equals_J9 C0.2.2.2.2.2.2.1 e24) (by decide) (by decide) rfl rfl (Nat.le_of_ble_eq_true rfl) dX7_setting_95 rfl ?_
    refine zr_if_eq C0 (tgt := 131) dX7_setting_98 (by decide) (fun c26 => ?_) (fun c26 => ?_)
    · have hf := zif_t c26 hf
      refine zr_sub [2, 0] rfl ?_
      exact w_X7_setting_b131 C0 hno hf
    · have hf := zif_f c26 hf
      refine zr_iconst C0 (v := 2) dX7_setting_101 (by decide) ?_
      refine zr_istore_n (i := 3) (lv' := [(3, .int (2 : Int32)), (2, .ref p1), (0, .ref p0), (1, .ref p1)]) C0 dX7_setting_102 rfl (by decide) (by first | rfl | simp [zst1, zst2, zcat_rf]) ?_
      refine zr_goto C0 (tgt := 131) dX7_setting_103 (by decide) ?_
      refine zr_sub [2, 0] rfl ?_
      exact w_X7_setting_b131 C0 hno hf
  have hf := zif_f c21 hf
  rcases Decidable.em (x8 = 95467907) with c27 | c27
  · have hf := zif_t c27 hf
    refine zr_lookup C0 (tgt := 120) (off := 108) dX7_setting_12 (by decide) (by rw [c27]; decide) (by decide) ?_
    refine zr_aload_n C0 dX7_setting_120 rfl 1 rfl ?_
    refine zr_ldcS C0 (i := 23) rfl dX7_setting_121 ?_
    obtain ⟨_, e28, hf⟩ := zbind hf
    obtain ⟨x31, h29, e30, hf⟩ := zbind2 hf
    refine zr_callV_r C0 cv_X7_131_J9 rfl (zcko e28) (m_J9_equals_J9 C0.2.2.2.2.2.2.1 e30) (by decide) (by decide) rfl rfl (Nat.le_of_ble_eq_true rfl) dX7_setting_123 rfl ?_
    refine zr_if_eq C0 (tgt := 131) dX7_setting_126 (by decide) (fun c32 => ?_) (fun c32 => ?_)
    · have hf := zif_t c32 hf
      refine zr_sub [2, 0] rfl ?_
      exact w_X7_setting_b131 C0 hno hf
    · have hf := zif_f c32 hf
      refine zr_iconst C0 (v := 4) dX7_setting_129 (by decide) ?_
      refine zr_istore_n (i := 3) (lv' := [(3, .int (4 : Int32)), (2, .ref p1), (0, .ref p0), (1, .ref p1)]) C0 dX7_setting_130 rfl (by decide) (by first | rfl | simp [zst1, zst2, zcat_rf]) ?_
      refine zr_sub [2, 0] rfl ?_
      exact w_X7_setting_b131 C0 hno hf
  have hf := zif_f c27 hf
  rcases Decidable.em (x8 = 570402602) with c33 | c33
  · have hf := zif_t c33 hf
    refine zr_lookup C0 (tgt := 78) (off := 66) dX7_setting_12 (by decide) (by rw [c33]; decide) (by decide) ?_
    refine zr_aload_n C0 dX7_setting_78 rfl 1 rfl ?_
    refine zr_ldcS C0 (i := 20) rfl dX7_setting_79 ?_
    obtain ⟨_, e34, hf⟩ := zbind hf
    obtain ⟨x37, h35, e36, hf⟩ := zbind2 hf
    refine zr_callV_r C0 cv_X7_131_J9 rfl (zcko e34) (m_J9_equals_J9 C0.2.2.2.2.2.2.1 e36) (by decide) (by decide) rfl rfl (Nat.le_of_ble_eq_true rfl) dX7_setting_81 rfl ?_
    refine zr_if_eq C0 (tgt := 131) dX7_setting_84 (by decide) (fun c38 => ?_) (fun c38 => ?_)
    · have hf := zif_t c38 hf
      refine zr_sub [2, 0] rfl ?_
      exact w_X7_setting_b131 C0 hno hf
    · have hf := zif_f c38 hf
      refine zr_iconst C0 (v := 1) dX7_setting_87 (by decide) ?_
      refine zr_istore_n (i := 3) (lv' := [(3, .int (1 : Int32)), (2, .ref p1), (0, .ref p0), (1, .ref p1)]) C0 dX7_setting_88 rfl (by decide) (by first | rfl | simp [zst1, zst2, zcat_rf]) ?_
      refine zr_goto C0 (tgt := 131) dX7_setting_89 (by decide) ?_
      refine zr_sub [2, 0] rfl ?_
      exact w_X7_setting_b131 C0 hno hf
  have hf := zif_f c33 hf
  refine zr_lookup C0 (tgt := 131) (off := 119) dX7_setting_12 (by decide) (by show Op.lookupswitch.offset [(-1352291591, 52), (101254, 94), (92668751, 80), (95467907, 108), (570402602, 66)] _ _ = _; rw [lv_osw c9 (by decide), lv_osw c15 (by decide), lv_osw c21 (by decide), lv_osw c27 (by decide), lv_osw c33 (by decide)]; rfl) (by decide) ?_
  refine zr_sub [2, 0] rfl ?_
  exact w_X7_setting_b131 C0 hno hf
def f_X7_setting (E : zE) (p0 : Nat) (p1 : Nat) (h : zH) : Option ((Unit ⊕ (Nat × Nat)) × zH) := f_X7_setting_b0 E p0 p1 h
theorem m_X7_setting {l : Launch} (hst : l.stackTraces = false) {D : zD} {B0 : Nat} {E : zE} {p0 : Nat} {p1 : Nat} {h h' : zH} {r : (Unit ⊕ (Nat × Nat))} (hf : f_X7_setting E p0 p1 h = some (r, h')) : zMet l yX7_setting (ws_ yX7_setting cX7_setting 4 (Option.none : Option Jvm.ClassFile.FieldType)) 13 327 D B0 E [.ref p0, .ref p1] h (zoT zoV r) h' := by
  unfold f_X7_setting at hf
  refine zMet_of hst (by decide +kernel) rfl rfl (Nat.le_of_ble_eq_true rfl) (fun p e R s m below meth c C0 hno => ?_)
  show zW _ _ _ _ _ _ _ _ _ _ _ _ _ _ _ _ [(0, .ref p0), (1, .ref p1)] []
  exact w_X7_setting_b0 C0 hno hf
def f_X7_statement_b214 (E : zE) (p0 : Nat) (s0 : Nat) (s1 : Int32) (h : zH) : Option ((Unit ⊕ (Nat × Nat)) × zH) :=
  (cko h s0 6).bind fun _ =>
  bnd2 (f_X7_require E s0 s1 (1 : Int32) h) fun x4 h2 =>
  Sum.elim (fun x5 => (
    (cko h2 p0 6).bind fun _ =>
    bnd2 (f_X7_scan E p0 h2) fun x10 h8 =>
    (gR h8 p0 6 1).bind fun x11 =>
    (gI h8 x11 2 9).bind fun x13 =>
    (pF h8 x11 2 9 (.int (x13 + (1 : Int32)))).bind fun h15 =>
    some (.inl (), h15)
  )) (fun q6 => (
    some (.inr q6, h2)
  )) x4
theorem w_X7_statement_b214 (C0 : zCx p l e R s m args below meth c D B0 3 "FranchiseLedger$Reader" cX7_statement E 14 352 (Option.none : Option Jvm.ClassFile.FieldType) "statement") (hno : ∀ x ∈ c.exceptionTable.toList, False) {r : (Unit ⊕ (Nat × Nat))} {h' : zH} {p0 : Nat} {s0 : Nat} {s1 : Int32} {h : zH} (hf : f_X7_statement_b214 E p0 s0 s1 h = some (r, h')) : zW p l e R s m args below meth c D B0 3 (zEnd D B0 R below args s (zoT zoV r) h') h 214 [(0, .ref p0)] [.int s1, .ref s0] := by
  unfold f_X7_statement_b214 at hf
  refine zr_iconst C0 (v := 1) dX7_statement_214 (by decide) ?_
  obtain ⟨_, e1, hf⟩ := zbind hf
  obtain ⟨x4, h2, e3, hf⟩ := zbind2 hf
  rcases x4 with x5 | q6
  · have hf := zinl hf
    refine zr_callV_r C0 cv_X7_116_X7 rfl (zcko e1) (m_X7_require C0.2.2.2.2.2.2.1 e3) (by decide) (by decide) rfl rfl (Nat.le_of_ble_eq_true rfl) dX7_statement_215 rfl ?_
    refine zr_aload_n C0 dX7_statement_218 rfl 0 rfl ?_
    obtain ⟨_, e7, hf⟩ := zbind hf
    obtain ⟨x10, h8, e9, hf⟩ := zbind2 hf
    refine zr_callV_r C0 cv_X7_50_X7 rfl (zcko e7) (m_X7_scan C0.2.2.2.2.2.2.1 e9) (by decide) (by decide) rfl rfl (Nat.le_of_ble_eq_true rfl) dX7_statement_219 rfl ?_
    refine zr_aload_n C0 dX7_statement_222 rfl 0 rfl ?_
    obtain ⟨x11, e12, hf⟩ := zbind hf
    refine zr_get C0 fl_X7_18_X7 dX7_statement_223 (zgR e12) ?_
    refine zr_dup C0 dX7_statement_226 rfl ?_
    obtain ⟨x13, e14, hf⟩ := zbind hf
    refine zr_get C0 fl_X7_272_X2 dX7_statement_227 (zgI e14) ?_
    refine zr_iconst C0 (v := 1) dX7_statement_230 (by decide) ?_
    refine zr_iadd C0 dX7_statement_231 ?_
    obtain ⟨h15, e16, hf⟩ := zbind hf
    refine zr_put C0 pl_X7_272_X2 dX7_statement_232 (fun h => by cases h) rfl rfl e16 ?_
    refine zretW hf ?_
    exact zr_vret C0 rfl dX7_statement_235 rfl
  · have hf := zinr hf
    refine zretW hf ?_
    exact zr_callV_t C0 cv_X7_116_X7 rfl (zcko e1) (m_X7_require C0.2.2.2.2.2.2.1 e3) (by decide) (by decide) rfl rfl (Nat.le_of_ble_eq_true rfl) dX7_statement_215 (zr_out C0 hno rfl)
def f_X7_statement_b200 (E : zE) (p0 : Nat) (h : zH) : Option ((Unit ⊕ (Nat × Nat)) × zH) :=
  (gI h p0 6 5).bind fun x1 =>
  if x1 = (3 : Int32) then (
    f_X7_statement_b214 E p0 p0 (1 : Int32) h
  ) else (
    f_X7_statement_b214 E p0 p0 (0 : Int32) h
  )
theorem w_X7_statement_b200 (C0 : zCx p l e R s m args below meth c D B0 3 "FranchiseLedger$Reader" cX7_statement E 14 352 (Option.none : Option Jvm.ClassFile.FieldType) "statement") (hno : ∀ x ∈ c.exceptionTable.toList, False) {r : (Unit ⊕ (Nat × Nat))} {h' : zH} {p0 : Nat} {h : zH} (hf : f_X7_statement_b200 E p0 h = some (r, h')) : zW p l e R s m args below meth c D B0 3 (zEnd D B0 R below args s (zoT zoV r) h') h 200 [(0, .ref p0)] [] := by
  unfold f_X7_statement_b200 at hf
  refine zr_aload_n C0 dX7_statement_200 rfl 0 rfl ?_
  refine zr_aload_n C0 dX7_statement_201 rfl 0 rfl ?_
  obtain ⟨x1, e2, hf⟩ := zbind hf
  refine zr_get C0 fl_X7_79_X7 dX7_statement_202 (zgI e2) ?_
  refine zr_iconst C0 (v := 3) dX7_statement_205 (by decide) ?_
  refine zr_icmp_ne C0 (tgt := 213) dX7_statement_206 (by decide) (fun c3 => ?_) (fun c3 => ?_)
  · have hf := zif_f c3 hf
    refine zr_iconst C0 (v := 0) dX7_statement_213 (by decide) ?_
    exact w_X7_statement_b214 C0 hno hf
  · have hf := zif_t c3 hf
    refine zr_iconst C0 (v := 1) dX7_statement_209 (by decide) ?_
    refine zr_goto C0 (tgt := 214) dX7_statement_210 (by decide) ?_
    exact w_X7_statement_b214 C0 hno hf
def f_X7_statement_b133 (E : zE) (p0 : Nat) (p2 : Int32) (h : zH) : Option ((Unit ⊕ (Nat × Nat)) × zH) :=
  if p2 = 0 then (
    (cko h p0 6).bind fun _ =>
    bnd2 (f_X7_plan E p0 h) fun x5 h3 =>
    Sum.elim (fun x6 => (
      f_X7_statement_b200 E p0 h3
    )) (fun q7 => (
      some (.inr q7, h3)
    )) x5
  ) else (
  if p2 = 1 then (
    (cko h p0 6).bind fun _ =>
    bnd2 (f_X7_franchisee E p0 h) fun x12 h10 =>
    Sum.elim (fun x13 => (
      f_X7_statement_b200 E p0 h10
    )) (fun q14 => (
      some (.inr q14, h10)
    )) x12
  ) else (
  if p2 = 2 then (
    (cko h p0 6).bind fun _ =>
    bnd2 (f_X7_area E p0 h) fun x19 h17 =>
    Sum.elim (fun x20 => (
      f_X7_statement_b200 E p0 h17
    )) (fun q21 => (
      some (.inr q21, h17)
    )) x19
  ) else (
  if p2 = 3 then (
    (cko h p0 6).bind fun _ =>
    bnd2 (f_X7_outlet E p0 h) fun x26 h24 =>
    Sum.elim (fun x27 => (
      f_X7_statement_b200 E p0 h24
    )) (fun q28 => (
      some (.inr q28, h24)
    )) x26
  ) else (
    (gR h p0 6 7).bind fun x29 =>
    (cko h p0 6).bind fun _ =>
    bnd2 (f_X7_setting E p0 x29 h) fun x34 h32 =>
    Sum.elim (fun x35 => (
      f_X7_statement_b200 E p0 h32
    )) (fun q36 => (
      some (.inr q36, h32)
    )) x34
  ))))
theorem w_X7_statement_b133 (C0 : zCx p l e R s m args below meth c D B0 3 "FranchiseLedger$Reader" cX7_statement E 14 352 (Option.none : Option Jvm.ClassFile.FieldType) "statement") (hno : ∀ x ∈ c.exceptionTable.toList, False) {r : (Unit ⊕ (Nat × Nat))} {h' : zH} {p0 : Nat} {p2 : Int32} {h : zH} (hf : f_X7_statement_b133 E p0 p2 h = some (r, h')) : zW p l e R s m args below meth c D B0 3 (zEnd D B0 R below args s (zoT zoV r) h') h 133 [(0, .ref p0), (2, .int p2)] [] := by
  unfold f_X7_statement_b133 at hf
  refine zr_iload_n C0 dX7_statement_133 rfl 1 rfl ?_
  rcases Decidable.em (p2 = 0) with c1 | c1
  · have hf := zif_t c1 hf
    refine zr_tableIn C0 (v := 0) (tgt := 164) dX7_statement_134 c1 (by decide) (by decide) rfl (by decide) ?_
    refine zr_aload_n C0 dX7_statement_164 rfl 0 rfl ?_
    obtain ⟨_, e2, hf⟩ := zbind hf
    obtain ⟨x5, h3, e4, hf⟩ := zbind2 hf
    rcases x5 with x6 | q7
    · have hf := zinl hf
      refine zr_callV_r C0 cv_X7_260_X7 rfl (zcko e2) (m_X7_plan C0.2.2.2.2.2.2.1 e4) (by decide) (by decide) rfl rfl (Nat.le_of_ble_eq_true rfl) dX7_statement_165 rfl ?_
      refine zr_goto C0 (tgt := 200) dX7_statement_168 (by decide) ?_
      refine zr_sub [0] rfl ?_
      exact w_X7_statement_b200 C0 hno hf
    · have hf := zinr hf
      refine zretW hf ?_
      exact zr_callV_t C0 cv_X7_260_X7 rfl (zcko e2) (m_X7_plan C0.2.2.2.2.2.2.1 e4) (by decide) (by decide) rfl rfl (Nat.le_of_ble_eq_true rfl) dX7_statement_165 (zr_out C0 hno rfl)
  have hf := zif_f c1 hf
  rcases Decidable.em (p2 = 1) with c8 | c8
  · have hf := zif_t c8 hf
    refine zr_tableIn C0 (v := 1) (tgt := 171) dX7_statement_134 c8 (by decide) (by decide) rfl (by decide) ?_
    refine zr_aload_n C0 dX7_statement_171 rfl 0 rfl ?_
    obtain ⟨_, e9, hf⟩ := zbind hf
    obtain ⟨x12, h10, e11, hf⟩ := zbind2 hf
    rcases x12 with x13 | q14
    · have hf := zinl hf
      refine zr_callV_r C0 cv_X7_262_X7 rfl (zcko e9) (m_X7_franchisee C0.2.2.2.2.2.2.1 e11) (by decide) (by decide) rfl rfl (Nat.le_of_ble_eq_true rfl) dX7_statement_172 rfl ?_
      refine zr_goto C0 (tgt := 200) dX7_statement_175 (by decide) ?_
      refine zr_sub [0] rfl ?_
      exact w_X7_statement_b200 C0 hno hf
    · have hf := zinr hf
      refine zretW hf ?_
      exact zr_callV_t C0 cv_X7_262_X7 rfl (zcko e9) (m_X7_franchisee C0.2.2.2.2.2.2.1 e11) (by decide) (by decide) rfl rfl (Nat.le_of_ble_eq_true rfl) dX7_statement_172 (zr_out C0 hno rfl)
  have hf := zif_f c8 hf
  rcases Decidable.em (p2 = 2) with c15 | c15
  · have hf := zif_t c15 hf
    refine zr_tableIn C0 (v := 2) (tgt := 178) dX7_statement_134 c15 (by decide) (by decide) rfl (by decide) ?_
    refine zr_aload_n C0 dX7_statement_178 rfl 0 rfl ?_
    obtain ⟨_, e16, hf⟩ := zbind hf
    obtain ⟨x19, h17, e18, hf⟩ := zbind2 hf
    rcases x19 with x20 | q21
    · have hf := zinl hf
      refine zr_callV_r C0 cv_X7_264_X7 rfl (zcko e16) (m_X7_area C0.2.2.2.2.2.2.1 e18) (by decide) (by decide) rfl rfl (Nat.le_of_ble_eq_true rfl) dX7_statement_179 rfl ?_
      refine zr_goto C0 (tgt := 200) dX7_statement_182 (by decide) ?_
      refine zr_sub [0] rfl ?_
      exact w_X7_statement_b200 C0 hno hf
    · have hf := zinr hf
      refine zretW hf ?_
      exact zr_callV_t C0 cv_X7_264_X7 rfl (zcko e16) (m_X7_area C0.2.2.2.2.2.2.1 e18) (by decide) (by decide) rfl rfl (Nat.le_of_ble_eq_true rfl) dX7_statement_179 (zr_out C0 hno rfl)
  have hf := zif_f c15 hf
  rcases Decidable.em (p2 = 3) with c22 | c22
  · have hf := zif_t c22 hf
    refine zr_tableIn C0 (v := 3) (tgt := 185) dX7_statement_134 c22 (by decide) (by decide) rfl (by decide) ?_
    refine zr_aload_n C0 dX7_statement_185 rfl 0 rfl ?_
    obtain ⟨_, e23, hf⟩ := zbind hf
    obtain ⟨x26, h24, e25, hf⟩ := zbind2 hf
    rcases x26 with x27 | q28
    · have hf := zinl hf
      refine zr_callV_r C0 cv_X7_266_X7 rfl (zcko e23) (m_X7_outlet C0.2.2.2.2.2.2.1 e25) (by decide) (by decide) rfl rfl (Nat.le_of_ble_eq_true rfl) dX7_statement_186 rfl ?_
      refine zr_goto C0 (tgt := 200) dX7_statement_189 (by decide) ?_
      refine zr_sub [0] rfl ?_
      exact w_X7_statement_b200 C0 hno hf
    · have hf := zinr hf
      refine zretW hf ?_
      exact zr_callV_t C0 cv_X7_266_X7 rfl (zcko e23) (m_X7_outlet C0.2.2.2.2.2.2.1 e25) (by decide) (by decide) rfl rfl (Nat.le_of_ble_eq_true rfl) dX7_statement_186 (zr_out C0 hno rfl)
  have hf := zif_f c22 hf
  refine zr_tableOut C0 (tgt := 192) dX7_statement_134 ?_ (by decide) ?_
  · have n0 := lv_neT (a := 0) c1 rfl; have n1 := lv_neT (a := 1) c8 rfl; have n2 := lv_neT (a := 2) c15 rfl; have n3 := lv_neT (a := 3) c22 rfl; omega
  refine zr_aload_n C0 dX7_statement_192 rfl 0 rfl ?_
  refine zr_aload_n C0 dX7_statement_193 rfl 0 rfl ?_
  obtain ⟨x29, e30, hf⟩ := zbind hf
  refine zr_get C0 fl_X7_33_X7 dX7_statement_194 (zgR e30) ?_
  obtain ⟨_, e31, hf⟩ := zbind hf
  obtain ⟨x34, h32, e33, hf⟩ := zbind2 hf
  rcases x34 with x35 | q36
  · have hf := zinl hf
    refine zr_callV_r C0 cv_X7_268_X7 rfl (zcko e31) (m_X7_setting C0.2.2.2.2.2.2.1 e33) (by decide) (by decide) rfl rfl (Nat.le_of_ble_eq_true rfl) dX7_statement_197 rfl ?_
    refine zr_sub [0] rfl ?_
    exact w_X7_statement_b200 C0 hno hf
  · have hf := zinr hf
    refine zretW hf ?_
    exact zr_callV_t C0 cv_X7_268_X7 rfl (zcko e31) (m_X7_setting C0.2.2.2.2.2.2.1 e33) (by decide) (by decide) rfl rfl (Nat.le_of_ble_eq_true rfl) dX7_statement_197 (zr_out C0 hno rfl)
def f_X7_statement_b21 (E : zE) (p0 : Nat) (s0 : Nat) (s1 : Int32) (h : zH) : Option ((Unit ⊕ (Nat × Nat)) × zH) :=
  (cko h s0 6).bind fun _ =>
  bnd2 (f_X7_require E s0 s1 (1 : Int32) h) fun x4 h2 =>
  Sum.elim (fun x5 => (
    (gR h2 p0 6 7).bind fun x7 =>
    (cko h2 x7 19).bind fun _ =>
    bnd2 (f_J9_hashCode E x7 h2) fun x12 h10 =>
    if x12 = -1005516787 then (
      (cko h10 x7 19).bind fun _ =>
      bnd2 (f_J9_equals_J9 E x7 (E.2.1 18) h10) fun x17 h15 =>
      if x17 = 0 then (
        f_X7_statement_b133 E p0 (-1 : Int32) h15
      ) else (
        f_X7_statement_b133 E p0 (3 : Int32) h15
      )
    ) else (
    if x12 = 3002509 then (
      (cko h10 x7 19).bind fun _ =>
      bnd2 (f_J9_equals_J9 E x7 (E.2.1 17) h10) fun x23 h21 =>
      if x23 = 0 then (
        f_X7_statement_b133 E p0 (-1 : Int32) h21
      ) else (
        f_X7_statement_b133 E p0 (2 : Int32) h21
      )
    ) else (
    if x12 = 3443497 then (
      (cko h10 x7 19).bind fun _ =>
      bnd2 (f_J9_equals_J9 E x7 (E.2.1 15) h10) fun x29 h27 =>
      if x29 = 0 then (
        f_X7_statement_b133 E p0 (-1 : Int32) h27
      ) else (
        f_X7_statement_b133 E p0 (0 : Int32) h27
      )
    ) else (
    if x12 = 567722088 then (
      (cko h10 x7 19).bind fun _ =>
      bnd2 (f_J9_equals_J9 E x7 (E.2.1 16) h10) fun x35 h33 =>
      if x35 = 0 then (
        f_X7_statement_b133 E p0 (-1 : Int32) h33
      ) else (
        f_X7_statement_b133 E p0 (1 : Int32) h33
      )
    ) else (
      f_X7_statement_b133 E p0 (-1 : Int32) h10
    ))))
  )) (fun q6 => (
    some (.inr q6, h2)
  )) x4
theorem w_X7_statement_b21 (C0 : zCx p l e R s m args below meth c D B0 3 "FranchiseLedger$Reader" cX7_statement E 14 352 (Option.none : Option Jvm.ClassFile.FieldType) "statement") (hno : ∀ x ∈ c.exceptionTable.toList, False) {r : (Unit ⊕ (Nat × Nat))} {h' : zH} {p0 : Nat} {s0 : Nat} {s1 : Int32} {h : zH} (hf : f_X7_statement_b21 E p0 s0 s1 h = some (r, h')) : zW p l e R s m args below meth c D B0 3 (zEnd D B0 R below args s (zoT zoV r) h') h 21 [(0, .ref p0)] [.int s1, .ref s0] := by
  unfold f_X7_statement_b21 at hf
  refine zr_iconst C0 (v := 1) dX7_statement_21 (by decide) ?_
  obtain ⟨_, e1, hf⟩ := zbind hf
  obtain ⟨x4, h2, e3, hf⟩ := zbind2 hf
  rcases x4 with x5 | q6
  · have hf := zinl hf
    refine zr_callV_r C0 cv_X7_116_X7 rfl (zcko e1) (m_X7_require C0.2.2.2.2.2.2.1 e3) (by decide) (by decide) rfl rfl (Nat.le_of_ble_eq_true rfl) dX7_statement_22 rfl ?_
    refine zr_aload_n C0 dX7_statement_25 rfl 0 rfl ?_
    obtain ⟨x7, e8, hf⟩ := zbind hf
    refine zr_get C0 fl_X7_33_X7 dX7_statement_26 (zgR e8) ?_
    refine zr_astore_n (i := 1) (lv' := [(1, .ref x7), (0, .ref p0)]) C0 dX7_statement_29 rfl (by decide) (by first | rfl | simp [zst1, zst2, zcat_rf]) ?_
    refine zr_iconst C0 (v := -1) dX7_statement_30 (by decide) ?_
    refine zr_istore_n (i := 2) (lv' := [(2, .int (-1 : Int32)), (1, .ref x7), (0, .ref p0)]) C0 dX7_statement_31 rfl (by decide) (by first | rfl | simp [zst1, zst2, zcat_rf]) ?_
    refine zr_aload_n C0 dX7_statement_32 rfl 1 rfl ?_
    obtain ⟨_, e9, hf⟩ := zbind hf
    obtain ⟨x12, h10, e11, hf⟩ := zbind2 hf
    refine zr_callV_r C0 cv_X7_124_J9 rfl (zcko e9) (m_J9_hashCode C0.2.2.2.2.2.2.1 e11) (by decide) (by decide) rfl rfl (Nat.le_of_ble_eq_true rfl) dX7_statement_33 rfl ?_
    rcases Decidable.em (x12 = -1005516787) with c13 | c13
    · have hf := zif_t c13 hf
      refine zr_lookup C0 (tgt := 122) (off := 86) dX7_statement_36 (by decide) (by rw [c13]; decide) (by decide) ?_
      refine zr_aload_n C0 dX7_statement_122 rfl 1 rfl ?_
      refine zr_ldcS C0 (i := 18) rfl dX7_statement_123 ?_
      obtain ⟨_, e14, hf⟩ := zbind hf
      obtain ⟨x17, h15, e16, hf⟩ := zbind2 hf
      refine zr_callV_r C0 cv_X7_131_J9 rfl (zcko e14) (m_J9_equals_J9 C0.2.2.2.2.2.2.1 e16) (by decide) (by decide) rfl rfl (Nat.le_of_ble_eq_true rfl) dX7_statement_125 rfl ?_
      refine zr_if_eq C0 (tgt := 133) dX7_statement_128 (by decide) (fun c18 => ?_) (fun c18 => ?_)
      · have hf := zif_t c18 hf
        refine zr_sub [2, 0] rfl ?_
        exact w_X7_statement_b133 C0 hno hf
      · have hf := zif_f c18 hf
        refine zr_iconst C0 (v := 3) dX7_statement_131 (by decide) ?_
        refine zr_istore_n (i := 2) (lv' := [(2, .int (3 : Int32)), (1, .ref x7), (0, .ref p0)]) C0 dX7_statement_132 rfl (by decide) (by first | rfl | simp [zst1, zst2, zcat_rf]) ?_
        refine zr_sub [2, 0] rfl ?_
        exact w_X7_statement_b133 C0 hno hf
    have hf := zif_f c13 hf
    rcases Decidable.em (x12 = 3002509) with c19 | c19
    · have hf := zif_t c19 hf
      refine zr_lookup C0 (tgt := 108) (off := 72) dX7_statement_36 (by decide) (by rw [c19]; decide) (by decide) ?_
      refine zr_aload_n C0 dX7_statement_108 rfl 1 rfl ?_
      refine zr_ldcS C0 (i := 17) rfl dX7_statement_109 ?_
      obtain ⟨_, e20, hf⟩ := zbind hf
      obtain ⟨x23, h21, e22, hf⟩ := zbind2 hf
      refine zr_callV_r C0 cv_X7_131_J9 rfl (zcko e20) (m_J9_equals_J9 C0.2.2.2.2.2.2.1 e22) (by decide) (by decide) rfl rfl (Nat.le_of_ble_eq_true rfl) dX7_statement_111 rfl ?_
      refine zr_if_eq C0 (tgt := 133) dX7_statement_114 (by decide) (fun c24 => ?_) (fun c24 => ?_)
      · have hf := zif_t c24 hf
        refine zr_sub [2, 0] rfl ?_
        exact w_X7_statement_b133 C0 hno hf
      · have hf := zif_f c24 hf
        refine zr_iconst C0 (v := 2) dX7_statement_117 (by decide) ?_
        refine zr_istore_n (i := 2) (lv' := [(2, .int (2 : Int32)), (1, .ref x7), (0, .ref p0)]) C0 dX7_statement_118 rfl (by decide) (by first | rfl | simp [zst1, zst2, zcat_rf]) ?_
        refine zr_goto C0 (tgt := 133) dX7_statement_119 (by decide) ?_
        refine zr_sub [2, 0] rfl ?_
        exact w_X7_statement_b133 C0 hno hf
    have hf := zif_f c19 hf
    rcases Decidable.em (x12 = 3443497) with c25 | c25
    · have hf := zif_t c25 hf
      refine zr_lookup C0 (tgt := 80) (off := 44) dX7_statement_36 (by decide) (by rw [c25]; decide) (by decide) ?_
      refine zr_aload_n C0 dX7_statement_80 rfl 1 rfl ?_
      refine zr_ldcS C0 (i := 15) rfl dX7_statement_81 ?_
      obtain ⟨_, e26, hf⟩ := zbind hf
      obtain ⟨x29, h27, e28, hf⟩ := zbind2 hf
      refine zr_callV_r C0 cv_X7_131_J9 rfl (zcko e26) (m_J9_equals_J9 C0.2.2.2.2.2.2.1 e28) (by decide) (by decide) rfl rfl (Nat.le_of_ble_eq_true rfl) dX7_statement_83 rfl ?_
      refine zr_if_eq C0 (tgt := 133) dX7_statement_86 (by decide) (fun c30 => ?_) (fun c30 => ?_)
      · have hf := zif_t c30 hf
        refine zr_sub [2, 0] rfl ?_
        exact w_X7_statement_b133 C0 hno hf
      · have hf := zif_f c30 hf
        refine zr_iconst C0 (v := 0) dX7_statement_89 (by decide) ?_
        refine zr_istore_n (i := 2) (lv' := [(2, .int (0 : Int32)), (1, .ref x7), (0, .ref p0)]) C0 dX7_statement_90 rfl (by decide) (by first | rfl | simp [zst1, zst2, zcat_rf]) ?_
        refine zr_goto C0 (tgt := 133) dX7_statement_91 (by decide) ?_
        refine zr_sub [2, 0] rfl ?_
        exact w_X7_statement_b133 C0 hno hf
    have hf := zif_f c25 hf
    rcases Decidable.em (x12 = 567722088) with c31 | c31
    · have hf := zif_t c31 hf
      refine zr_lookup C0 (tgt := 94) (off := 58) dX7_statement_36 (by decide) (by rw [c31]; decide) (by decide) ?_
      refine zr_aload_n C0 dX7_statement_94 rfl 1 rfl ?_
      refine zr_ldcS C0 (i := 16) rfl dX7_statement_95 ?_
      obtain ⟨_, e32, hf⟩ := zbind hf
      obtain ⟨x35, h33, e34, hf⟩ := zbind2 hf
      refine zr_callV_r C0 cv_X7_131_J9 rfl (zcko e32) (m_J9_equals_J9 C0.2.2.2.2.2.2.1 e34) (by decide) (by decide) rfl rfl (Nat.le_of_ble_eq_true rfl) dX7_statement_97 rfl ?_
      refine zr_if_eq C0 (tgt := 133) dX7_statement_100 (by decide) (fun c36 => ?_) (fun c36 => ?_)
      · have hf := zif_t c36 hf
        refine zr_sub [2, 0] rfl ?_
        exact w_X7_statement_b133 C0 hno hf
      · have hf := zif_f c36 hf
        refine zr_iconst C0 (v := 1) dX7_statement_103 (by decide) ?_
        refine zr_istore_n (i := 2) (lv' := [(2, .int (1 : Int32)), (1, .ref x7), (0, .ref p0)]) C0 dX7_statement_104 rfl (by decide) (by first | rfl | simp [zst1, zst2, zcat_rf]) ?_
        refine zr_goto C0 (tgt := 133) dX7_statement_105 (by decide) ?_
        refine zr_sub [2, 0] rfl ?_
        exact w_X7_statement_b133 C0 hno hf
    have hf := zif_f c31 hf
    refine zr_lookup C0 (tgt := 133) (off := 97) dX7_statement_36 (by decide) (by show Op.lookupswitch.offset [(-1005516787, 86), (3002509, 72), (3443497, 44), (567722088, 58)] _ _ = _; rw [lv_osw c13 (by decide), lv_osw c19 (by decide), lv_osw c25 (by decide), lv_osw c31 (by decide)]; rfl) (by decide) ?_
    refine zr_sub [2, 0] rfl ?_
    exact w_X7_statement_b133 C0 hno hf
  · have hf := zinr hf
    refine zretW hf ?_
    exact zr_callV_t C0 cv_X7_116_X7 rfl (zcko e1) (m_X7_require C0.2.2.2.2.2.2.1 e3) (by decide) (by decide) rfl rfl (Nat.le_of_ble_eq_true rfl) dX7_statement_22 (zr_out C0 hno rfl)
def f_X7_statement_b20 (E : zE) (p0 : Nat) (s0 : Nat) (h : zH) : Option ((Unit ⊕ (Nat × Nat)) × zH) :=
  f_X7_statement_b21 E p0 s0 (0 : Int32) h
theorem w_X7_statement_b20 (C0 : zCx p l e R s m args below meth c D B0 3 "FranchiseLedger$Reader" cX7_statement E 14 352 (Option.none : Option Jvm.ClassFile.FieldType) "statement") (hno : ∀ x ∈ c.exceptionTable.toList, False) {r : (Unit ⊕ (Nat × Nat))} {h' : zH} {p0 : Nat} {s0 : Nat} {h : zH} (hf : f_X7_statement_b20 E p0 s0 h = some (r, h')) : zW p l e R s m args below meth c D B0 3 (zEnd D B0 R below args s (zoT zoV r) h') h 20 [(0, .ref p0)] [.ref s0] := by
  unfold f_X7_statement_b20 at hf
  refine zr_iconst C0 (v := 0) dX7_statement_20 (by decide) ?_
  exact w_X7_statement_b21 C0 hno hf
def f_X7_statement_b0 (E : zE) (p0 : Nat) (h : zH) : Option ((Unit ⊕ (Nat × Nat)) × zH) :=
  (gI h p0 6 5).bind fun x1 =>
  if x1 = (1 : Int32) then (
    (cko h p0 6).bind fun _ =>
    bnd2 (f_X7_isReserved E p0 h) fun x7 h5 =>
    if x7 = 0 then (
      f_X7_statement_b20 E p0 p0 h5
    ) else (
      f_X7_statement_b21 E p0 p0 (1 : Int32) h5
    )
  ) else (
    f_X7_statement_b20 E p0 p0 h
  )
theorem w_X7_statement_b0 (C0 : zCx p l e R s m args below meth c D B0 3 "FranchiseLedger$Reader" cX7_statement E 14 352 (Option.none : Option Jvm.ClassFile.FieldType) "statement") (hno : ∀ x ∈ c.exceptionTable.toList, False) {r : (Unit ⊕ (Nat × Nat))} {h' : zH} {p0 : Nat} {h : zH} (hf : f_X7_statement_b0 E p0 h = some (r, h')) : zW p l e R s m args below meth c D B0 3 (zEnd D B0 R below args s (zoT zoV r) h') h 0 [(0, .ref p0)] [] := by
  unfold f_X7_statement_b0 at hf
  refine zr_aload_n C0 dX7_statement_0 rfl 0 rfl ?_
  refine zr_aload_n C0 dX7_statement_1 rfl 0 rfl ?_
  obtain ⟨x1, e2, hf⟩ := zbind hf
  refine zr_get C0 fl_X7_79_X7 dX7_statement_2 (zgI e2) ?_
  refine zr_iconst C0 (v := 1) dX7_statement_5 (by decide) ?_
  refine zr_icmp_ne C0 (tgt := 20) dX7_statement_6 (by decide) (fun c3 => ?_) (fun c3 => ?_)
  · have hf := zif_f c3 hf
    exact w_X7_statement_b20 C0 hno hf
  · have hf := zif_t c3 hf
    refine zr_aload_n C0 dX7_statement_9 rfl 0 rfl ?_
    obtain ⟨_, e4, hf⟩ := zbind hf
    obtain ⟨x7, h5, e6, hf⟩ := zbind2 hf
    refine zr_callV_r C0 cv_X7_184_X7 rfl (zcko e4) (m_X7_isReserved C0.2.2.2.2.2.2.1 e6) (by decide) (by decide) rfl rfl (Nat.le_of_ble_eq_true rfl) dX7_statement_10 rfl ?_
    refine zr_if_eq C0 (tgt := 20) dX7_statement_13 (by decide) (fun c8 => ?_) (fun c8 => ?_)
    · have hf := zif_t c8 hf
      exact w_X7_statement_b20 C0 hno hf
    · have hf := zif_f c8 hf
      refine zr_iconst C0 (v := 1) dX7_statement_16 (by decide) ?_
      refine zr_goto C0 (tgt := 21) dX7_statement_17 (by decide) ?_
      exact w_X7_statement_b21 C0 hno hf
def f_X7_statement (E : zE) (p0 : Nat) (h : zH) : Option ((Unit ⊕ (Nat × Nat)) × zH) := f_X7_statement_b0 E p0 h
theorem m_X7_statement {l : Launch} (hst : l.stackTraces = false) {D : zD} {B0 : Nat} {E : zE} {p0 : Nat} {h h' : zH} {r : (Unit ⊕ (Nat × Nat))} (hf : f_X7_statement E p0 h = some (r, h')) : zMet l yX7_statement (ws_ yX7_statement cX7_statement 3 (Option.none : Option Jvm.ClassFile.FieldType)) 14 352 D B0 E [.ref p0] h (zoT zoV r) h' := by
  unfold f_X7_statement at hf
  refine zMet_of hst (by decide +kernel) rfl rfl (Nat.le_of_ble_eq_true rfl) (fun p e R s m below meth c C0 hno => ?_)
  show zW _ _ _ _ _ _ _ _ _ _ _ _ _ _ _ _ [(0, .ref p0)] []
  exact w_X7_statement_b0 C0 hno hf
def f_X7_read_l0 (E : zE) : Nat → Nat → zH → Option ((Unit ⊕ (Nat × Nat)) × zH)
  | 0, _, _ => none
  | n + 1, p0, h =>
    (gI h p0 6 5).bind fun x1 =>
    if x1 = 0 then (
      some (.inl (), h)
    ) else (
      (cko h p0 6).bind fun _ =>
      bnd2 (f_X7_statement E p0 h) fun x7 h5 =>
      Sum.elim (fun x8 => (
        f_X7_read_l0 E n p0 h5
      )) (fun q9 => (
        some (.inr q9, h5)
      )) x7
    )
theorem w_X7_read_l0 (C0 : zCx p l e R s m args below meth c D B0 1 "FranchiseLedger$Reader" cX7_read E 15 374 (Option.none : Option Jvm.ClassFile.FieldType) "read") (hno : ∀ x ∈ c.exceptionTable.toList, False) {r : (Unit ⊕ (Nat × Nat))} {h' : zH} : ∀ (n : Nat) (p0 : Nat) (h : zH), f_X7_read_l0 E n p0 h = some (r, h') → zW p l e R s m args below meth c D B0 1 (zEnd D B0 R below args s (zoT zoV r) h') h 0 [(0, .ref p0)] [] := by
  intro n
  induction n with
  | zero =>
    intro p0 h hf
    unfold f_X7_read_l0 at hf
    cases hf
  | succ n ih =>
    intro p0 h hf
    unfold f_X7_read_l0 at hf
    refine zr_aload_n C0 dX7_read_0 rfl 0 rfl ?_
    obtain ⟨x1, e2, hf⟩ := zbind hf
    refine zr_get C0 fl_X7_79_X7 dX7_read_1 (zgI e2) ?_
    refine zr_if_eq C0 (tgt := 14) dX7_read_4 (by decide) (fun c3 => ?_) (fun c3 => ?_)
    · have hf := zif_t c3 hf
      refine zretW hf ?_
      exact zr_vret C0 rfl dX7_read_14 rfl
    · have hf := zif_f c3 hf
      refine zr_aload_n C0 dX7_read_7 rfl 0 rfl ?_
      obtain ⟨_, e4, hf⟩ := zbind hf
      obtain ⟨x7, h5, e6, hf⟩ := zbind2 hf
      rcases x7 with x8 | q9
      · have hf := zinl hf
        refine zr_callV_r C0 cv_X7_275_X7 rfl (zcko e4) (m_X7_statement C0.2.2.2.2.2.2.1 e6) (by decide) (by decide) rfl rfl (Nat.le_of_ble_eq_true rfl) dX7_read_8 rfl ?_
        refine zr_goto C0 (tgt := 0) dX7_read_11 (by decide) ?_
        exact ih _ _ hf
      · have hf := zinr hf
        refine zretW hf ?_
        exact zr_callV_t C0 cv_X7_275_X7 rfl (zcko e4) (m_X7_statement C0.2.2.2.2.2.2.1 e6) (by decide) (by decide) rfl rfl (Nat.le_of_ble_eq_true rfl) dX7_read_8 (zr_out C0 hno rfl)
def f_X7_read (E : zE) (p0 : Nat) (h : zH) : Option ((Unit ⊕ (Nat × Nat)) × zH) := f_X7_read_l0 E E.1 p0 h
theorem m_X7_read {l : Launch} (hst : l.stackTraces = false) {D : zD} {B0 : Nat} {E : zE} {p0 : Nat} {h h' : zH} {r : (Unit ⊕ (Nat × Nat))} (hf : f_X7_read E p0 h = some (r, h')) : zMet l yX7_read (ws_ yX7_read cX7_read 1 (Option.none : Option Jvm.ClassFile.FieldType)) 15 374 D B0 E [.ref p0] h (zoT zoV r) h' := by
  unfold f_X7_read at hf
  refine zMet_of hst (by decide +kernel) rfl rfl (Nat.le_of_ble_eq_true rfl) (fun p e R s m below meth c C0 hno => ?_)
  show zW _ _ _ _ _ _ _ _ _ _ _ _ _ _ _ _ [(0, .ref p0)] []
  exact w_X7_read_l0 C0 hno _ _ _ hf
def f_X1_load_l48 (E : zE) : Nat → Nat → Int32 → zH → Option (Int32 × zH)
  | 0, _, _, _ => none
  | n + 1, p0, p2, h =>
    if (2 : Int32) ≤ p2 then (
      (gR h p0 0 0).bind fun x2 =>
      (gI h x2 2 9).bind fun x4 =>
      some (x4, h)
    ) else (
      (gR h p0 0 2).bind fun x6 =>
      (sN h x6 6 p2).bind fun h8 =>
      f_X1_load_l48 E n p0 (p2 + 1) h8
    )
theorem w_X1_load_l48 (C0 : zCx p l e R s m args below meth c D B0 3 "FranchiseLedger" cX1_load E 16 394 (Option.some Jvm.ClassFile.FieldType.int) "load") (ht : c.exceptionTable.toList = tableOf [((9 : Nat), (13 : Nat), (16 : Nat), (498 : Nat))]) {r : Int32} {h' : zH} : ∀ (n : Nat) (p0 : Nat) (p2 : Int32) (h : zH), f_X1_load_l48 E n p0 p2 h = some (r, h') → zW p l e R s m args below meth c D B0 3 (zEnd D B0 R below args s (zoI r) h') h 48 [(0, .ref p0), (2, .int p2)] [] := by
  intro n
  induction n with
  | zero =>
    intro p0 p2 h hf
    unfold f_X1_load_l48 at hf
    cases hf
  | succ n ih =>
    intro p0 p2 h hf
    unfold f_X1_load_l48 at hf
    refine zr_iload_n C0 dX1_load_48 rfl 1 rfl ?_
    refine zr_iconst C0 (v := 2) dX1_load_49 (by decide) ?_
    refine zr_icmp_ge C0 (tgt := 66) dX1_load_50 (by decide) (fun c1 => ?_) (fun c1 => ?_)
    · have hf := zif_t c1 hf
      refine zr_aload_n C0 dX1_load_66 rfl 0 rfl ?_
      obtain ⟨x2, e3, hf⟩ := zbind hf
      refine zr_get C0 fl_X1_30_X1 dX1_load_67 (zgR e3) ?_
      obtain ⟨x4, e5, hf⟩ := zbind hf
      refine zr_get C0 fl_X1_538_X2 dX1_load_70 (zgI e5) ?_
      refine zretW hf ?_
      exact zr_iret C0 (ty := .int) rfl rfl dX1_load_73 rfl
    · have hf := zif_f c1 hf
      refine zr_aload_n C0 dX1_load_53 rfl 0 rfl ?_
      obtain ⟨x6, e7, hf⟩ := zbind hf
      refine zr_get C0 fl_X1_43_X1 dX1_load_54 (zgR e7) ?_
      refine zr_iload_n C0 dX1_load_57 rfl 1 rfl ?_
      refine zr_null C0 dX1_load_58 ?_
      obtain ⟨h8, e9, hf⟩ := zbind hf
      refine zr_aastN C0 dX1_load_59 e9 ?_
      refine zr_iinc (lv' := [(2, .int (p2 + 1)), (0, .ref p0)]) C0 dX1_load_60 1 rfl rfl (by decide) (by first | rfl | simp [zst1, zst2, zcat_rf]) ?_
      refine zr_goto C0 (tgt := 48) dX1_load_63 (by decide) ?_
      refine zr_sub [1, 0] rfl ?_
      exact ih _ _ _ hf
def f_X1_load_b16 (E : zE) (p0 : Nat) (s0 : Nat) (h : zH) : Option (Int32 × zH) :=
  (cko h p0 0).bind fun _ =>
  bnd2 (f_X1_fail E p0 s0 h) fun x4 h2 =>
  some (x4, h2)
theorem w_X1_load_b16 (C0 : zCx p l e R s m args below meth c D B0 3 "FranchiseLedger" cX1_load E 16 394 (Option.some Jvm.ClassFile.FieldType.int) "load") (ht : c.exceptionTable.toList = tableOf [((9 : Nat), (13 : Nat), (16 : Nat), (498 : Nat))]) {r : Int32} {h' : zH} {p0 : Nat} {s0 : Nat} {h : zH} (hf : f_X1_load_b16 E p0 s0 h = some (r, h')) : zW p l e R s m args below meth c D B0 3 (zEnd D B0 R below args s (zoI r) h') h 16 [(0, .ref p0)] [.ref s0] := by
  unfold f_X1_load_b16 at hf
  refine zr_astore_n (i := 2) (lv' := [(2, .ref s0), (0, .ref p0)]) C0 dX1_load_16 rfl (by decide) (by first | rfl | simp [zst1, zst2, zcat_rf]) ?_
  refine zr_aload_n C0 dX1_load_17 rfl 1 rfl ?_
  refine zr_aload_n C0 dX1_load_18 rfl 0 rfl ?_
  obtain ⟨_, e1, hf⟩ := zbind hf
  obtain ⟨x4, h2, e3, hf⟩ := zbind2 hf
  refine zr_callV_r C0 cv_X1_518_X1 rfl (zcko e1) (m_X1_fail C0.2.2.2.2.2.2.1 e3) (by decide) (by decide) rfl rfl (Nat.le_of_ble_eq_true rfl) dX1_load_19 rfl ?_
  refine zretW hf ?_
  exact zr_iret C0 (ty := .int) rfl rfl dX1_load_22 rfl
def f_X1_load_b0 (E : zE) (p0 : Nat) (h : zH) : Option (Int32 × zH) :=
  bnd2 (nO h 6 9 [.int 0, .null, .null, .int 0, .int 0, .int 0, .int 0, .null, .null]) fun q1 h2 =>
  bnd2 (f_X7_init E q1 p0 h2) fun x6 h4 =>
  (cko h4 q1 6).bind fun _ =>
  bnd2 (f_X7_read E q1 h4) fun x10 h8 =>
  Sum.elim (fun x11 => (
    (gR h8 p0 0 4).bind fun x13 =>
    (cko h8 x13 16).bind fun _ =>
    bnd2 (f_J19_clear E x13 h8) fun x18 h16 =>
    (gR h16 q1 6 1).bind fun x19 =>
    (pF h16 p0 0 0 (.ref x19)).bind fun h21 =>
    (gR h21 q1 6 2).bind fun x23 =>
    (pF h21 p0 0 1 (.ref x23)).bind fun h25 =>
    f_X1_load_l48 E E.1 p0 (0 : Int32) h25
  )) (fun q12 => (
    if q12.1 = 7 then (
      f_X1_load_b16 E p0 q12.2 h8
    ) else (
    none
    )
  )) x10
theorem w_X1_load_b0 (C0 : zCx p l e R s m args below meth c D B0 3 "FranchiseLedger" cX1_load E 16 394 (Option.some Jvm.ClassFile.FieldType.int) "load") (ht : c.exceptionTable.toList = tableOf [((9 : Nat), (13 : Nat), (16 : Nat), (498 : Nat))]) {r : Int32} {h' : zH} {p0 : Nat} {h : zH} (hf : f_X1_load_b0 E p0 h = some (r, h')) : zW p l e R s m args below meth c D B0 3 (zEnd D B0 R below args s (zoI r) h') h 0 [(0, .ref p0)] [] := by
  unfold f_X1_load_b0 at hf
  obtain ⟨q1, h2, e3, hf⟩ := zbind2 hf
  refine zr_newc C0 (C := RX7) (T := TX7) (N := 9) rfl in_X7 tyX7_ok q1331 q1332 q157 nw_X7 dX1_load_0 e3 ?_
  refine zr_dup C0 dX1_load_3 rfl ?_
  refine zr_aload_n C0 dX1_load_4 rfl 0 rfl ?_
  obtain ⟨x6, h4, e5, hf⟩ := zbind2 hf
  refine zr_callI_r C0 cv_X1_513 (m_X7_init C0.2.2.2.2.2.2.1 e5) (by decide) (by decide) rfl rfl (Nat.le_of_ble_eq_true rfl) dX1_load_5 rfl ?_
  refine zr_astore_n (i := 1) (lv' := [(1, .ref q1), (0, .ref p0)]) C0 dX1_load_8 rfl (by decide) (by first | rfl | simp [zst1, zst2, zcat_rf]) ?_
  refine zr_aload_n C0 dX1_load_9 rfl 0 rfl ?_
  obtain ⟨_, e7, hf⟩ := zbind hf
  obtain ⟨x10, h8, e9, hf⟩ := zbind2 hf
  rcases x10 with x11 | q12
  · have hf := zinl hf
    refine zr_callV_r C0 cv_X1_529_X7 rfl (zcko e7) (m_X7_read C0.2.2.2.2.2.2.1 e9) (by decide) (by decide) rfl rfl (Nat.le_of_ble_eq_true rfl) dX1_load_10 rfl ?_
    refine zr_goto C0 (tgt := 23) dX1_load_13 (by decide) ?_
    refine zr_aload_n C0 dX1_load_23 rfl 1 rfl ?_
    obtain ⟨x13, e14, hf⟩ := zbind hf
    refine zr_get C0 fl_X1_54_X1 dX1_load_24 (zgR e14) ?_
    obtain ⟨_, e15, hf⟩ := zbind hf
    obtain ⟨x18, h16, e17, hf⟩ := zbind2 hf
    refine zr_callV_r C0 cv_X1_522_J19 rfl (zcko e15) (m_J19_clear C0.2.2.2.2.2.2.1 e17) (by decide) (by decide) rfl rfl (Nat.le_of_ble_eq_true rfl) dX1_load_27 rfl ?_
    refine zr_aload_n C0 dX1_load_30 rfl 1 rfl ?_
    refine zr_aload_n C0 dX1_load_31 rfl 0 rfl ?_
    obtain ⟨x19, e20, hf⟩ := zbind hf
    refine zr_get C0 fl_X1_532_X7 dX1_load_32 (zgR e20) ?_
    obtain ⟨h21, e22, hf⟩ := zbind hf
    refine zr_put C0 pl_X1_30_X1 dX1_load_35 (fun h => by cases h) rfl rfl e22 ?_
    refine zr_aload_n C0 dX1_load_38 rfl 1 rfl ?_
    refine zr_aload_n C0 dX1_load_39 rfl 0 rfl ?_
    obtain ⟨x23, e24, hf⟩ := zbind hf
    refine zr_get C0 fl_X1_535_X7 dX1_load_40 (zgR e24) ?_
    obtain ⟨h25, e26, hf⟩ := zbind hf
    refine zr_put C0 pl_X1_39_X1 dX1_load_43 (fun h => by cases h) rfl rfl e26 ?_
    refine zr_iconst C0 (v := 0) dX1_load_46 (by decide) ?_
    refine zr_istore_n (i := 2) (lv' := [(2, .int (0 : Int32)), (1, .ref q1), (0, .ref p0)]) C0 dX1_load_47 rfl (by decide) (by first | rfl | simp [zst1, zst2, zcat_rf]) ?_
    refine zr_sub [2, 0] rfl ?_
    exact w_X1_load_l48 C0 ht _ _ _ _ hf
  · have hf := zinr hf
    rcases Decidable.em (q12.1 = 7) with c27 | c27
    · obtain ⟨q1, q2⟩ := q12
      subst c27
      have hf := zif_t rfl hf
      refine zr_callV_t C0 cv_X1_529_X7 rfl (zcko e7) (m_X7_read C0.2.2.2.2.2.2.1 e9) (by decide) (by decide) rfl rfl (Nat.le_of_ble_eq_true rfl) dX1_load_10 (zr_catch C0 (tableOf []) ⟨9, 13, 16, 498⟩ (tableOf []) (by rw [ht]; rfl) rfl (fun z hz => by cases hz) (by decide) (by decide) q1328 q1419 ?_)
      refine zr_sub [1] rfl ?_
      exact w_X1_load_b16 C0 ht hf
    have hf := zif_f c27 hf
    cases hf
def f_X1_load (E : zE) (p0 : Nat) (h : zH) : Option (Int32 × zH) := f_X1_load_b0 E p0 h
theorem m_X1_load {l : Launch} (hst : l.stackTraces = false) {D : zD} {B0 : Nat} {E : zE} {p0 : Nat} {h h' : zH} {r : Int32} (hf : f_X1_load E p0 h = some (r, h')) : zMet l yX1_load (wsW_ yX1_load cX1_load 3 (Option.some Jvm.ClassFile.FieldType.int) [((9 : Nat), (13 : Nat), (16 : Nat), (498 : Nat))]) 16 394 D B0 E [.ref p0] h (zoI r) h' := by
  unfold f_X1_load at hf
  refine zMet_ofH hst (by decide +kernel) rfl rfl (Nat.le_of_ble_eq_true rfl) (fun p e R s m below meth c C0 ht => ?_)
  show zW _ _ _ _ _ _ _ _ _ _ _ _ _ _ _ _ [(0, .ref p0)] []
  exact w_X1_load_b0 C0 ht hf
def f_X1_errorCode_b0 (E : zE) (p0 : Nat) (h : zH) : Option (Int32 × zH) :=
  (gI h p0 0 8).bind fun x1 =>
  some (x1, h)
theorem w_X1_errorCode_b0 (C0 : zCx p l e R s m args below meth c D B0 1 "FranchiseLedger" cX1_errorCode E 1 60 (Option.some Jvm.ClassFile.FieldType.int) "errorCode") {r : Int32} {h' : zH} {p0 : Nat} {h : zH} (hf : f_X1_errorCode_b0 E p0 h = some (r, h')) : zW p l e R s m args below meth c D B0 1 (zEnd D B0 R below args s (zoI r) h') h 0 [(0, .ref p0)] [] := by
  unfold f_X1_errorCode_b0 at hf
  refine zr_aload_n C0 dX1_errorCode_0 rfl 0 rfl ?_
  obtain ⟨x1, e2, hf⟩ := zbind hf
  refine zr_get C0 fl_X1_502_X1 dX1_errorCode_1 (zgI e2) ?_
  refine zretW hf ?_
  exact zr_iret C0 (ty := .int) rfl rfl dX1_errorCode_4 rfl
def f_X1_errorCode (E : zE) (p0 : Nat) (h : zH) : Option (Int32 × zH) := f_X1_errorCode_b0 E p0 h
theorem m_X1_errorCode {l : Launch} (hst : l.stackTraces = false) {D : zD} {B0 : Nat} {E : zE} {p0 : Nat} {h h' : zH} {r : Int32} (hf : f_X1_errorCode E p0 h = some (r, h')) : zMet l yX1_errorCode (ws_ yX1_errorCode cX1_errorCode 1 (Option.some Jvm.ClassFile.FieldType.int)) 1 60 D B0 E [.ref p0] h (zoI r) h' := by
  unfold f_X1_errorCode at hf
  refine zMet_of hst (by decide +kernel) rfl rfl (Nat.le_of_ble_eq_true rfl) (fun p e R s m below meth c C0 hno => ?_)
  show zW _ _ _ _ _ _ _ _ _ _ _ _ _ _ _ _ [(0, .ref p0)] []
  exact w_X1_errorCode_b0 C0 hf
def f_X1_errorPosition_b0 (E : zE) (p0 : Nat) (h : zH) : Option (Int32 × zH) :=
  (gI h p0 0 9).bind fun x1 =>
  some (x1, h)
theorem w_X1_errorPosition_b0 (C0 : zCx p l e R s m args below meth c D B0 1 "FranchiseLedger" cX1_errorPosition E 1 60 (Option.some Jvm.ClassFile.FieldType.int) "errorPosition") {r : Int32} {h' : zH} {p0 : Nat} {h : zH} (hf : f_X1_errorPosition_b0 E p0 h = some (r, h')) : zW p l e R s m args below meth c D B0 1 (zEnd D B0 R below args s (zoI r) h') h 0 [(0, .ref p0)] [] := by
  unfold f_X1_errorPosition_b0 at hf
  refine zr_aload_n C0 dX1_errorPosition_0 rfl 0 rfl ?_
  obtain ⟨x1, e2, hf⟩ := zbind hf
  refine zr_get C0 fl_X1_70_X1 dX1_errorPosition_1 (zgI e2) ?_
  refine zretW hf ?_
  exact zr_iret C0 (ty := .int) rfl rfl dX1_errorPosition_4 rfl
def f_X1_errorPosition (E : zE) (p0 : Nat) (h : zH) : Option (Int32 × zH) := f_X1_errorPosition_b0 E p0 h
theorem m_X1_errorPosition {l : Launch} (hst : l.stackTraces = false) {D : zD} {B0 : Nat} {E : zE} {p0 : Nat} {h h' : zH} {r : Int32} (hf : f_X1_errorPosition E p0 h = some (r, h')) : zMet l yX1_errorPosition (ws_ yX1_errorPosition cX1_errorPosition 1 (Option.some Jvm.ClassFile.FieldType.int)) 1 60 D B0 E [.ref p0] h (zoI r) h' := by
  unfold f_X1_errorPosition at hf
  refine zMet_of hst (by decide +kernel) rfl rfl (Nat.le_of_ble_eq_true rfl) (fun p e R s m below meth c C0 hno => ?_)
  show zW _ _ _ _ _ _ _ _ _ _ _ _ _ _ _ _ [(0, .ref p0)] []
  exact w_X1_errorPosition_b0 C0 hf
def f_X1_requireArguments_l7 (E : zE) : Nat → Nat → Int32 → Int32 → zH → Option ((Unit ⊕ (Nat × Nat)) × zH)
  | 0, _, _, _, _ => none
  | n + 1, p1, p2, p3, h =>
    if p2 ≤ p3 then (
      some (.inl (), h)
    ) else (
      (dI h p1 3 p3).bind fun x2 =>
      if x2 = 0 then (
        bnd2 (nO h 21 6 []) fun q5 h6 =>
        (ckt h6 q5 21).bind fun _ =>
        some (.inr (21, q5), h6)
      ) else (
        f_X1_requireArguments_l7 E n p1 p2 (p3 + 1) h
      )
    )
theorem w_X1_requireArguments_l7 (C0 : zCx p l e R s m args below meth c D B0 5 "FranchiseLedger" cX1_requireArguments E 9 130 (Option.none : Option Jvm.ClassFile.FieldType) "requireArguments") (hno : ∀ x ∈ c.exceptionTable.toList, False) {r : (Unit ⊕ (Nat × Nat))} {h' : zH} : ∀ (n : Nat) (p1 : Nat) (p2 : Int32) (p3 : Int32) (h : zH), f_X1_requireArguments_l7 E n p1 p2 p3 h = some (r, h') → zW p l e R s m args below meth c D B0 5 (zEnd D B0 R below args s (zoT zoV r) h') h 7 [(1, .ref p1), (2, .int p2), (3, .int p3)] [] := by
  intro n
  induction n with
  | zero =>
    intro p1 p2 p3 h hf
    unfold f_X1_requireArguments_l7 at hf
    cases hf
  | succ n ih =>
    intro p1 p2 p3 h hf
    unfold f_X1_requireArguments_l7 at hf
    refine zr_iload_n C0 dX1_requireArguments_7 rfl 2 rfl ?_
    refine zr_iload_n C0 dX1_requireArguments_8 rfl 1 rfl ?_
    refine zr_icmp_ge C0 (tgt := 36) dX1_requireArguments_9 (by decide) (fun c1 => ?_) (fun c1 => ?_)
    · have hf := zif_t c1 hf
      refine zretW hf ?_
      exact zr_vret C0 rfl dX1_requireArguments_36 rfl
    · have hf := zif_f c1 hf
      refine zr_aload_n C0 dX1_requireArguments_12 rfl 0 rfl ?_
      refine zr_iload_n C0 dX1_requireArguments_13 rfl 2 rfl ?_
      obtain ⟨x2, e3, hf⟩ := zbind hf
      refine zr_zald C0 dX1_requireArguments_14 e3 ?_
      refine zr_istore (i := 4) (lv' := [(4, .int x2), (1, .ref p1), (2, .int p2), (3, .int p3)]) C0 dX1_requireArguments_15 (by decide) (by first | rfl | simp [zst1, zst2, zcat_rf]) ?_
      refine zr_iload C0 dX1_requireArguments_17 0 rfl ?_
      refine zr_if_ne C0 (tgt := 30) dX1_requireArguments_19 (by decide) (fun c4 => ?_) (fun c4 => ?_)
      · have hf := zif_f c4 hf
        refine zr_iinc (lv' := [(3, .int (p3 + 1)), (4, .int x2), (1, .ref p1), (2, .int p2)]) C0 dX1_requireArguments_30 3 rfl rfl (by decide) (by first | rfl | simp [zst1, zst2, zcat_rf]) ?_
        refine zr_goto C0 (tgt := 7) dX1_requireArguments_33 (by decide) ?_
        refine zr_sub [2, 3, 0] rfl ?_
        exact ih _ _ _ _ hf
      · have hf := zif_t c4 hf
        obtain ⟨q5, h6, e7, hf⟩ := zbind2 hf
        refine zr_exc C0 ex_X1_9_11 (by decide) (by decide) dX1_requireArguments_22 dX1_requireArguments_25 dX1_requireArguments_26 (Nat.le_of_ble_eq_true rfl) e7 ?_
        obtain ⟨_, e8, hf⟩ := zbind hf
        refine zretW hf ?_
        exact zr_athrow C0 dX1_requireArguments_29 (zckt e8) (zr_out C0 hno rfl)
def f_X1_requireArguments_b0 (E : zE) (p0 : Nat) (h : zH) : Option ((Unit ⊕ (Nat × Nat)) × zH) :=
  (lenA h p0).bind fun x1 =>
  f_X1_requireArguments_l7 E E.1 p0 x1 (0 : Int32) h
theorem w_X1_requireArguments_b0 (C0 : zCx p l e R s m args below meth c D B0 5 "FranchiseLedger" cX1_requireArguments E 9 130 (Option.none : Option Jvm.ClassFile.FieldType) "requireArguments") (hno : ∀ x ∈ c.exceptionTable.toList, False) {r : (Unit ⊕ (Nat × Nat))} {h' : zH} {p0 : Nat} {h : zH} (hf : f_X1_requireArguments_b0 E p0 h = some (r, h')) : zW p l e R s m args below meth c D B0 5 (zEnd D B0 R below args s (zoT zoV r) h') h 0 [(0, .ref p0)] [] := by
  unfold f_X1_requireArguments_b0 at hf
  refine zr_aload_n C0 dX1_requireArguments_0 rfl 0 rfl ?_
  refine zr_astore_n (i := 1) (lv' := [(1, .ref p0), (0, .ref p0)]) C0 dX1_requireArguments_1 rfl (by decide) (by first | rfl | simp [zst1, zst2, zcat_rf]) ?_
  refine zr_aload_n C0 dX1_requireArguments_2 rfl 0 rfl ?_
  obtain ⟨x1, e2, hf⟩ := zbind hf
  refine zr_alen C0 dX1_requireArguments_3 e2 ?_
  refine zr_istore_n (i := 2) (lv' := [(2, .int x1), (1, .ref p0), (0, .ref p0)]) C0 dX1_requireArguments_4 rfl (by decide) (by first | rfl | simp [zst1, zst2, zcat_rf]) ?_
  refine zr_iconst C0 (v := 0) dX1_requireArguments_5 (by decide) ?_
  refine zr_istore_n (i := 3) (lv' := [(3, .int (0 : Int32)), (2, .int x1), (1, .ref p0), (0, .ref p0)]) C0 dX1_requireArguments_6 rfl (by decide) (by first | rfl | simp [zst1, zst2, zcat_rf]) ?_
  refine zr_sub [2, 1, 0] rfl ?_
  exact w_X1_requireArguments_l7 C0 hno _ _ _ _ _ hf
def f_X1_requireArguments (E : zE) (p0 : Nat) (h : zH) : Option ((Unit ⊕ (Nat × Nat)) × zH) := f_X1_requireArguments_b0 E p0 h
theorem m_X1_requireArguments {l : Launch} (hst : l.stackTraces = false) {D : zD} {B0 : Nat} {E : zE} {p0 : Nat} {h h' : zH} {r : (Unit ⊕ (Nat × Nat))} (hf : f_X1_requireArguments E p0 h = some (r, h')) : zMet l yX1_requireArguments (ws_ yX1_requireArguments cX1_requireArguments 5 (Option.none : Option Jvm.ClassFile.FieldType)) 9 130 D B0 E [.ref p0] h (zoT zoV r) h' := by
  unfold f_X1_requireArguments at hf
  refine zMet_of hst (by decide +kernel) rfl rfl (Nat.le_of_ble_eq_true rfl) (fun p e R s m below meth c C0 hno => ?_)
  show zW _ _ _ _ _ _ _ _ _ _ _ _ _ _ _ _ [(0, .ref p0)] []
  exact w_X1_requireArguments_b0 C0 hno hf
end
